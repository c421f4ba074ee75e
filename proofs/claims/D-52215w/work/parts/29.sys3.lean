/-! CONTRACTS of Kind.values, of StarConsole: dimmer, star. Printed by gen/p29.py -/
set_option maxRecDepth 100000
/-- a star added -/
theorem XRep.addS {E : EnvT} {G G' : Gh} {x q et : Nat} {B : XA} {σ : Sy} {k : Sm} (h : XRep E G x B σ) (hF : Fr (fun t => t = (3, 3, 0) ∨ t = (3, 4, 0)) G G') (hq : G' q = some ((3, 6, σ.2.2.1), sOt k)) (hL : LRep E G' (3, 3, 0) (3, 4, 0) B.2.2.1 et (σ.2.2.1 + 1) (va_up B.2.2.2 σ.2.2.1 q)) :
    XRep E G' x (B.1, B.2.1, (B.2.2.1, va_up B.2.2.2 σ.2.2.1 q)) (σ.1, σ.2.1, (σ.2.2.1 + 1, va_up σ.2.2.2 σ.2.2.1 k)) := by
  obtain ⟨h1, h2, ⟨eu, h3, h3'⟩, ⟨et0, h4⟩, h5⟩ := h
  refine ⟨hF _ _ _ (by simp) h1, h2.fr hF (fun t z => by rcases z with z | z <;> rw [z] <;> decide), ⟨eu, h3.fr hF (by simp) (by simp), fun j hj => hF _ _ _ (by simp) (h3' j hj)⟩, ⟨et, hL⟩, fun j hj => ?_⟩
  show G' (va_up B.2.2.2 σ.2.2.1 q j) = some ((3, 6, j), sOt (va_up σ.2.2.2 σ.2.2.1 k j))
  by_cases z : j = σ.2.2.1
  · subst z
    rw [va_up_self, va_up_self]
    exact hq
  · rw [va_up_ne _ _ z, va_up_ne _ _ z]
    exact hF _ _ _ (by simp) (h5 j (by have hj : j < σ.2.2.1 + 1 := hj; omega))
theorem XRep.addU {E : EnvT} {G G' : Gh} {x q eu : Nat} {B : XA} {σ : Sy} {k : Um} (h : XRep E G x B σ) (hF : Fr (fun t => t = (3, 1, 0) ∨ t = (3, 2, 0)) G G') (hq : G' q = some ((3, 5, σ.2.1.1), uOt E k)) (hL : LRep E G' (3, 1, 0) (3, 2, 0) B.2.1.1 eu (σ.2.1.1 + 1) (va_up B.2.1.2 σ.2.1.1 q)) :
    XRep E G' x (B.1, (B.2.1.1, va_up B.2.1.2 σ.2.1.1 q), B.2.2) (σ.1, (σ.2.1.1 + 1, va_up σ.2.1.2 σ.2.1.1 k), σ.2.2) := by
  obtain ⟨h1, h2, ⟨eu0, h3, h3'⟩, ⟨et, h4⟩, h5⟩ := h
  refine ⟨hF _ _ _ (by simp) h1, h2.fr hF (fun t z => by rcases z with z | z <;> rw [z] <;> decide), ⟨eu, hL, fun j hj => ?_⟩, ⟨et, h4.fr hF (by simp) (by simp)⟩, fun j hj => hF _ _ _ (by simp) (h5 j hj)⟩
  show G' (va_up B.2.1.2 σ.2.1.1 q j) = some ((3, 5, j), uOt E (va_up σ.2.1.2 σ.2.1.1 k j))
  by_cases z : j = σ.2.1.1
  · subst z
    rw [va_up_self, va_up_self]
    exact hq
  · rw [va_up_ne _ _ z, va_up_ne _ _ z]
    exact hF _ _ _ (by simp) (h3' j (by have hj : j < σ.2.1.1 + 1 := hj; omega))
theorem XRep.new {E : EnvT} {G : Gh} {x q : Nat} {B : XA} {σ : Sy} {y : Tg × va_E} (h : XRep E G x B σ) (hq : G q = none) : XRep E (gU G q y) x B σ := h.fr (P := fun _ => False) (Fr.new hq) (fun _ z => z.elim)
set_option maxHeartbeats 4000000 in
set_option maxRecDepth 100000 in
theorem m_values (l : Launch) (E : EnvT) (G : Gh) (tg : Tg) : Met l yX6_values (ws_ yX6_values cX6_values 0 (some (.array (.object "StarConsole$Kind")))) ({ frames := 1, cells := 1, slots := 5, locals := 14 } : Room) (cP E G []) (cR E (fun q G' => G q = none ∧ G' = gU G q (tg, .inl (eC E 4, arrK E)))) 1 5 (eA E) := by
  refine g_met (rm := ({ frames := 1, cells := 1, slots := 5, locals := 14 } : Room)) (av := []) (lv := []) (by decide) (Nat.le_of_ble_eq_true rfl) rfl ?_
  intro p e s m below meth c ls hx hb hr hlk hml hin hts hown hE hI hL hS hl
  refine g_gets (C := "StarConsole$Kind") hx hb hts hE.St.2.2.2.2.1 hL hS hown q600 (fun _ h9 => h9) dX6_values_0 ?_
  refine g_cloneK tg hx hb (hml.trans hl.1.symm) hts hown q602 q603 q604 q605 q606 q607 hE hI hS hL (Nat.le_of_ble_eq_true rfl) (Nat.le_of_ble_eq_true rfl) (Nat.le_of_ble_eq_true rfl) (Nat.le_of_ble_eq_true rfl) dX6_values_3 (fun q H hnq hI hS => ?_)
  refine g_castK hx hb hts hown q609 hE hI gU_self dX6_values_6 ?_
  exact g_aret hx hb hr (Or.inr ⟨_, rfl⟩) hlk hI hS dX6_values_9 (Nat.le_of_ble_eq_true rfl) (Nat.le_of_ble_eq_true rfl) (⟨hnq, rfl⟩)
set_option maxHeartbeats 4000000 in
set_option maxRecDepth 100000 in
theorem m_Xdimmer (l : Launch) (E : EnvT) (G : Gh) (hst : l.stackTraces = false) (x : Nat) (B : XA) (σ : Sy) (hXR : XRep E G x B σ) (p0 p1 p2 : Int32) : vx_Met l yX1_dimmer (ws_ yX1_dimmer cX1_dimmer 4 (some .int)) ({ frames := 8, cells := 6, slots := 65, locals := 171 } : Room) (cP E G [.ref x, .int p0, .int p1, .int p2]) (cI E (fun r G' => dimR σ.1.2.1.1 p0 p1 p2 = 0 ∧ r = nI σ.1.2.1.1 ∧ ∃ B', XRep E G' x B' (dimS σ p0 p1 p2) ∧ Fr Sys G G')) (cX E (fun X G' => ((X = xIAE ∧ dimR σ.1.2.1.1 p0 p1 p2 = 1) ∨ (X = xISE ∧ dimR σ.1.2.1.1 p0 p1 p2 = 2)) ∧ G' = G)) 6 65 (eA E) := by
  obtain ⟨⟨con, ld, lc, dA, kA⟩, ⟨lu, uA⟩, ⟨lt, sA⟩⟩ := B
  obtain ⟨⟨⟨tk, ck, rn, an, sp, ln, lf⟩, ⟨nd, dm⟩, ⟨nc, km⟩⟩, ⟨nu, uq⟩, ⟨ns, st⟩⟩ := σ
  refine g_xmet (rm := ({ frames := 8, cells := 6, slots := 65, locals := 171 } : Room)) (av := [.ref x, .int p0, .int p1, .int p2]) (lv := [(0, .ref x), (1, .int p0), (2, .int p1), (3, .int p2)]) (by decide) (Nat.le_of_ble_eq_true rfl) rfl ?_
  intro p e s m below meth c ls hx hb hr hlk hml hno hts hown hE hI hL hS hl
  have hXR0 := hXR
  obtain ⟨hX0, hR, ⟨eu, hU⟩, ⟨et, hlt0⟩, hst0⟩ := hXR0
  have hX0 : G x = some ((3, 0, 0), xO lu lt con) := hX0
  have hR : CRep E G 1 (con, ld, lc, dA, kA) ((tk, ck, rn, an, sp, ln, lf), (nd, dm), (nc, km)) := hR
  have hU : URep E G 3 lu eu nu uA uq := hU
  have hlt0 : LRep E G (3, 3, 0) (3, 4, 0) lt et ns sA := hlt0
  have hst0 : ∀ k, k < ns → G (sA k) = some ((3, 6, k), sOt (st k)) := hst0
  have hR0 := hR
  obtain ⟨hcon, ⟨ed, hld⟩, ⟨ec, hlc⟩, hd, hk⟩ := hR0
  have hcon : G con = some ((1, 0, 0), coO tk ck rn an sp ln lf ld lc) := hcon
  have hld : LRep E G (1, 1, 0) (1, 2, 0) ld ed nd dA := hld
  have hlc : LRep E G (1, 3, 0) (1, 4, 0) lc ec nc kA := hlc
  have hd : ∀ k, k < nd → G (dA k) = some ((1, 5, k), dOt (dm k)) := hd
  have hk : ∀ k, k < nc → G (kA k) = some ((1, 6, k), kOt (km k)) := hk
  have hn1 : nd ≤ 36 := hld.n36
  have hn2 : nc ≤ 36 := hlc.n36
  have hn3 : nu ≤ 36 := hU.1.n36
  have hn4 : ns ≤ 36 := hlt0.n36
  refine lv_iconst (v := 0) hx hb dX1_dimmer_0 (by decide) ?_
  refine lv_bipush (v := 11) hx hb dX1_dimmer_1 (by decide) ?_
  refine lv_iload_n hx hb dX1_dimmer_3 rfl (lv_at hl 1 rfl) ?_
  refine g_xv hS (vx_runS (As := [.int 0, .int 11, .int p0]) (rest := []) ⟨hx, hb, hml, hown, hts⟩ (m_requireFrom l E G hst 0 11 p0) (va_cwS 3 hts (lw_S q301 q302 q31 q303) rfl rfl rfl (by decide +kernel) ⟨Nat.le_of_ble_eq_true rfl, Nat.le_of_ble_eq_true rfl⟩) (g_preS hE hI) rfl rfl hl.1 rfl (lv_room (Nat.le_of_ble_eq_true rfl)) dX1_dimmer_4 ⟨Nat.le_of_ble_eq_true rfl, Nat.le_of_ble_eq_true rfl⟩) (fun X ce q9 G1 H locs hp hI hS k1 k2 k3 => ?_) (fun G1 H locs hp hI hS => ?_)
  · obtain ⟨rfl, h1, hG1⟩ := hp
    exact g_xout hno hlk hI hS k1 k2 k3 (Nat.le_of_ble_eq_true rfl) (Nat.le_of_ble_eq_true rfl) (⟨Or.inl ⟨rfl, if_pos h1⟩, hG1⟩)
  · obtain ⟨h1, hG1⟩ := hp
    rw [hG1] at hI
    refine lv_iconst (v := 1) hx hb dX1_dimmer_7 (by decide) ?_
    refine lv_bipush (v := 50) hx hb dX1_dimmer_8 (by decide) ?_
    refine lv_iload_n hx hb dX1_dimmer_10 rfl (lv_at hl 2 rfl) ?_
    refine g_xv hS (vx_runS (As := [.int 1, .int 50, .int p1]) (rest := []) ⟨hx, hb, hml, hown, hts⟩ (m_requireFrom l E G hst 1 50 p1) (va_cwS 3 hts (lw_S q301 q302 q31 q303) rfl rfl rfl (by decide +kernel) ⟨Nat.le_of_ble_eq_true rfl, Nat.le_of_ble_eq_true rfl⟩) (g_preS hE hI) rfl rfl hl.1 rfl (lv_room (Nat.le_of_ble_eq_true rfl)) dX1_dimmer_11 ⟨Nat.le_of_ble_eq_true rfl, Nat.le_of_ble_eq_true rfl⟩) (fun X ce q9 G1 H locs hp hI hS k1 k2 k3 => ?_) (fun G1 H locs hp hI hS => ?_)
    · obtain ⟨rfl, h2, hG1⟩ := hp
      exact g_xout hno hlk hI hS k1 k2 k3 (Nat.le_of_ble_eq_true rfl) (Nat.le_of_ble_eq_true rfl) (⟨Or.inl ⟨rfl, (if_neg h1).trans (if_pos h2)⟩, hG1⟩)
    · obtain ⟨h2, hG1⟩ := hp
      rw [hG1] at hI
      refine lv_iconst (v := 0) hx hb dX1_dimmer_14 (by decide) ?_
      refine lv_sipush (v := 9999) hx hb dX1_dimmer_15 (by decide) ?_
      refine lv_iload_n hx hb dX1_dimmer_18 rfl (lv_at hl 3 rfl) ?_
      refine g_xv hS (vx_runS (As := [.int 0, .int 9999, .int p2]) (rest := []) ⟨hx, hb, hml, hown, hts⟩ (m_requireFrom l E G hst 0 9999 p2) (va_cwS 3 hts (lw_S q301 q302 q31 q303) rfl rfl rfl (by decide +kernel) ⟨Nat.le_of_ble_eq_true rfl, Nat.le_of_ble_eq_true rfl⟩) (g_preS hE hI) rfl rfl hl.1 rfl (lv_room (Nat.le_of_ble_eq_true rfl)) dX1_dimmer_19 ⟨Nat.le_of_ble_eq_true rfl, Nat.le_of_ble_eq_true rfl⟩) (fun X ce q9 G1 H locs hp hI hS k1 k2 k3 => ?_) (fun G1 H locs hp hI hS => ?_)
      · obtain ⟨rfl, h3, hG1⟩ := hp
        exact g_xout hno hlk hI hS k1 k2 k3 (Nat.le_of_ble_eq_true rfl) (Nat.le_of_ble_eq_true rfl) (⟨Or.inl ⟨rfl, (if_neg h1).trans ((if_neg h2).trans (if_pos h3))⟩, hG1⟩)
      · obtain ⟨h3, hG1⟩ := hp
        rw [hG1] at hI
        refine lv_aload_n hx hb dX1_dimmer_22 rfl (lv_at hl 0 rfl) ?_
        refine g_get (C := RX1) (T := TX1) (N := 3) (v := .ref con) hx hb hts in_X1 hown hE hI hX0 rfl 2 (by decide) q145 (fun _ h9 => h9) rfl dX1_dimmer_23 ?_
        refine g_getN (C := RX2) (T := TX2) (N := 9) (v := .ref ld) hx hb hts in_X2 hown hE hI hcon rfl 7 (by decide) q120 (fun _ h9 => h9) rfl dX1_dimmer_26 ?_
        refine g_ci0 (G := G) (v := nI nd) hS (va_runV (As := []) (rest := []) ⟨hx, hb, hml, hown, hts⟩ (m_size l E G (1, 1, 0) (1, 2, 0) ld ed nd dA hld) (cwV 0 hts (lw_V q161 q162 q163 q34 q164) rfl rfl rfl (by decide +kernel) ⟨Nat.le_of_ble_eq_true rfl, Nat.le_of_ble_eq_true rfl⟩) (g_preV hE hI (hld.recv hE hI)) rfl rfl hl.1 rfl (lv_room (Nat.le_of_ble_eq_true rfl)) dX1_dimmer_29 ⟨Nat.le_of_ble_eq_true rfl, Nat.le_of_ble_eq_true rfl⟩) (fun H locs hI hS => ?_)
        refine lv_bipush (v := 8) hx hb dX1_dimmer_32 (by decide) ?_
        refine lv_icmp_ge (tgt := 41) hx hb dX1_dimmer_34 (by decide) (fun c1 => ?_) (fun c1 => ?_)
        · have hge : ¬ nd < 8 := fun z => absurd c1 (nI_ge (b := 8) z (by omega))
          refine lv_iconst (v := 0) hx hb dX1_dimmer_41 (by decide) ?_
          refine g_xv hS (vx_runS (As := [.int 0]) (rest := []) ⟨hx, hb, hml, hown, hts⟩ (m_requireState l E G hst 0) (va_cwS 1 hts (lw_S q375 q376 q31 q377) rfl rfl rfl (by decide +kernel) ⟨Nat.le_of_ble_eq_true rfl, Nat.le_of_ble_eq_true rfl⟩) (g_preS hE hI) rfl rfl hl.1 rfl (lv_room (Nat.le_of_ble_eq_true rfl)) dX1_dimmer_42 ⟨Nat.le_of_ble_eq_true rfl, Nat.le_of_ble_eq_true rfl⟩) (fun X ce q9 G1 H locs hp hI hS k1 k2 k3 => ?_) (fun G1 H locs hp hI hS => ?_)
          · obtain ⟨rfl, -, hG1⟩ := hp
            exact g_xout hno hlk hI hS k1 k2 k3 (Nat.le_of_ble_eq_true rfl) (Nat.le_of_ble_eq_true rfl) (⟨Or.inr ⟨rfl, (if_neg h1).trans ((if_neg h2).trans ((if_neg h3).trans (if_neg hge)))⟩, hG1⟩)
          · exact absurd rfl hp.1
        · have hlt : nd < 8 := Nat.lt_of_not_le (fun z => c1 (nI_le (a := 8) z (by omega)))
          refine lv_iconst (v := 1) hx hb dX1_dimmer_37 (by decide) ?_
          refine lv_goto (tgt := 42) hx hb dX1_dimmer_38 (by decide) ?_
          refine g_xv hS (vx_runS (As := [.int 1]) (rest := []) ⟨hx, hb, hml, hown, hts⟩ (m_requireState l E G hst 1) (va_cwS 1 hts (lw_S q375 q376 q31 q377) rfl rfl rfl (by decide +kernel) ⟨Nat.le_of_ble_eq_true rfl, Nat.le_of_ble_eq_true rfl⟩) (g_preS hE hI) rfl rfl hl.1 rfl (lv_room (Nat.le_of_ble_eq_true rfl)) dX1_dimmer_42 ⟨Nat.le_of_ble_eq_true rfl, Nat.le_of_ble_eq_true rfl⟩) (fun X ce q9 G1 H locs hp hI hS k1 k2 k3 => ?_) (fun G1 H locs hp hI hS => ?_)
          · exact absurd hp.2.1 (by decide)
          · have hG1 := hp.2
            rw [hG1] at hI
            refine lv_aload_n hx hb dX1_dimmer_45 rfl (lv_at hl 0 rfl) ?_
            refine g_get (C := RX1) (T := TX1) (N := 3) (v := .ref con) hx hb hts in_X1 hown hE hI hX0 rfl 2 (by decide) q145 (fun _ h9 => h9) rfl dX1_dimmer_46 ?_
            refine g_getN (C := RX2) (T := TX2) (N := 9) (v := .ref ld) hx hb hts in_X2 hown hE hI hcon rfl 7 (by decide) q120 (fun _ h9 => h9) rfl dX1_dimmer_49 ?_
            refine g_new (C := RX4) (T := TX4) (N := 5) (ci := 2) (fs := [.int 0, .int 0, .int 0, .int 0, .int 0]) (1, 5, nd) hx hb hts in_X4 tyX4 tyX4_ok hown q255 q393 q42 hE hI hS hL rfl (fun j hj => by rcases (show j = 0 ∨ j = 1 ∨ j = 2 ∨ j = 3 ∨ j = 4 by omega) with rfl | rfl | rfl | rfl | rfl <;> rfl) (Nat.le_of_ble_eq_true rfl) (Nat.le_of_ble_eq_true rfl) dX1_dimmer_52 (fun q H hnq hI hS => ?_)
            have h_q : (gU G q ((1, 5, nd), .inr (2, [.int 0, .int 0, .int 0, .int 0, .int 0]))) q = some ((1, 5, nd), .inr (2, [.int 0, .int 0, .int 0, .int 0, .int 0])) := gU_self
            refine lv_dup hx hb dX1_dimmer_55 rfl ?_
            refine lv_iload_n hx hb dX1_dimmer_56 rfl (lv_at hl 1 rfl) ?_
            refine lv_iload_n hx hb dX1_dimmer_57 rfl (lv_at hl 2 rfl) ?_
            refine lv_iload_n hx hb dX1_dimmer_58 rfl (lv_at hl 3 rfl) ?_
            refine g_cv0 hS (va_runI (As := [.int p0, .int p1, .int p2]) (rest := [.ref q, .ref ld]) ⟨hx, hb, hml, hown, hts⟩ (m_Dinit l E (gU G q ((1, 5, nd), .inr (2, [.int 0, .int 0, .int 0, .int 0, .int 0]))) q (1, 5, nd) p0 p1 p2 h_q) (cwI 3 hts (lw_meth q396) rfl rfl rfl (hts _ q42) (hts _ q394) (hts _ q395) rfl (by decide +kernel) ⟨Nat.le_of_ble_eq_true rfl, Nat.le_of_ble_eq_true rfl⟩) (g_preS hE hI) rfl rfl hl.1 rfl (lv_room (Nat.le_of_ble_eq_true rfl)) dX1_dimmer_59 ⟨Nat.le_of_ble_eq_true rfl, Nat.le_of_ble_eq_true rfl⟩) (fun H locs hI hS => ?_)
            rw [gU_gU] at hI
            have hFn : ∀ P, Fr P G (gU G q ((1, 5, nd), dO p0 p1 0 0 p2)) := fun P => Fr.new hnq
            have hq : gU G q ((1, 5, nd), dO p0 p1 0 0 p2) q = some ((1, 5, nd), dO p0 p1 0 0 p2) := gU_self
            have hl3 := hld.fr (hFn (fun _ => False)) id id
            refine g_ci hS (va_runV (As := [.ref q]) (rest := []) ⟨hx, hb, hml, hown, hts⟩ (m_add l E (gU G q ((1, 5, nd), dO p0 p1 0 0 p2)) (1, 1, 0) (1, 2, 0) ld ed nd dA hl3 q 2 (1, 5, nd) _ (RX4, TX4, 5) (by simp) (by simp) (by simp) hq rfl (by omega) (fun k hk => ⟨(1, 5, k), _, by simp, hFn (fun _ => False) _ _ _ id (hd k hk)⟩)) (cwV 1 hts (lw_V q420 q421 q422 q34 q423) rfl rfl rfl (by decide +kernel) ⟨Nat.le_of_ble_eq_true rfl, Nat.le_of_ble_eq_true rfl⟩) (g_preV hE hI (hl3.recv hE hI)) rfl rfl hl.1 rfl (lv_room (Nat.le_of_ble_eq_true rfl)) dX1_dimmer_62 ⟨Nat.le_of_ble_eq_true rfl, Nat.le_of_ble_eq_true rfl⟩) (fun r G2 H locs hp hI hS => ?_)
            obtain ⟨rfl, el', hL1, hF4⟩ := hp
            have hC9 := (hR.fr (hFn (fun _ => False)) (fun _ z => z.elim)).addD (k := (p0, p1, 0, 0, p2)) hF4 (hF4 _ _ _ (by simp) hq) hL1
            have hX9 := (hXR.new (y := ((1, 5, nd), dO p0 p1 0 0 p2)) hnq).con (hF4.mono (fun t z => by rcases z with z | z <;> rw [z])) hC9 rfl
            have hX1 : G2 x = some ((3, 0, 0), xO lu lt con) := hX9.1
            have hc1 : G2 con = some ((1, 0, 0), coO tk ck rn an sp ln lf ld lc) := hX9.2.1.1
            refine lv_pop hx hb dX1_dimmer_65 rfl ?_
            refine lv_aload_n hx hb dX1_dimmer_66 rfl (lv_at hl 0 rfl) ?_
            refine g_get (C := RX1) (T := TX1) (N := 3) (v := .ref con) hx hb hts in_X1 hown hE hI hX1 rfl 2 (by decide) q145 (fun _ h9 => h9) rfl dX1_dimmer_67 ?_
            refine g_getN (C := RX2) (T := TX2) (N := 9) (v := .ref ld) hx hb hts in_X2 hown hE hI hc1 rfl 7 (by decide) q120 (fun _ h9 => h9) rfl dX1_dimmer_70 ?_
            refine g_ci0 (G := G2) (v := nI (nd + 1)) hS (va_runV (As := []) (rest := []) ⟨hx, hb, hml, hown, hts⟩ (m_size l E G2 (1, 1, 0) (1, 2, 0) ld el' (nd + 1) (va_up dA nd q) hL1) (cwV 0 hts (lw_V q161 q162 q163 q34 q164) rfl rfl rfl (by decide +kernel) ⟨Nat.le_of_ble_eq_true rfl, Nat.le_of_ble_eq_true rfl⟩) (g_preV hE hI (hL1.recv hE hI)) rfl rfl hl.1 rfl (lv_room (Nat.le_of_ble_eq_true rfl)) dX1_dimmer_73 ⟨Nat.le_of_ble_eq_true rfl, Nat.le_of_ble_eq_true rfl⟩) (fun H locs hI hS => ?_)
            refine lv_iconst (v := 1) hx hb dX1_dimmer_76 (by decide) ?_
            refine lv_isub hx hb dX1_dimmer_77 ?_
            refine vx_ret ?_
            exact g_iret hx hb hr hlk hI hS dX1_dimmer_78 (Nat.le_of_ble_eq_true rfl) (Nat.le_of_ble_eq_true rfl) (⟨(if_neg h1).trans ((if_neg h2).trans ((if_neg h3).trans (if_pos hlt))), nI_pred nd, _, hX9, Fr.trans (hFn _) (hF4.mono (fun t z => by rcases z with z | z <;> rw [z] <;> decide))⟩)
set_option maxHeartbeats 4000000 in
set_option maxRecDepth 100000 in
theorem m_Xstar (l : Launch) (E : EnvT) (G : Gh) (hst : l.stackTraces = false) (x : Nat) (B : XA) (σ : Sy) (hXR : XRep E G x B σ) (p0 p1 : Int32) : vx_Met l yX1_star (ws_ yX1_star cX1_star 3 (some .int)) ({ frames := 8, cells := 5, slots := 56, locals := 171 } : Room) (cP E G [.ref x, .int p0, .int p1]) (cI E (fun r G' => staR σ.2.2.1 p0 p1 = 0 ∧ r = nI σ.2.2.1 ∧ ∃ B', XRep E G' x B' (staS σ p0 p1) ∧ Fr Sys G G')) (cX E (fun X G' => ((X = xIAE ∧ staR σ.2.2.1 p0 p1 = 1) ∨ (X = xISE ∧ staR σ.2.2.1 p0 p1 = 2)) ∧ G' = G)) 5 56 (eA E) := by
  obtain ⟨⟨con, ld, lc, dA, kA⟩, ⟨lu, uA⟩, ⟨lt, sA⟩⟩ := B
  obtain ⟨⟨⟨tk, ck, rn, an, sp, ln, lf⟩, ⟨nd, dm⟩, ⟨nc, km⟩⟩, ⟨nu, uq⟩, ⟨ns, st⟩⟩ := σ
  refine g_xmet (rm := ({ frames := 8, cells := 5, slots := 56, locals := 171 } : Room)) (av := [.ref x, .int p0, .int p1]) (lv := [(0, .ref x), (1, .int p0), (2, .int p1)]) (by decide) (Nat.le_of_ble_eq_true rfl) rfl ?_
  intro p e s m below meth c ls hx hb hr hlk hml hno hts hown hE hI hL hS hl
  have hXR0 := hXR
  obtain ⟨hX0, hR, ⟨eu, hU⟩, ⟨et, hlt0⟩, hst0⟩ := hXR0
  have hX0 : G x = some ((3, 0, 0), xO lu lt con) := hX0
  have hR : CRep E G 1 (con, ld, lc, dA, kA) ((tk, ck, rn, an, sp, ln, lf), (nd, dm), (nc, km)) := hR
  have hU : URep E G 3 lu eu nu uA uq := hU
  have hlt0 : LRep E G (3, 3, 0) (3, 4, 0) lt et ns sA := hlt0
  have hst0 : ∀ k, k < ns → G (sA k) = some ((3, 6, k), sOt (st k)) := hst0
  have hR0 := hR
  obtain ⟨hcon, ⟨ed, hld⟩, ⟨ec, hlc⟩, hd, hk⟩ := hR0
  have hcon : G con = some ((1, 0, 0), coO tk ck rn an sp ln lf ld lc) := hcon
  have hld : LRep E G (1, 1, 0) (1, 2, 0) ld ed nd dA := hld
  have hlc : LRep E G (1, 3, 0) (1, 4, 0) lc ec nc kA := hlc
  have hd : ∀ k, k < nd → G (dA k) = some ((1, 5, k), dOt (dm k)) := hd
  have hk : ∀ k, k < nc → G (kA k) = some ((1, 6, k), kOt (km k)) := hk
  have hn1 : nd ≤ 36 := hld.n36
  have hn2 : nc ≤ 36 := hlc.n36
  have hn3 : nu ≤ 36 := hU.1.n36
  have hn4 : ns ≤ 36 := hlt0.n36
  refine lv_iconst (v := 0) hx hb dX1_star_0 (by decide) ?_
  refine lv_sipush (v := 359) hx hb dX1_star_1 (by decide) ?_
  refine lv_iload_n hx hb dX1_star_4 rfl (lv_at hl 1 rfl) ?_
  refine g_xv hS (vx_runS (As := [.int 0, .int 359, .int p0]) (rest := []) ⟨hx, hb, hml, hown, hts⟩ (m_requireFrom l E G hst 0 359 p0) (va_cwS 3 hts (lw_S q301 q302 q31 q303) rfl rfl rfl (by decide +kernel) ⟨Nat.le_of_ble_eq_true rfl, Nat.le_of_ble_eq_true rfl⟩) (g_preS hE hI) rfl rfl hl.1 rfl (lv_room (Nat.le_of_ble_eq_true rfl)) dX1_star_5 ⟨Nat.le_of_ble_eq_true rfl, Nat.le_of_ble_eq_true rfl⟩) (fun X ce q9 G1 H locs hp hI hS k1 k2 k3 => ?_) (fun G1 H locs hp hI hS => ?_)
  · obtain ⟨rfl, h1, hG1⟩ := hp
    exact g_xout hno hlk hI hS k1 k2 k3 (Nat.le_of_ble_eq_true rfl) (Nat.le_of_ble_eq_true rfl) (⟨Or.inl ⟨rfl, if_pos h1⟩, hG1⟩)
  · obtain ⟨h1, hG1⟩ := hp
    rw [hG1] at hI
    refine lv_iconst (v := 1) hx hb dX1_star_8 (by decide) ?_
    refine lv_bipush (v := 9) hx hb dX1_star_9 (by decide) ?_
    refine lv_iload_n hx hb dX1_star_11 rfl (lv_at hl 2 rfl) ?_
    refine g_xv hS (vx_runS (As := [.int 1, .int 9, .int p1]) (rest := []) ⟨hx, hb, hml, hown, hts⟩ (m_requireFrom l E G hst 1 9 p1) (va_cwS 3 hts (lw_S q301 q302 q31 q303) rfl rfl rfl (by decide +kernel) ⟨Nat.le_of_ble_eq_true rfl, Nat.le_of_ble_eq_true rfl⟩) (g_preS hE hI) rfl rfl hl.1 rfl (lv_room (Nat.le_of_ble_eq_true rfl)) dX1_star_12 ⟨Nat.le_of_ble_eq_true rfl, Nat.le_of_ble_eq_true rfl⟩) (fun X ce q9 G1 H locs hp hI hS k1 k2 k3 => ?_) (fun G1 H locs hp hI hS => ?_)
    · obtain ⟨rfl, h2, hG1⟩ := hp
      exact g_xout hno hlk hI hS k1 k2 k3 (Nat.le_of_ble_eq_true rfl) (Nat.le_of_ble_eq_true rfl) (⟨Or.inl ⟨rfl, (if_neg h1).trans (if_pos h2)⟩, hG1⟩)
    · obtain ⟨h2, hG1⟩ := hp
      rw [hG1] at hI
      refine lv_aload_n hx hb dX1_star_15 rfl (lv_at hl 0 rfl) ?_
      refine g_get (C := RX1) (T := TX1) (N := 3) (v := .ref lt) hx hb hts in_X1 hown hE hI hX0 rfl 1 (by decide) q144 (fun _ h9 => h9) rfl dX1_star_16 ?_
      refine g_ci0 (G := G) (v := nI ns) hS (va_runV (As := []) (rest := []) ⟨hx, hb, hml, hown, hts⟩ (m_size l E G (3, 3, 0) (3, 4, 0) lt et ns sA hlt0) (cwV 0 hts (lw_V q161 q162 q163 q34 q164) rfl rfl rfl (by decide +kernel) ⟨Nat.le_of_ble_eq_true rfl, Nat.le_of_ble_eq_true rfl⟩) (g_preV hE hI (hlt0.recv hE hI)) rfl rfl hl.1 rfl (lv_room (Nat.le_of_ble_eq_true rfl)) dX1_star_19 ⟨Nat.le_of_ble_eq_true rfl, Nat.le_of_ble_eq_true rfl⟩) (fun H locs hI hS => ?_)
      refine lv_bipush (v := 20) hx hb dX1_star_22 (by decide) ?_
      refine lv_icmp_ge (tgt := 31) hx hb dX1_star_24 (by decide) (fun c1 => ?_) (fun c1 => ?_)
      · have hge : ¬ ns < 20 := fun z => absurd c1 (nI_ge (b := 20) z (by omega))
        refine lv_iconst (v := 0) hx hb dX1_star_31 (by decide) ?_
        refine g_xv hS (vx_runS (As := [.int 0]) (rest := []) ⟨hx, hb, hml, hown, hts⟩ (m_requireState l E G hst 0) (va_cwS 1 hts (lw_S q375 q376 q31 q377) rfl rfl rfl (by decide +kernel) ⟨Nat.le_of_ble_eq_true rfl, Nat.le_of_ble_eq_true rfl⟩) (g_preS hE hI) rfl rfl hl.1 rfl (lv_room (Nat.le_of_ble_eq_true rfl)) dX1_star_32 ⟨Nat.le_of_ble_eq_true rfl, Nat.le_of_ble_eq_true rfl⟩) (fun X ce q9 G1 H locs hp hI hS k1 k2 k3 => ?_) (fun G1 H locs hp hI hS => ?_)
        · obtain ⟨rfl, -, hG1⟩ := hp
          exact g_xout hno hlk hI hS k1 k2 k3 (Nat.le_of_ble_eq_true rfl) (Nat.le_of_ble_eq_true rfl) (⟨Or.inr ⟨rfl, (if_neg h1).trans ((if_neg h2).trans (if_neg hge))⟩, hG1⟩)
        · exact absurd rfl hp.1
      · have hlt : ns < 20 := Nat.lt_of_not_le (fun z => c1 (nI_le (a := 20) z (by omega)))
        refine lv_iconst (v := 1) hx hb dX1_star_27 (by decide) ?_
        refine lv_goto (tgt := 32) hx hb dX1_star_28 (by decide) ?_
        refine g_xv hS (vx_runS (As := [.int 1]) (rest := []) ⟨hx, hb, hml, hown, hts⟩ (m_requireState l E G hst 1) (va_cwS 1 hts (lw_S q375 q376 q31 q377) rfl rfl rfl (by decide +kernel) ⟨Nat.le_of_ble_eq_true rfl, Nat.le_of_ble_eq_true rfl⟩) (g_preS hE hI) rfl rfl hl.1 rfl (lv_room (Nat.le_of_ble_eq_true rfl)) dX1_star_32 ⟨Nat.le_of_ble_eq_true rfl, Nat.le_of_ble_eq_true rfl⟩) (fun X ce q9 G1 H locs hp hI hS k1 k2 k3 => ?_) (fun G1 H locs hp hI hS => ?_)
        · exact absurd hp.2.1 (by decide)
        · have hG1 := hp.2
          rw [hG1] at hI
          refine lv_aload_n hx hb dX1_star_35 rfl (lv_at hl 0 rfl) ?_
          refine g_get (C := RX1) (T := TX1) (N := 3) (v := .ref lt) hx hb hts in_X1 hown hE hI hX0 rfl 1 (by decide) q144 (fun _ h9 => h9) rfl dX1_star_36 ?_
          refine g_new (C := RX5) (T := TX5) (N := 2) (ci := 4) (fs := [.int 0, .int 0]) (3, 6, ns) hx hb hts in_X5 tyX5 tyX5_ok hown q218 q575 q53 hE hI hS hL rfl (fun j hj => by rcases (show j = 0 ∨ j = 1 by omega) with rfl | rfl <;> rfl) (Nat.le_of_ble_eq_true rfl) (Nat.le_of_ble_eq_true rfl) dX1_star_39 (fun q H hnq hI hS => ?_)
          have h_q : (gU G q ((3, 6, ns), .inr (4, [.int 0, .int 0]))) q = some ((3, 6, ns), .inr (4, [.int 0, .int 0])) := gU_self
          refine lv_dup hx hb dX1_star_42 rfl ?_
          refine lv_iload_n hx hb dX1_star_43 rfl (lv_at hl 1 rfl) ?_
          refine lv_iload_n hx hb dX1_star_44 rfl (lv_at hl 2 rfl) ?_
          refine g_cv0 hS (va_runIN (As := [.int p0, .int p1]) (rest := [.ref q, .ref lt]) ⟨hx, hb, hml, hown, hts⟩ (m_Sinit l E (gU G q ((3, 6, ns), .inr (4, [.int 0, .int 0]))) q (3, 6, ns) p0 p1 h_q) ⟨va_cnB 2 hts (lw_meth q578) rfl rfl rfl (hE.nw q576 rfl) (hts _ q53) (by decide +kernel) ⟨Nat.le_of_ble_eq_true rfl, Nat.le_of_ble_eq_true rfl⟩, rfl, hts _ q577⟩ (g_preS hE hI) rfl rfl hl.1 rfl (lv_room (Nat.le_of_ble_eq_true rfl)) dX1_star_45 ⟨Nat.le_of_ble_eq_true rfl, Nat.le_of_ble_eq_true rfl⟩) (fun H locs hI hS => ?_)
          rw [gU_gU] at hI
          have hFn : ∀ P, Fr P G (gU G q ((3, 6, ns), sO p0 p1)) := fun P => Fr.new hnq
          have hq : gU G q ((3, 6, ns), sO p0 p1) q = some ((3, 6, ns), sO p0 p1) := gU_self
          have hl3 := hlt0.fr (hFn (fun _ => False)) id id
          refine g_ci hS (va_runV (As := [.ref q]) (rest := []) ⟨hx, hb, hml, hown, hts⟩ (m_add l E (gU G q ((3, 6, ns), sO p0 p1)) (3, 3, 0) (3, 4, 0) lt et ns sA hl3 q 4 (3, 6, ns) _ (RX5, TX5, 2) (by simp) (by simp) (by simp) hq rfl (by omega) (fun k hk => ⟨(3, 6, k), _, by simp, hFn (fun _ => False) _ _ _ id (hst0 k hk)⟩)) (cwV 1 hts (lw_V q420 q421 q422 q34 q423) rfl rfl rfl (by decide +kernel) ⟨Nat.le_of_ble_eq_true rfl, Nat.le_of_ble_eq_true rfl⟩) (g_preV hE hI (hl3.recv hE hI)) rfl rfl hl.1 rfl (lv_room (Nat.le_of_ble_eq_true rfl)) dX1_star_48 ⟨Nat.le_of_ble_eq_true rfl, Nat.le_of_ble_eq_true rfl⟩) (fun r G2 H locs hp hI hS => ?_)
          obtain ⟨rfl, el', hL1, hF4⟩ := hp
          have hX9 := (hXR.new (y := ((3, 6, ns), sO p0 p1)) hnq).addS (k := (p0, p1)) hF4 (hF4 _ _ _ (by simp) hq) hL1
          have hX1 : G2 x = some ((3, 0, 0), xO lu lt con) := hX9.1
          refine lv_pop hx hb dX1_star_51 rfl ?_
          refine lv_aload_n hx hb dX1_star_52 rfl (lv_at hl 0 rfl) ?_
          refine g_get (C := RX1) (T := TX1) (N := 3) (v := .ref lt) hx hb hts in_X1 hown hE hI hX1 rfl 1 (by decide) q144 (fun _ h9 => h9) rfl dX1_star_53 ?_
          refine g_ci0 (G := G2) (v := nI (ns + 1)) hS (va_runV (As := []) (rest := []) ⟨hx, hb, hml, hown, hts⟩ (m_size l E G2 (3, 3, 0) (3, 4, 0) lt el' (ns + 1) (va_up sA ns q) hL1) (cwV 0 hts (lw_V q161 q162 q163 q34 q164) rfl rfl rfl (by decide +kernel) ⟨Nat.le_of_ble_eq_true rfl, Nat.le_of_ble_eq_true rfl⟩) (g_preV hE hI (hL1.recv hE hI)) rfl rfl hl.1 rfl (lv_room (Nat.le_of_ble_eq_true rfl)) dX1_star_56 ⟨Nat.le_of_ble_eq_true rfl, Nat.le_of_ble_eq_true rfl⟩) (fun H locs hI hS => ?_)
          refine lv_iconst (v := 1) hx hb dX1_star_59 (by decide) ?_
          refine lv_isub hx hb dX1_star_60 ?_
          refine vx_ret ?_
          exact g_iret hx hb hr hlk hI hS dX1_star_61 (Nat.le_of_ble_eq_true rfl) (Nat.le_of_ble_eq_true rfl) (⟨(if_neg h1).trans ((if_neg h2).trans (if_pos hlt)), nI_pred ns, _, hX9, Fr.trans (hFn _) (hF4.mono (fun t z => by rcases z with z | z <;> rw [z] <;> decide))⟩)
