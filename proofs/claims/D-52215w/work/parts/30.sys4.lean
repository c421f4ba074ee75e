/-! CONTRACT of StarConsole.cue. Printed by gen/p30.py -/
set_option maxRecDepth 100000
theorem isIn_of {v lo hi : Int32} (h : ¬ isInV v lo hi = 0) : ¬ v < lo ∧ ¬ hi < v := by
  unfold isInV at h
  by_cases h1 : v < lo
  · rw [if_pos h1] at h; exact absurd rfl h
  · by_cases h2 : hi < v
    · rw [if_neg h1, if_pos h2] at h; exact absurd rfl h
    · exact ⟨h1, h2⟩
theorem isIn_idx {v : Int32} {n : Nat} (hn : n < 2 ^ 31) (h : ¬ isInV v 0 (nI n) = 0) : ∃ k, k ≤ n ∧ v = nI k := by
  obtain ⟨h1, h2⟩ := isIn_of h
  obtain ⟨k, hk, rfl⟩ := nI_of h1
  exact ⟨k, Nat.le_of_not_lt (fun z => h2 (nI_lt z hk)), rfl⟩
set_option maxHeartbeats 4000000 in
set_option maxRecDepth 100000 in
theorem m_Xcue (l : Launch) (E : EnvT) (G : Gh) (hst : l.stackTraces = false) (x : Nat) (B : XA) (σ : Sy) (hXR : XRep E G x B σ) (tm kd a b : Int32) : vx_Met l yX1_cue (ws_ yX1_cue cX1_cue 6 (some .int)) ({ frames := 8, cells := 8, slots := 74, locals := 171 } : Room) (cP E G [.ref x, .int tm, .int kd, .int a, .int b]) (cI E (fun r G' => cueR σ.1.2.1.1 σ.2.1.1 tm kd a b = 0 ∧ r = nI σ.2.1.1 ∧ ∃ B', XRep E G' x B' (cueS σ tm kd a b) ∧ Fr Sys G G')) (cX E (fun X G' => ((X = xIAE ∧ cueR σ.1.2.1.1 σ.2.1.1 tm kd a b = 1) ∨ (X = xISE ∧ cueR σ.1.2.1.1 σ.2.1.1 tm kd a b = 2)) ∧ G' = G)) 8 74 (eA E) := by
  obtain ⟨⟨con, ld, lc, dA, kA⟩, ⟨lu, uA⟩, ⟨lt, sA⟩⟩ := B
  obtain ⟨⟨⟨tk, ck, rn, an, sp, ln, lf⟩, ⟨nd, dm⟩, ⟨nc, km⟩⟩, ⟨nu, uq⟩, ⟨ns, st⟩⟩ := σ
  refine g_xmet (rm := ({ frames := 8, cells := 8, slots := 74, locals := 171 } : Room)) (av := [.ref x, .int tm, .int kd, .int a, .int b]) (lv := [(0, .ref x), (1, .int tm), (2, .int kd), (3, .int a), (4, .int b)]) (by decide) (Nat.le_of_ble_eq_true rfl) rfl ?_
  intro p e s m below meth c ls hx hb hr hlk hml hno hts hown hE hI hL hS hl
  have hXR0 := hXR
  obtain ⟨hX0, hR, ⟨eu, hU⟩, ⟨et, hlt0⟩, hst0⟩ := hXR0
  have hX0 : G x = some ((3, 0, 0), xO lu lt con) := hX0
  have hR : CRep E G 1 (con, ld, lc, dA, kA) ((tk, ck, rn, an, sp, ln, lf), (nd, dm), (nc, km)) := hR
  have hU : URep E G 3 lu eu nu uA uq := hU
  have hlt0 : LRep E G (3, 3, 0) (3, 4, 0) lt et ns sA := hlt0
  have hst0 : ∀ k, k < ns → G (sA k) = some ((3, 6, k), sOt (st k)) := hst0
  have hR0 := hR
  obtain ⟨hcon, ⟨ed, hld⟩, ⟨ec, hlc⟩, hd, hk⟩ := hR0
  have hcon : G con = some ((1, 0, 0), coO tk ck rn an sp ln lf ld lc) := hcon
  have hld : LRep E G (1, 1, 0) (1, 2, 0) ld ed nd dA := hld
  have hlc : LRep E G (1, 3, 0) (1, 4, 0) lc ec nc kA := hlc
  have hd : ∀ k, k < nd → G (dA k) = some ((1, 5, k), dOt (dm k)) := hd
  have hk : ∀ k, k < nc → G (kA k) = some ((1, 6, k), kOt (km k)) := hk
  have hn1 : nd ≤ 36 := hld.n36
  have hn2 : nc ≤ 36 := hlc.n36
  have hn3 : nu ≤ 36 := hU.1.n36
  have hn4 : ns ≤ 36 := hlt0.n36
  refine lv_iconst (v := 0) hx hb dX1_cue_0 (by decide) ?_
  refine lv_sipush (v := 999) hx hb dX1_cue_1 (by decide) ?_
  refine lv_iload_n hx hb dX1_cue_4 rfl (lv_at hl 1 rfl) ?_
  refine g_xv hS (vx_runS (As := [.int 0, .int 999, .int tm]) (rest := []) ⟨hx, hb, hml, hown, hts⟩ (m_requireFrom l E G hst 0 999 tm) (va_cwS 3 hts (lw_S q301 q302 q31 q303) rfl rfl rfl (by decide +kernel) ⟨Nat.le_of_ble_eq_true rfl, Nat.le_of_ble_eq_true rfl⟩) (g_preS hE hI) rfl rfl hl.1 rfl (lv_room (Nat.le_of_ble_eq_true rfl)) dX1_cue_5 ⟨Nat.le_of_ble_eq_true rfl, Nat.le_of_ble_eq_true rfl⟩) (fun X ce q9 G1 H locs hp hI hS k1 k2 k3 => ?_) (fun G1 H locs hp hI hS => ?_)
  · obtain ⟨rfl, h1, hG1⟩ := hp
    exact g_xout hno hlk hI hS k1 k2 k3 (Nat.le_of_ble_eq_true rfl) (Nat.le_of_ble_eq_true rfl) (⟨Or.inl ⟨rfl, if_pos h1⟩, hG1⟩)
  · obtain ⟨h1, hG1⟩ := hp
    rw [hG1] at hI
    refine lv_iconst (v := 0) hx hb dX1_cue_8 (by decide) ?_
    refine g_cr hS (va_runS (As := []) (rest := [.int 0]) ⟨hx, hb, hml, hown, hts⟩ (m_values l E G (7, 0, 0)) (va_cwS 0 hts (lw_S q597 q598 q55 q599) rfl rfl rfl (by decide +kernel) ⟨Nat.le_of_ble_eq_true rfl, Nat.le_of_ble_eq_true rfl⟩) (g_preS hE hI) rfl rfl hl.1 rfl (lv_room (Nat.le_of_ble_eq_true rfl)) dX1_cue_9 ⟨Nat.le_of_ble_eq_true rfl, Nat.le_of_ble_eq_true rfl⟩) (fun q1 G9 H locs hp hI hS => ?_)
    obtain ⟨hnq1, hG9⟩ := hp
    rw [hG9] at hI
    have h_q1 : (gU G q1 ((7, 0, 0), .inl (eC E 4, arrK E))) q1 = some ((7, 0, 0), .inl (eC E 4, arrK E)) := gU_self
    have hXa := hXR.new (y := ((7, 0, 0), .inl (eC E 4, arrK E))) hnq1
    refine g_alen hx hb hE hI h_q1 4 rfl dX1_cue_12 ?_
    refine lv_iconst (v := 1) hx hb dX1_cue_13 (by decide) ?_
    refine lv_isub hx hb dX1_cue_14 ?_
    refine lv_iload_n hx hb dX1_cue_15 rfl (lv_at hl 2 rfl) ?_
    refine g_xv hS (vx_runS (As := [.int 0, .int (nI 5 - 1), .int kd]) (rest := []) ⟨hx, hb, hml, hown, hts⟩ (m_requireFrom l E (gU G q1 ((7, 0, 0), .inl (eC E 4, arrK E))) hst 0 (nI 5 - 1) kd) (va_cwS 3 hts (lw_S q301 q302 q31 q303) rfl rfl rfl (by decide +kernel) ⟨Nat.le_of_ble_eq_true rfl, Nat.le_of_ble_eq_true rfl⟩) (g_preS hE hI) rfl rfl hl.1 rfl (lv_room (Nat.le_of_ble_eq_true rfl)) dX1_cue_16 ⟨Nat.le_of_ble_eq_true rfl, Nat.le_of_ble_eq_true rfl⟩) (fun X ce q9 G1 H locs hp hI hS k1 k2 k3 => ?_) (fun G1 H locs hp hI hS => ?_)
    · obtain ⟨rfl, h2, hG1⟩ := hp
      have hI : Inv E G H := hI.drop (fun a t e ha => ⟨t, by rw [hG1]; exact gU_f hnq1 ha⟩)
      exact g_xout hno hlk hI hS k1 k2 k3 (Nat.le_of_ble_eq_true rfl) (Nat.le_of_ble_eq_true rfl) (⟨Or.inl ⟨rfl, (if_neg h1).trans (if_pos h2)⟩, rfl⟩)
    · obtain ⟨h2, hG1⟩ := hp
      rw [hG1] at hI
      obtain ⟨k, hk5, hkd⟩ := isIn_idx (n := 4) (by decide) h2
      have hcl : kd.toNatClampNeg = k := by rw [hkd]; exact nI_clamp (by omega)
      refine g_cr hS (va_runS (As := []) (rest := []) ⟨hx, hb, hml, hown, hts⟩ (m_values l E (gU G q1 ((7, 0, 0), .inl (eC E 4, arrK E))) (7, 0, 0)) (va_cwS 0 hts (lw_S q597 q598 q55 q599) rfl rfl rfl (by decide +kernel) ⟨Nat.le_of_ble_eq_true rfl, Nat.le_of_ble_eq_true rfl⟩) (g_preS hE hI) rfl rfl hl.1 rfl (lv_room (Nat.le_of_ble_eq_true rfl)) dX1_cue_19 ⟨Nat.le_of_ble_eq_true rfl, Nat.le_of_ble_eq_true rfl⟩) (fun q2 G9 H locs hp hI hS => ?_)
      obtain ⟨hnq2, hG9⟩ := hp
      rw [hG9] at hI
      have h_q2 : (gU (gU G q1 ((7, 0, 0), .inl (eC E 4, arrK E))) q2 ((7, 0, 0), .inl (eC E 4, arrK E))) q2 = some ((7, 0, 0), .inl (eC E 4, arrK E)) := gU_self
      have hXb := hXa.new (y := ((7, 0, 0), .inl (eC E 4, arrK E))) hnq2
      refine lv_iload_n hx hb dX1_cue_22 rfl (lv_at hl 2 rfl) ?_
      refine g_aald hx hb hE hI h_q2 4 rfl k hkd (by omega) (by decide) rfl dX1_cue_23 ?_
      have hmx : ∀ {b : Nat} {t : Tg} {e : va_E}, G b = some (t, e) → (gU (gU G q1 ((7, 0, 0), .inl (eC E 4, arrK E))) q2 ((7, 0, 0), .inl (eC E 4, arrK E))) b = some (t, e) := fun h => gU_f hnq2 (gU_f hnq1 h)
      have hXR0 := hXb
      obtain ⟨hX0, hR, ⟨eu, hU⟩, ⟨et, hlt0⟩, hst0⟩ := hXR0
      have hX0 : (gU (gU G q1 ((7, 0, 0), .inl (eC E 4, arrK E))) q2 ((7, 0, 0), .inl (eC E 4, arrK E))) x = some ((3, 0, 0), xO lu lt con) := hX0
      have hR : CRep E (gU (gU G q1 ((7, 0, 0), .inl (eC E 4, arrK E))) q2 ((7, 0, 0), .inl (eC E 4, arrK E))) 1 (con, ld, lc, dA, kA) ((tk, ck, rn, an, sp, ln, lf), (nd, dm), (nc, km)) := hR
      have hU : URep E (gU (gU G q1 ((7, 0, 0), .inl (eC E 4, arrK E))) q2 ((7, 0, 0), .inl (eC E 4, arrK E))) 3 lu eu nu uA uq := hU
      have hlt0 : LRep E (gU (gU G q1 ((7, 0, 0), .inl (eC E 4, arrK E))) q2 ((7, 0, 0), .inl (eC E 4, arrK E))) (3, 3, 0) (3, 4, 0) lt et ns sA := hlt0
      have hst0 : ∀ k, k < ns → (gU (gU G q1 ((7, 0, 0), .inl (eC E 4, arrK E))) q2 ((7, 0, 0), .inl (eC E 4, arrK E))) (sA k) = some ((3, 6, k), sOt (st k)) := hst0
      have hR0 := hR
      obtain ⟨hcon, ⟨ed, hld⟩, ⟨ec, hlc⟩, hd, hk⟩ := hR0
      have hcon : (gU (gU G q1 ((7, 0, 0), .inl (eC E 4, arrK E))) q2 ((7, 0, 0), .inl (eC E 4, arrK E))) con = some ((1, 0, 0), coO tk ck rn an sp ln lf ld lc) := hcon
      have hld : LRep E (gU (gU G q1 ((7, 0, 0), .inl (eC E 4, arrK E))) q2 ((7, 0, 0), .inl (eC E 4, arrK E))) (1, 1, 0) (1, 2, 0) ld ed nd dA := hld
      have hlc : LRep E (gU (gU G q1 ((7, 0, 0), .inl (eC E 4, arrK E))) q2 ((7, 0, 0), .inl (eC E 4, arrK E))) (1, 3, 0) (1, 4, 0) lc ec nc kA := hlc
      have hd : ∀ k, k < nd → (gU (gU G q1 ((7, 0, 0), .inl (eC E 4, arrK E))) q2 ((7, 0, 0), .inl (eC E 4, arrK E))) (dA k) = some ((1, 5, k), dOt (dm k)) := hd
      have hk : ∀ k, k < nc → (gU (gU G q1 ((7, 0, 0), .inl (eC E 4, arrK E))) q2 ((7, 0, 0), .inl (eC E 4, arrK E))) (kA k) = some ((1, 6, k), kOt (km k)) := hk
      refine lv_astore (lv' := [(5, .ref (eK E k)), (0, .ref x), (1, .int tm), (2, .int kd), (3, .int a), (4, .int b)]) hx hb dX1_cue_24 hl (by decide) rfl (fun ls hl => ?_)
      refine lv_aload hx hb dX1_cue_26 (lv_at hl 0 rfl) ?_
      refine lv_aload_n hx hb dX1_cue_28 rfl (lv_at hl 1 rfl) ?_
      refine g_get (C := RX1) (T := TX1) (N := 3) (v := .ref con) hx hb hts in_X1 hown hE hI hX0 rfl 2 (by decide) q145 (fun _ h9 => h9) rfl dX1_cue_29 ?_
      refine lv_iload_n hx hb dX1_cue_32 rfl (lv_at hl 4 rfl) ?_
      refine lv_iload hx hb dX1_cue_33 (lv_at hl 5 rfl) ?_
      refine g_ci0 (G := (gU (gU G q1 ((7, 0, 0), .inl (eC E 4, arrK E))) q2 ((7, 0, 0), .inl (eC E 4, arrK E)))) (v := takesV nd k a b) (av := ([.ref (eK E k), .ref con, .int a, .int b] : List Value).toArray) (rest := []) hS ?_ (fun H locs hI hS => ?_)
      · rcases (show k = 0 ∨ k = 1 ∨ k = 2 ∨ k = 3 ∨ k = 4 by omega) with z | z | z | z | z <;> subst z
        · exact g_runU (n := 3) (C := RX12) (owner := "StarConsole$Kind") (x := ⟨"StarConsole$Kind", "takes", "(LStarConsole$Console;II)Z"⟩) (As := [.ref con, .int a, .int b]) (rest := []) hx hb hml hown hts (m_takes0 l E (gU (gU G q1 ((7, 0, 0), .inl (eC E 4, arrK E))) q2 ((7, 0, 0), .inl (eC E 4, arrK E))) 1 (con, ld, lc, dA, kA) ((tk, ck, rn, an, sp, ln, lf), (nd, dm), (nc, km)) hR (eK E 0) a b) rfl rfl (Nat.le_of_ble_eq_true rfl) (Nat.le_of_ble_eq_true rfl) q610 q612 (hE.nw q611 rfl) q613 q614 q615 (by decide +kernel) (g_preV hE hI (kRecv (k := 0) hE hI (by decide))) rfl rfl hl.1 rfl (lv_room (Nat.le_of_ble_eq_true rfl)) dX1_cue_35 ⟨Nat.le_of_ble_eq_true rfl, Nat.le_of_ble_eq_true rfl⟩
        · exact g_runU (n := 3) (C := RX10) (owner := "StarConsole$Kind") (x := ⟨"StarConsole$Kind", "takes", "(LStarConsole$Console;II)Z"⟩) (As := [.ref con, .int a, .int b]) (rest := []) hx hb hml hown hts (m_takes1 l E (gU (gU G q1 ((7, 0, 0), .inl (eC E 4, arrK E))) q2 ((7, 0, 0), .inl (eC E 4, arrK E))) 1 (con, ld, lc, dA, kA) ((tk, ck, rn, an, sp, ln, lf), (nd, dm), (nc, km)) hR (eK E 1) a b) rfl rfl (Nat.le_of_ble_eq_true rfl) (Nat.le_of_ble_eq_true rfl) q610 q612 (hE.nw q611 rfl) q618 q619 q620 (by decide +kernel) (g_preV hE hI (kRecv (k := 1) hE hI (by decide))) rfl rfl hl.1 rfl (lv_room (Nat.le_of_ble_eq_true rfl)) dX1_cue_35 ⟨Nat.le_of_ble_eq_true rfl, Nat.le_of_ble_eq_true rfl⟩
        · exact g_runU (n := 3) (C := RX13) (owner := "StarConsole$Kind") (x := ⟨"StarConsole$Kind", "takes", "(LStarConsole$Console;II)Z"⟩) (As := [.ref con, .int a, .int b]) (rest := []) hx hb hml hown hts (m_takes2 l E (gU (gU G q1 ((7, 0, 0), .inl (eC E 4, arrK E))) q2 ((7, 0, 0), .inl (eC E 4, arrK E))) 1 (con, ld, lc, dA, kA) ((tk, ck, rn, an, sp, ln, lf), (nd, dm), (nc, km)) hR (eK E 2) a b) rfl rfl (Nat.le_of_ble_eq_true rfl) (Nat.le_of_ble_eq_true rfl) q610 q612 (hE.nw q611 rfl) q622 q623 q624 (by decide +kernel) (g_preV hE hI (kRecv (k := 2) hE hI (by decide))) rfl rfl hl.1 rfl (lv_room (Nat.le_of_ble_eq_true rfl)) dX1_cue_35 ⟨Nat.le_of_ble_eq_true rfl, Nat.le_of_ble_eq_true rfl⟩
        · exact g_runU (n := 3) (C := RX11) (owner := "StarConsole$Kind") (x := ⟨"StarConsole$Kind", "takes", "(LStarConsole$Console;II)Z"⟩) (As := [.ref con, .int a, .int b]) (rest := []) hx hb hml hown hts (m_takes3 l E (gU (gU G q1 ((7, 0, 0), .inl (eC E 4, arrK E))) q2 ((7, 0, 0), .inl (eC E 4, arrK E))) 1 (con, ld, lc, dA, kA) ((tk, ck, rn, an, sp, ln, lf), (nd, dm), (nc, km)) hR (eK E 3) a b) rfl rfl (Nat.le_of_ble_eq_true rfl) (Nat.le_of_ble_eq_true rfl) q610 q612 (hE.nw q611 rfl) q626 q627 q628 (by decide +kernel) (g_preV hE hI (kRecv (k := 3) hE hI (by decide))) rfl rfl hl.1 rfl (lv_room (Nat.le_of_ble_eq_true rfl)) dX1_cue_35 ⟨Nat.le_of_ble_eq_true rfl, Nat.le_of_ble_eq_true rfl⟩
        · exact g_runU (n := 3) (C := RX9) (owner := "StarConsole$Kind") (x := ⟨"StarConsole$Kind", "takes", "(LStarConsole$Console;II)Z"⟩) (As := [.ref con, .int a, .int b]) (rest := []) hx hb hml hown hts (m_takes4 l E (gU (gU G q1 ((7, 0, 0), .inl (eC E 4, arrK E))) q2 ((7, 0, 0), .inl (eC E 4, arrK E))) 1 (con, ld, lc, dA, kA) ((tk, ck, rn, an, sp, ln, lf), (nd, dm), (nc, km)) hR (eK E 4) a b) rfl rfl (Nat.le_of_ble_eq_true rfl) (Nat.le_of_ble_eq_true rfl) q610 q612 (hE.nw q611 rfl) q630 q631 q632 (by decide +kernel) (g_preV hE hI (kRecv (k := 4) hE hI (by decide))) rfl rfl hl.1 rfl (lv_room (Nat.le_of_ble_eq_true rfl)) dX1_cue_35 ⟨Nat.le_of_ble_eq_true rfl, Nat.le_of_ble_eq_true rfl⟩
      · refine g_xv hS (vx_runS (As := [.int (takesV nd k a b)]) (rest := []) ⟨hx, hb, hml, hown, hts⟩ (m_require l E (gU (gU G q1 ((7, 0, 0), .inl (eC E 4, arrK E))) q2 ((7, 0, 0), .inl (eC E 4, arrK E))) hst (takesV nd k a b)) (va_cwS 1 hts (lw_S q307 q308 q31 q309) rfl rfl rfl (by decide +kernel) ⟨Nat.le_of_ble_eq_true rfl, Nat.le_of_ble_eq_true rfl⟩) (g_preS hE hI) rfl rfl hl.1 rfl (lv_room (Nat.le_of_ble_eq_true rfl)) dX1_cue_38 ⟨Nat.le_of_ble_eq_true rfl, Nat.le_of_ble_eq_true rfl⟩) (fun X ce q9 G1 H locs hp hI hS k1 k2 k3 => ?_) (fun G1 H locs hp hI hS => ?_)
        · obtain ⟨rfl, h3, hG1⟩ := hp
          have hI : Inv E G H := hI.drop (fun a t e ha => ⟨t, by rw [hG1]; exact hmx ha⟩)
          exact g_xout hno hlk hI hS k1 k2 k3 (Nat.le_of_ble_eq_true rfl) (Nat.le_of_ble_eq_true rfl) (⟨Or.inl ⟨rfl, (if_neg h1).trans ((if_neg h2).trans (if_pos (by rw [hcl]; exact h3)))⟩, rfl⟩)
        · obtain ⟨h3, hG1⟩ := hp
          rw [hG1] at hI
          have h3 : ¬ takesV nd kd.toNatClampNeg a b = 0 := by rw [hcl]; exact h3
          refine lv_aload_n hx hb dX1_cue_41 rfl (lv_at hl 1 rfl) ?_
          refine g_get (C := RX1) (T := TX1) (N := 3) (v := .ref lu) hx hb hts in_X1 hown hE hI hX0 rfl 0 (by decide) q143 (fun _ h9 => h9) rfl dX1_cue_42 ?_
          refine g_ci0 (G := (gU (gU G q1 ((7, 0, 0), .inl (eC E 4, arrK E))) q2 ((7, 0, 0), .inl (eC E 4, arrK E)))) (v := nI nu) hS (va_runV (As := []) (rest := []) ⟨hx, hb, hml, hown, hts⟩ (m_size l E (gU (gU G q1 ((7, 0, 0), .inl (eC E 4, arrK E))) q2 ((7, 0, 0), .inl (eC E 4, arrK E))) (3, 1, 0) (3, 2, 0) lu eu nu uA hU.1) (cwV 0 hts (lw_V q161 q162 q163 q34 q164) rfl rfl rfl (by decide +kernel) ⟨Nat.le_of_ble_eq_true rfl, Nat.le_of_ble_eq_true rfl⟩) (g_preV hE hI (hU.1.recv hE hI)) rfl rfl hl.1 rfl (lv_room (Nat.le_of_ble_eq_true rfl)) dX1_cue_45 ⟨Nat.le_of_ble_eq_true rfl, Nat.le_of_ble_eq_true rfl⟩) (fun H locs hI hS => ?_)
          refine lv_bipush (v := 24) hx hb dX1_cue_48 (by decide) ?_
          refine lv_icmp_ge (tgt := 57) hx hb dX1_cue_50 (by decide) (fun c1 => ?_) (fun c1 => ?_)
          · have hge : ¬ nu < 24 := fun z => absurd c1 (nI_ge (b := 24) z (by omega))
            refine lv_iconst (v := 0) hx hb dX1_cue_57 (by decide) ?_
            refine g_xv hS (vx_runS (As := [.int 0]) (rest := []) ⟨hx, hb, hml, hown, hts⟩ (m_requireState l E (gU (gU G q1 ((7, 0, 0), .inl (eC E 4, arrK E))) q2 ((7, 0, 0), .inl (eC E 4, arrK E))) hst 0) (va_cwS 1 hts (lw_S q375 q376 q31 q377) rfl rfl rfl (by decide +kernel) ⟨Nat.le_of_ble_eq_true rfl, Nat.le_of_ble_eq_true rfl⟩) (g_preS hE hI) rfl rfl hl.1 rfl (lv_room (Nat.le_of_ble_eq_true rfl)) dX1_cue_58 ⟨Nat.le_of_ble_eq_true rfl, Nat.le_of_ble_eq_true rfl⟩) (fun X ce q9 G1 H locs hp hI hS k1 k2 k3 => ?_) (fun G1 H locs hp hI hS => ?_)
            · obtain ⟨rfl, h4, hG1⟩ := hp
              have hI : Inv E G H := hI.drop (fun a t e ha => ⟨t, by rw [hG1]; exact hmx ha⟩)
              exact g_xout hno hlk hI hS k1 k2 k3 (Nat.le_of_ble_eq_true rfl) (Nat.le_of_ble_eq_true rfl) (⟨Or.inr ⟨rfl, (if_neg h1).trans ((if_neg h2).trans ((if_neg h3).trans (if_neg hge)))⟩, rfl⟩)
            · exact absurd rfl hp.1
          · have hlt : nu < 24 := Nat.lt_of_not_le (fun z => c1 (nI_le (a := 24) z (by omega)))
            refine lv_iconst (v := 1) hx hb dX1_cue_53 (by decide) ?_
            refine lv_goto (tgt := 58) hx hb dX1_cue_54 (by decide) ?_
            refine g_xv hS (vx_runS (As := [.int 1]) (rest := []) ⟨hx, hb, hml, hown, hts⟩ (m_requireState l E (gU (gU G q1 ((7, 0, 0), .inl (eC E 4, arrK E))) q2 ((7, 0, 0), .inl (eC E 4, arrK E))) hst 1) (va_cwS 1 hts (lw_S q375 q376 q31 q377) rfl rfl rfl (by decide +kernel) ⟨Nat.le_of_ble_eq_true rfl, Nat.le_of_ble_eq_true rfl⟩) (g_preS hE hI) rfl rfl hl.1 rfl (lv_room (Nat.le_of_ble_eq_true rfl)) dX1_cue_58 ⟨Nat.le_of_ble_eq_true rfl, Nat.le_of_ble_eq_true rfl⟩) (fun X ce q9 G1 H locs hp hI hS k1 k2 k3 => ?_) (fun G1 H locs hp hI hS => ?_)
            · exact absurd hp.2.1 (by decide)
            · have hG1 := hp.2
              rw [hG1] at hI
              refine lv_aload_n hx hb dX1_cue_61 rfl (lv_at hl 1 rfl) ?_
              refine g_get (C := RX1) (T := TX1) (N := 3) (v := .ref lu) hx hb hts in_X1 hown hE hI hX0 rfl 0 (by decide) q143 (fun _ h9 => h9) rfl dX1_cue_62 ?_
              refine g_new (C := RX7) (T := TX7) (N := 4) (ci := 5) (fs := [.int 0, .null, .int 0, .int 0]) (3, 5, nu) hx hb hts in_X7 tyX7 tyX7_ok hown q179 q633 q56 hE hI hS hL rfl (fun j hj => by rcases (show j = 0 ∨ j = 1 ∨ j = 2 ∨ j = 3 by omega) with rfl | rfl | rfl | rfl <;> rfl) (Nat.le_of_ble_eq_true rfl) (Nat.le_of_ble_eq_true rfl) dX1_cue_65 (fun q H hnq hI hS => ?_)
              have h_q : (gU (gU (gU G q1 ((7, 0, 0), .inl (eC E 4, arrK E))) q2 ((7, 0, 0), .inl (eC E 4, arrK E))) q ((3, 5, nu), .inr (5, [.int 0, .null, .int 0, .int 0]))) q = some ((3, 5, nu), .inr (5, [.int 0, .null, .int 0, .int 0])) := gU_self
              refine lv_dup hx hb dX1_cue_68 rfl ?_
              refine lv_iload_n hx hb dX1_cue_69 rfl (lv_at hl 2 rfl) ?_
              refine lv_aload hx hb dX1_cue_70 (lv_at hl 0 rfl) ?_
              refine lv_iload_n hx hb dX1_cue_72 rfl (lv_at hl 4 rfl) ?_
              refine lv_iload hx hb dX1_cue_73 (lv_at hl 5 rfl) ?_
              refine g_cv0 hS (va_runIN (As := [.int tm, .ref (eK E k), .int a, .int b]) (rest := [.ref q, .ref lu]) ⟨hx, hb, hml, hown, hts⟩ (m_Uinit l E (gU (gU (gU G q1 ((7, 0, 0), .inl (eC E 4, arrK E))) q2 ((7, 0, 0), .inl (eC E 4, arrK E))) q ((3, 5, nu), .inr (5, [.int 0, .null, .int 0, .int 0]))) q (3, 5, nu) tm (eK E k) a b h_q) ⟨va_cnB 4 hts (lw_meth q636) rfl rfl rfl (hE.nw q634 rfl) (hts _ q56) (by decide +kernel) ⟨Nat.le_of_ble_eq_true rfl, Nat.le_of_ble_eq_true rfl⟩, rfl, hts _ q635⟩ (g_preS hE hI) rfl rfl hl.1 rfl (lv_room (Nat.le_of_ble_eq_true rfl)) dX1_cue_75 ⟨Nat.le_of_ble_eq_true rfl, Nat.le_of_ble_eq_true rfl⟩) (fun H locs hI hS => ?_)
              rw [gU_gU] at hI
              have hFn : ∀ P, Fr P (gU (gU G q1 ((7, 0, 0), .inl (eC E 4, arrK E))) q2 ((7, 0, 0), .inl (eC E 4, arrK E))) (gU (gU (gU G q1 ((7, 0, 0), .inl (eC E 4, arrK E))) q2 ((7, 0, 0), .inl (eC E 4, arrK E))) q ((3, 5, nu), uO tm (eK E k) a b)) := fun P => Fr.new hnq
              have hq : (gU (gU (gU G q1 ((7, 0, 0), .inl (eC E 4, arrK E))) q2 ((7, 0, 0), .inl (eC E 4, arrK E))) q ((3, 5, nu), uO tm (eK E k) a b)) q = some ((3, 5, nu), uO tm (eK E k) a b) := gU_self
              have hl3 := hU.1.fr (hFn (fun _ => False)) id id
              refine g_ci hS (va_runV (As := [.ref q]) (rest := []) ⟨hx, hb, hml, hown, hts⟩ (m_add l E (gU (gU (gU G q1 ((7, 0, 0), .inl (eC E 4, arrK E))) q2 ((7, 0, 0), .inl (eC E 4, arrK E))) q ((3, 5, nu), uO tm (eK E k) a b)) (3, 1, 0) (3, 2, 0) lu eu nu uA hl3 q 5 (3, 5, nu) _ (RX7, TX7, 4) (by simp) (by simp) (by simp) hq rfl (by omega) (fun k hk => ⟨(3, 5, k), _, by simp, hFn (fun _ => False) _ _ _ id (hU.2 k hk)⟩)) (cwV 1 hts (lw_V q420 q421 q422 q34 q423) rfl rfl rfl (by decide +kernel) ⟨Nat.le_of_ble_eq_true rfl, Nat.le_of_ble_eq_true rfl⟩) (g_preV hE hI (hl3.recv hE hI)) rfl rfl hl.1 rfl (lv_room (Nat.le_of_ble_eq_true rfl)) dX1_cue_78 ⟨Nat.le_of_ble_eq_true rfl, Nat.le_of_ble_eq_true rfl⟩) (fun r G8 H locs hp hI hS => ?_)
              obtain ⟨rfl, el', hL1, hF4⟩ := hp
              have hX9 := (hXb.new (y := ((3, 5, nu), uO tm (eK E k) a b)) hnq).addU (k := (tm, k, a, b)) hF4 (hF4 _ _ _ (by simp) hq) hL1
              have hX1 : G8 x = some ((3, 0, 0), xO lu lt con) := hX9.1
              refine lv_pop hx hb dX1_cue_81 rfl ?_
              refine lv_aload_n hx hb dX1_cue_82 rfl (lv_at hl 1 rfl) ?_
              refine g_get (C := RX1) (T := TX1) (N := 3) (v := .ref lu) hx hb hts in_X1 hown hE hI hX1 rfl 0 (by decide) q143 (fun _ h9 => h9) rfl dX1_cue_83 ?_
              refine g_ci0 (G := G8) (v := nI (nu + 1)) hS (va_runV (As := []) (rest := []) ⟨hx, hb, hml, hown, hts⟩ (m_size l E G8 (3, 1, 0) (3, 2, 0) lu el' (nu + 1) (va_up uA nu q) hL1) (cwV 0 hts (lw_V q161 q162 q163 q34 q164) rfl rfl rfl (by decide +kernel) ⟨Nat.le_of_ble_eq_true rfl, Nat.le_of_ble_eq_true rfl⟩) (g_preV hE hI (hL1.recv hE hI)) rfl rfl hl.1 rfl (lv_room (Nat.le_of_ble_eq_true rfl)) dX1_cue_86 ⟨Nat.le_of_ble_eq_true rfl, Nat.le_of_ble_eq_true rfl⟩) (fun H locs hI hS => ?_)
              refine lv_iconst (v := 1) hx hb dX1_cue_89 (by decide) ?_
              refine lv_isub hx hb dX1_cue_90 ?_
              refine vx_ret ?_
              exact g_iret hx hb hr hlk hI hS dX1_cue_91 (Nat.le_of_ble_eq_true rfl) (Nat.le_of_ble_eq_true rfl) (⟨(if_neg h1).trans ((if_neg h2).trans ((if_neg h3).trans (if_pos hlt))), nI_pred nu, _, by unfold cueS; rw [hcl]; exact hX9, fun b t e hb hg => hF4 b t e (fun z => hb (by rcases z with z | z <;> rw [z] <;> decide)) (hFn (fun _ => False) b t e id (hmx hg))⟩)
