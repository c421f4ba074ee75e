/-! CONTRACTS of StarConsole: pass, lasts, foresee, the constructor. Printed by gen/p34.py -/
set_option maxRecDepth 100000
set_option maxHeartbeats 4000000 in
set_option maxRecDepth 100000 in
theorem m_pass2 (l : Launch) (E : EnvT) (G : Gh) (x lu lt c0 : Nat) (hX0 : G x = some ((3, 0, 0), xO lu lt c0)) (eu nu : Nat) (uA : Nat → Nat) (uq : Nat → Um) (hU : URep E G 3 lu eu nu uA uq) (o : Nat) (A : CA) (w : Cn) (hR : CRep E G o A w) (ho : 3 ≠ o) (hok : ∀ i, i < nu → uOk w.2.1.1 (uq i)) (t : Nat) (ht : t ≤ 500) : Met l yX1_pass_2 (ws_ yX1_pass_2 cX1_pass_2 5 (some .int)) ({ frames := 10, cells := 2 * ((passS uq nu w t).1.2.2.1 - w.2.2.1), slots := 39 * ((passS uq nu w t).1.2.2.1 - w.2.2.1), locals := 241 } : Room) (cP E G [.ref x, .ref A.1, .int (nI t)]) (cI E (fun r G' => r = (passS uq nu w t).2 ∧ ∃ kB, CRep E G' o (A.1, A.2.1, A.2.2.1, A.2.2.2.1, kB) (passS uq nu w t).1 ∧ Fr (Ow o) G G')) (2 * ((passS uq nu w t).1.2.2.1 - w.2.2.1)) (39 * ((passS uq nu w t).1.2.2.1 - w.2.2.1)) (eA E) := by
  refine g_met (av := [.ref x, .ref A.1, .int (nI t)]) (lv := [(0, .ref x), (1, .ref A.1), (2, .int (nI t))]) (by decide) (Nat.le_of_ble_eq_true rfl) rfl ?_
  intro p e s m below meth c ls hx hb hr hlk hml hin hts hown hE hI hL hS hl
  refine lv_iconst (v := 0) hx hb dX1_pass_2_0 (by decide) ?_
  refine lv_istore_n (lv' := [(3, .int 0), (0, .ref x), (1, .ref A.1), (2, .int (nI t))]) hx hb dX1_pass_2_1 rfl hl (by decide) rfl (fun ls hl => ?_)
  refine lv_iconst (v := 0) hx hb dX1_pass_2_2 (by decide) ?_
  refine lv_istore (lv' := [(4, .int 0), (3, .int 0), (0, .ref x), (1, .ref A.1), (2, .int (nI t))]) hx hb dX1_pass_2_3 hl (by decide) rfl (fun ls hl => ?_)
  refine W.widen (k := 2 * ((passS uq nu w 0).1.2.2.1 - w.2.2.1)) (n := 39 * ((passS uq nu w 0).1.2.2.1 - w.2.2.1)) (Nat.zero_le _) (Nat.zero_le _) ?_
  refine g_loop3 (A1 := Nat) (A2 := Gh) (A3 := (Nat → Nat)) (fun i Gi kB H locs ls => i ≤ t ∧ CRep E Gi o (A.1, A.2.1, A.2.2.1, A.2.2.2.1, kB) (passS uq nu w i).1 ∧ Fr (Ow o) G Gi ∧ Inv E Gi H ∧ va_S (eA E) s.heap H locs ∧ lv_has ls 5 [(0, .ref x), (1, .ref A.1), (2, .int (nI t)), (3, .int ((passS uq nu w i).2)), (4, .int (nI i))]) (fun i Gi kB => 2 * ((passS uq nu w i).1.2.2.1 - w.2.2.1)) (fun i Gi kB => 39 * ((passS uq nu w i).1.2.2.1 - w.2.2.1)) (fun i Gi kB => t - i) ?_ 0 G A.2.2.2.2 _ _ _ ⟨Nat.zero_le _, hR, Fr.rf, hI, hS, lv_sub hl [2, 3, 4, 1, 0] rfl⟩
  intro i Gi kB ih1 H locs ls hst
  obtain ⟨hi, hCr, hFr, hI, hS, hl⟩ := hst
  refine lv_iload hx hb dX1_pass_2_5 (lv_at hl 4 rfl) ?_
  refine lv_iload_n hx hb dX1_pass_2_7 rfl (lv_at hl 2 rfl) ?_
  refine lv_icmp_ge (tgt := 28) hx hb dX1_pass_2_8 (by decide) (fun c1 => ?_) (fun c1 => ?_)
  · have ei : i = t := (Nat.lt_or_ge i t).elim (fun z => absurd c1 (nI_ge z (by omega))) (fun z => by omega)
    subst ei
    refine lv_iload_n hx hb dX1_pass_2_28 rfl (lv_at hl 3 rfl) ?_
    exact g_iret hx hb hr hlk hI hS dX1_pass_2_29 (Nat.le_refl _) (Nat.le_refl _) (⟨rfl, kB, hCr, hFr⟩)
  · have hlt : i < t := (Nat.lt_or_ge i t).elim id (fun z => absurd (nI_le z (by omega)) c1)
    have m1 := passS_mono uq nu w (i + 1) (t - (i + 1))
    rw [show i + 1 + (t - (i + 1)) = t by omega, passS_s] at m1
    have m0 := (passS_nc uq nu w i).1
    have m2 := (runW_nc uq nu (passS uq nu w i).1).1
    have hX0 : Gi x = some ((3, 0, 0), xO lu lt c0) := hFr _ _ _ ho hX0
    have hUi := hU.fr hFr (Ow.ne ho)
    have hCc : Gi A.1 = some ((o, 0, 0), coOt (passS uq nu w i).1.1 A.2.1 A.2.2.1) := hCr.1
    refine lv_iload_n hx hb dX1_pass_2_11 rfl (lv_at hl 3 rfl) ?_
    refine lv_aload_n hx hb dX1_pass_2_12 rfl (lv_at hl 1 rfl) ?_
    refine lv_aload_n hx hb dX1_pass_2_13 rfl (lv_at hl 0 rfl) ?_
    refine g_get (C := RX1) (T := TX1) (N := 3) (v := .ref lu) hx hb hts in_X1 hown hE hI hX0 rfl 0 (by decide) q143 (fun _ h9 => h9) rfl dX1_pass_2_14 ?_
    refine g_ci hS (va_runV (As := [.ref lu]) (rest := [.int ((passS uq nu w i).2)]) ⟨hx, hb, hml, hown, hts⟩ (m_Cpass l E Gi o (A.1, A.2.1, A.2.2.1, A.2.2.2.1, kB) (passS uq nu w i).1 hCr 3 lu eu nu uA uq ho hUi (by rw [passS_nd]; exact hok)) (cwV 1 hts (lw_V q676 q677 q678 q35 q679) rfl rfl rfl (by decide +kernel) ⟨Nat.le_of_ble_eq_true rfl, Nat.le_of_ble_eq_true rfl⟩) (g_preV hE hI (g_recv hE hI hCc rfl)) rfl rfl hl.1 rfl (lv_room (Nat.le_of_ble_eq_true rfl)) dX1_pass_2_17 ⟨(by show _ ≤ 2 * ((passS uq nu w t).1.2.2.1 - w.2.2.1); omega), (by show _ ≤ 39 * ((passS uq nu w t).1.2.2.1 - w.2.2.1); omega)⟩) (fun r G1 H locs hp hI hS => ?_)
    obtain ⟨rfl, kC, hC1, hF1⟩ := hp
    refine lv_iadd hx hb dX1_pass_2_20 ?_
    refine lv_istore_n (lv' := [(3, .int ((passS uq nu w i).2 + (tickW uq nu (passS uq nu w i).1).2)), (0, .ref x), (1, .ref A.1), (2, .int (nI t)), (4, .int (nI i))]) hx hb dX1_pass_2_21 rfl hl (by decide) rfl (fun ls hl => ?_)
    refine lv_iinc (v := nI (i + 1)) (lv' := [(4, .int (nI (i + 1))), (3, .int ((passS uq nu w i).2 + (tickW uq nu (passS uq nu w i).1).2)), (0, .ref x), (1, .ref A.1), (2, .int (nI t))]) hx hb dX1_pass_2_22 hl (k := 4) rfl (nI_1 (i)) (by decide) rfl (fun ls hl => ?_)
    refine lv_goto (tgt := 5) hx hb dX1_pass_2_25 (by decide) ?_
    have hl : lv_has ls 5 [(4, .int (nI (i + 1))), (3, .int ((passS uq nu w (i + 1)).2)), (0, .ref x), (1, .ref A.1), (2, .int (nI t))] := hl
    refine W.widen (k := 2 * ((passS uq nu w (i + 1)).1.2.2.1 - w.2.2.1)) (n := 39 * ((passS uq nu w (i + 1)).1.2.2.1 - w.2.2.1)) (by rw [passS_s]; omega) (by rw [passS_s]; omega) ?_
    exact ih1 (i + 1) G1 kC _ _ _ (by omega) ⟨hlt, hC1, Fr.trans hFr hF1, hI, hS, lv_sub hl [2, 3, 4, 1, 0] rfl⟩
set_option maxHeartbeats 4000000 in
set_option maxRecDepth 100000 in
theorem m_Xpass (l : Launch) (E : EnvT) (G : Gh) (hst : l.stackTraces = false) (x : Nat) (B : XA) (σ : Sy) (hXR : XRep E G x B σ) (hnd : σ.1.2.1.1 ≤ 8) (hnc : σ.1.2.2.1 ≤ 12) (hok : ∀ i, i < σ.2.1.1 → uOk σ.1.2.1.1 (σ.2.1.2 i)) (n : Int32) : vx_Met l yX1_pass (ws_ yX1_pass cX1_pass 2 (some .int)) ({ frames := 11, cells := 25, slots := 480, locals := 265 } : Room) (cP E G [.ref x, .int n]) (cI E (fun r G' => pasR n = 0 ∧ r = (passS σ.2.1.2 σ.2.1.1 σ.1 n.toNatClampNeg).2 ∧ ∃ B', XRep E G' x B' ((passS σ.2.1.2 σ.2.1.1 σ.1 n.toNatClampNeg).1, σ.2) ∧ Fr Sys G G')) (cX E (fun X G' => X = xIAE ∧ pasR n = 1 ∧ G' = G)) 25 480 (eA E) := by
  obtain ⟨⟨con, ld, lc, dA, kA⟩, ⟨lu, uA⟩, ⟨lt, sA⟩⟩ := B
  obtain ⟨⟨⟨tk, ck, rn, an, sp, ln, lf⟩, ⟨nd, dm⟩, ⟨nc, km⟩⟩, ⟨nu, uq⟩, ⟨ns, st⟩⟩ := σ
  refine g_xmet (rm := ({ frames := 11, cells := 25, slots := 480, locals := 265 } : Room)) (av := [.ref x, .int n]) (lv := [(0, .ref x), (1, .int n)]) (by decide) (Nat.le_of_ble_eq_true rfl) rfl ?_
  intro p e s m below meth c ls hx hb hr hlk hml hno hts hown hE hI hL hS hl
  have hXR0 := hXR
  obtain ⟨hX0, hR, ⟨eu, hU⟩, ⟨et, hlt0⟩, hst0⟩ := hXR0
  have hX0 : G x = some ((3, 0, 0), xO lu lt con) := hX0
  have hR : CRep E G 1 (con, ld, lc, dA, kA) ((tk, ck, rn, an, sp, ln, lf), (nd, dm), (nc, km)) := hR
  have hU : URep E G 3 lu eu nu uA uq := hU
  have hlt0 : LRep E G (3, 3, 0) (3, 4, 0) lt et ns sA := hlt0
  have hst0 : ∀ k, k < ns → G (sA k) = some ((3, 6, k), sOt (st k)) := hst0
  have hR0 := hR
  obtain ⟨hcon, ⟨ed, hld⟩, ⟨ec, hlc⟩, hd, hk⟩ := hR0
  have hcon : G con = some ((1, 0, 0), coO tk ck rn an sp ln lf ld lc) := hcon
  have hld : LRep E G (1, 1, 0) (1, 2, 0) ld ed nd dA := hld
  have hlc : LRep E G (1, 3, 0) (1, 4, 0) lc ec nc kA := hlc
  have hd : ∀ k, k < nd → G (dA k) = some ((1, 5, k), dOt (dm k)) := hd
  have hk : ∀ k, k < nc → G (kA k) = some ((1, 6, k), kOt (km k)) := hk
  have hn1 : nd ≤ 36 := hld.n36
  have hn2 : nc ≤ 36 := hlc.n36
  have hn3 : nu ≤ 36 := hU.1.n36
  have hn4 : ns ≤ 36 := hlt0.n36
  refine lv_iconst (v := 1) hx hb dX1_pass_0 (by decide) ?_
  refine lv_sipush (v := 500) hx hb dX1_pass_1 (by decide) ?_
  refine lv_iload_n hx hb dX1_pass_4 rfl (lv_at hl 1 rfl) ?_
  refine g_xv hS (vx_runS (As := [.int 1, .int 500, .int n]) (rest := []) ⟨hx, hb, hml, hown, hts⟩ (m_requireFrom l E G hst 1 500 n) (va_cwS 3 hts (lw_S q301 q302 q31 q303) rfl rfl rfl (by decide +kernel) ⟨Nat.le_of_ble_eq_true rfl, Nat.le_of_ble_eq_true rfl⟩) (g_preS hE hI) rfl rfl hl.1 rfl (lv_room (Nat.le_of_ble_eq_true rfl)) dX1_pass_5 ⟨Nat.le_of_ble_eq_true rfl, Nat.le_of_ble_eq_true rfl⟩) (fun X ce q9 G1 H locs hp hI hS k1 k2 k3 => ?_) (fun G1 H locs hp hI hS => ?_)
  · obtain ⟨rfl, h1, hG1⟩ := hp
    exact g_xout hno hlk hI hS k1 k2 k3 (Nat.le_of_ble_eq_true rfl) (Nat.le_of_ble_eq_true rfl) (⟨rfl, if_pos h1, hG1⟩)
  · obtain ⟨h1, hG1⟩ := hp
    rw [hG1] at hI
    obtain ⟨t, ht, hnt⟩ := isIn_idx1 (n := 500) (by decide) h1
    have hcl : n.toNatClampNeg = t := by rw [hnt]; exact nI_clamp (by omega)
    have hnc : nc ≤ 12 := hnc
    have m0 := (passS_nc uq nu ((tk, ck, rn, an, sp, ln, lf), (nd, dm), (nc, km)) t).2 hnc
    subst hnt
    refine lv_aload_n hx hb dX1_pass_8 rfl (lv_at hl 0 rfl) ?_
    refine lv_aload_n hx hb dX1_pass_9 rfl (lv_at hl 0 rfl) ?_
    refine g_get (C := RX1) (T := TX1) (N := 3) (v := .ref con) hx hb hts in_X1 hown hE hI hX0 rfl 2 (by decide) q145 (fun _ h9 => h9) rfl dX1_pass_10 ?_
    refine lv_iload_n hx hb dX1_pass_13 rfl (lv_at hl 1 rfl) ?_
    have m1 : (passS uq nu ((tk, ck, rn, an, sp, ln, lf), (nd, dm), (nc, km)) t).1.2.2.1 - nc ≤ 12 := by omega
    refine g_ci hS (va_runV (As := [.ref con, .int (nI t)]) (rest := []) ⟨hx, hb, hml, hown, hts⟩ (m_pass2 l E G x lu lt con hX0 eu nu uA uq hU 1 (con, ld, lc, dA, kA) ((tk, ck, rn, an, sp, ln, lf), (nd, dm), (nc, km)) hR (by decide) hok t ht) (cwV 2 hts (lw_V q672 q674 qs9 q31 q675) rfl rfl rfl (by decide +kernel) ⟨Nat.le_of_ble_eq_true rfl, Nat.le_of_ble_eq_true rfl⟩) (g_preV hE hI (g_recv hE hI hX0 rfl)) rfl rfl hl.1 rfl (lv_room (Nat.le_of_ble_eq_true rfl)) dX1_pass_14 ⟨(by show _ + 2 * ((passS uq nu ((tk, ck, rn, an, sp, ln, lf), (nd, dm), (nc, km)) t).1.2.2.1 - nc) ≤ 25; omega), (by show _ + 39 * ((passS uq nu ((tk, ck, rn, an, sp, ln, lf), (nd, dm), (nc, km)) t).1.2.2.1 - nc) ≤ 480; omega)⟩) (fun r G1 H locs hp hI hS => ?_)
    obtain ⟨rfl, kB, hC1, hF1⟩ := hp
    refine vx_ret ?_
    exact g_iret hx hb hr hlk hI hS dX1_pass_17 (by show _ + 2 * ((passS uq nu ((tk, ck, rn, an, sp, ln, lf), (nd, dm), (nc, km)) t).1.2.2.1 - nc) ≤ 25; omega) (by show _ + 39 * ((passS uq nu ((tk, ck, rn, an, sp, ln, lf), (nd, dm), (nc, km)) t).1.2.2.1 - nc) ≤ 480; omega) (⟨if_neg h1, by rw [hcl], (((con, ld, lc, dA, kB) : CA), (lu, uA), (lt, sA)), by rw [hcl]; exact hXR.con hF1 hC1 rfl, hF1.sys1⟩)
set_option maxHeartbeats 4000000 in
set_option maxRecDepth 100000 in
theorem m_isFore (l : Launch) (E : EnvT) (G : Gh) (v : Int32) : Met l yX1_isForeseen (ws_ yX1_isForeseen cX1_isForeseen 1 (some .boolean)) ({ frames := 0, cells := 0, slots := 0, locals := 0 } : Room) (cP E G [.int v]) (cI E (fun r G' => r = foV v ∧ G' = G)) 0 0 (eA E) := by
  refine g_met (rm := ({ frames := 0, cells := 0, slots := 0, locals := 0 } : Room)) (av := [.int v]) (lv := [(0, .int v)]) (by decide) (Nat.le_of_ble_eq_true rfl) rfl ?_
  intro p e s m below meth c ls hx hb hr hlk hml hin hts hown hE hI hL hS hl
  refine lv_iload_n hx hb dX1_isForeseen_0 rfl (lv_at hl 0 rfl) ?_
  refine lv_iconst (v := 1) hx hb dX1_isForeseen_1 (by decide) ?_
  refine lv_icmp_eq (tgt := 28) hx hb dX1_isForeseen_2 (by decide) (fun c0 => ?_) (fun c0 => ?_)
  · refine lv_iconst (v := 1) hx hb dX1_isForeseen_28 (by decide) ?_
    refine lv_goto (tgt := 33) hx hb dX1_isForeseen_29 (by decide) ?_
    exact g_zret hx hb hr hlk hI hS dX1_isForeseen_33 (Nat.le_of_ble_eq_true rfl) (Nat.le_of_ble_eq_true rfl) rfl (⟨(by unfold foV; rw [if_pos c0]), rfl⟩)
  · refine lv_iload_n hx hb dX1_isForeseen_5 rfl (lv_at hl 0 rfl) ?_
    refine lv_iconst (v := 5) hx hb dX1_isForeseen_6 (by decide) ?_
    refine lv_icmp_eq (tgt := 28) hx hb dX1_isForeseen_7 (by decide) (fun c1 => ?_) (fun c1 => ?_)
    · refine lv_iconst (v := 1) hx hb dX1_isForeseen_28 (by decide) ?_
      refine lv_goto (tgt := 33) hx hb dX1_isForeseen_29 (by decide) ?_
      exact g_zret hx hb hr hlk hI hS dX1_isForeseen_33 (Nat.le_of_ble_eq_true rfl) (Nat.le_of_ble_eq_true rfl) rfl (⟨(by unfold foV; rw [if_neg c0, if_pos c1]), rfl⟩)
    · refine lv_iload_n hx hb dX1_isForeseen_10 rfl (lv_at hl 0 rfl) ?_
      refine lv_bipush (v := 7) hx hb dX1_isForeseen_11 (by decide) ?_
      refine lv_icmp_eq (tgt := 28) hx hb dX1_isForeseen_13 (by decide) (fun c2 => ?_) (fun c2 => ?_)
      · refine lv_iconst (v := 1) hx hb dX1_isForeseen_28 (by decide) ?_
        refine lv_goto (tgt := 33) hx hb dX1_isForeseen_29 (by decide) ?_
        exact g_zret hx hb hr hlk hI hS dX1_isForeseen_33 (Nat.le_of_ble_eq_true rfl) (Nat.le_of_ble_eq_true rfl) rfl (⟨(by unfold foV; rw [if_neg c0, if_neg c1, if_pos c2]), rfl⟩)
      · refine lv_iload_n hx hb dX1_isForeseen_16 rfl (lv_at hl 0 rfl) ?_
        refine lv_bipush (v := 8) hx hb dX1_isForeseen_17 (by decide) ?_
        refine lv_icmp_eq (tgt := 28) hx hb dX1_isForeseen_19 (by decide) (fun c3 => ?_) (fun c3 => ?_)
        · refine lv_iconst (v := 1) hx hb dX1_isForeseen_28 (by decide) ?_
          refine lv_goto (tgt := 33) hx hb dX1_isForeseen_29 (by decide) ?_
          exact g_zret hx hb hr hlk hI hS dX1_isForeseen_33 (Nat.le_of_ble_eq_true rfl) (Nat.le_of_ble_eq_true rfl) rfl (⟨(by unfold foV; rw [if_neg c0, if_neg c1, if_neg c2, if_pos c3]), rfl⟩)
        · refine lv_iload_n hx hb dX1_isForeseen_22 rfl (lv_at hl 0 rfl) ?_
          refine lv_bipush (v := 11) hx hb dX1_isForeseen_23 (by decide) ?_
          refine lv_icmp_ne (tgt := 32) hx hb dX1_isForeseen_25 (by decide) (fun c4 => ?_) (fun c4 => ?_)
          · refine lv_iconst (v := 0) hx hb dX1_isForeseen_32 (by decide) ?_
            exact g_zret hx hb hr hlk hI hS dX1_isForeseen_33 (Nat.le_of_ble_eq_true rfl) (Nat.le_of_ble_eq_true rfl) rfl (⟨(by unfold foV; rw [if_neg c0, if_neg c1, if_neg c2, if_neg c3, if_neg c4]), rfl⟩)
          · refine lv_iconst (v := 1) hx hb dX1_isForeseen_28 (by decide) ?_
            refine lv_goto (tgt := 33) hx hb dX1_isForeseen_29 (by decide) ?_
            exact g_zret hx hb hr hlk hI hS dX1_isForeseen_33 (Nat.le_of_ble_eq_true rfl) (Nat.le_of_ble_eq_true rfl) rfl (⟨(by unfold foV; rw [if_neg c0, if_neg c1, if_neg c2, if_neg c3, if_pos c4]), rfl⟩)
set_option maxHeartbeats 4000000 in
set_option maxRecDepth 100000 in
theorem m_Xlasts (l : Launch) (E : EnvT) (G : Gh) (hst : l.stackTraces = false) (x : Nat) (B : XA) (σ : Sy) (hXR : XRep E G x B σ) (hnd : σ.1.2.1.1 ≤ 8) (hnc : σ.1.2.2.1 ≤ 12) (hok : ∀ i, i < σ.2.1.1 → uOk σ.1.2.1.1 (σ.2.1.2 i)) (hrn : σ.1.1.2.2.1 = 0 ∨ σ.1.1.2.2.1 = 1) (d : Int32) : vx_Met l yX1_lasts (ws_ yX1_lasts cX1_lasts 4 (some .int)) ({ frames := 10, cells := 70, slots := 1300, locals := 241 } : Room) (cP E G [.ref x, .int d]) (cI E (fun r G' => oneR σ.1.2.1.1 d = 0 ∧ r = lsV σ.2.1.2 σ.2.1.1 σ.1 d.toNatClampNeg 501 0 ∧ ∃ B', XRep E G' x B' σ ∧ Fr Sys G G')) (cX E (fun X G' => X = xIOB ∧ oneR σ.1.2.1.1 d = 1 ∧ G' = G)) 70 1300 (eA E) := by
  obtain ⟨⟨con, ld, lc, dA, kA⟩, ⟨lu, uA⟩, ⟨lt, sA⟩⟩ := B
  obtain ⟨⟨⟨tk, ck, rn, an, sp, ln, lf⟩, ⟨nd, dm⟩, ⟨nc, km⟩⟩, ⟨nu, uq⟩, ⟨ns, st⟩⟩ := σ
  refine g_xmet (rm := ({ frames := 10, cells := 70, slots := 1300, locals := 241 } : Room)) (av := [.ref x, .int d]) (lv := [(0, .ref x), (1, .int d)]) (by decide) (Nat.le_of_ble_eq_true rfl) rfl ?_
  intro p e s m below meth c ls hx hb hr hlk hml hno hts hown hE hI hL hS hl
  have hXR0 := hXR
  obtain ⟨hX0, hR, ⟨eu, hU⟩, ⟨et, hlt0⟩, hst0⟩ := hXR0
  have hX0 : G x = some ((3, 0, 0), xO lu lt con) := hX0
  have hR : CRep E G 1 (con, ld, lc, dA, kA) ((tk, ck, rn, an, sp, ln, lf), (nd, dm), (nc, km)) := hR
  have hU : URep E G 3 lu eu nu uA uq := hU
  have hlt0 : LRep E G (3, 3, 0) (3, 4, 0) lt et ns sA := hlt0
  have hst0 : ∀ k, k < ns → G (sA k) = some ((3, 6, k), sOt (st k)) := hst0
  have hR0 := hR
  obtain ⟨hcon, ⟨ed, hld⟩, ⟨ec, hlc⟩, hd, hk⟩ := hR0
  have hcon : G con = some ((1, 0, 0), coO tk ck rn an sp ln lf ld lc) := hcon
  have hld : LRep E G (1, 1, 0) (1, 2, 0) ld ed nd dA := hld
  have hlc : LRep E G (1, 3, 0) (1, 4, 0) lc ec nc kA := hlc
  have hd : ∀ k, k < nd → G (dA k) = some ((1, 5, k), dOt (dm k)) := hd
  have hk : ∀ k, k < nc → G (kA k) = some ((1, 6, k), kOt (km k)) := hk
  have hn1 : nd ≤ 36 := hld.n36
  have hn2 : nc ≤ 36 := hlc.n36
  have hn3 : nu ≤ 36 := hU.1.n36
  have hn4 : ns ≤ 36 := hlt0.n36
  have hnd : nd ≤ 8 := hnd
  have hnc : nc ≤ 12 := hnc
  have hrn : rn = 0 ∨ rn = 1 := hrn
  have hok : ∀ i, i < nu → uOk nd (uq i) := hok
  refine lv_aload_n hx hb dX1_lasts_0 rfl (lv_at hl 0 rfl) ?_
  refine g_get (C := RX1) (T := TX1) (N := 3) (v := .ref con) hx hb hts in_X1 hown hE hI hX0 rfl 2 (by decide) q145 (fun _ h9 => h9) rfl dX1_lasts_1 ?_
  refine g_getN (C := RX2) (T := TX2) (N := 9) (v := .ref ld) hx hb hts in_X2 hown hE hI hcon rfl 7 (by decide) q120 (fun _ h9 => h9) rfl dX1_lasts_4 ?_
  refine lv_iload_n hx hb dX1_lasts_7 rfl (lv_at hl 1 rfl) ?_
  refine g_xr hS (vx_runS (As := [.ref ld, .int d]) (rest := []) ⟨hx, hb, hml, hown, hts⟩ (m_known l E G hst (1, 1, 0) (1, 2, 0) ld ed nd dA hld d) (va_cwS 2 hts (lw_S q524 q525 q31 q526) rfl rfl rfl (by decide +kernel) ⟨Nat.le_of_ble_eq_true rfl, Nat.le_of_ble_eq_true rfl⟩) (g_preS hE hI) rfl rfl hl.1 rfl (lv_room (Nat.le_of_ble_eq_true rfl)) dX1_lasts_8 ⟨Nat.le_of_ble_eq_true rfl, Nat.le_of_ble_eq_true rfl⟩) (fun X ce q9 G1 H locs hp hI hS k1 k2 k3 => ?_) (fun r G1 H locs hp hI hS => ?_)
  · obtain ⟨rfl, hc, hG1⟩ := hp
    exact g_xout hno hlk hI hS k1 k2 k3 (Nat.le_of_ble_eq_true rfl) (Nat.le_of_ble_eq_true rfl) (⟨rfl, if_pos hc, hG1⟩)
  · obtain ⟨k, hkn, hik, rfl, hG1⟩ := hp
    rw [hG1] at hI
    have hno1 : ¬ outI d nd := by rw [hik]; exact fun z => z.elim (nI_pos (by omega)) (nI_ge hkn (by omega))
    have hcl : d.toNatClampNeg = k := by rw [hik]; exact nI_clamp (by omega)
    subst hik
    refine lv_pop hx hb dX1_lasts_11 rfl ?_
    refine lv_aload_n hx hb dX1_lasts_12 rfl (lv_at hl 0 rfl) ?_
    refine g_get (C := RX1) (T := TX1) (N := 3) (v := .ref con) hx hb hts in_X1 hown hE hI hX0 rfl 2 (by decide) q145 (fun _ h9 => h9) rfl dX1_lasts_13 ?_
    refine g_cr hS (va_runV (As := []) (rest := []) ⟨hx, hb, hml, hown, hts⟩ (m_Ccopy l E G 1 (con, ld, lc, dA, kA) ((tk, ck, rn, an, sp, ln, lf), (nd, dm), (nc, km)) hR 2 (by decide) hnd hnc hrn) (cwV 0 hts (lw_V q808 q809 q810 q35 q811) rfl rfl rfl (by decide +kernel) ⟨Nat.le_of_ble_eq_true rfl, Nat.le_of_ble_eq_true rfl⟩) (g_preV hE hI (g_recv hE hI hcon rfl)) rfl rfl hl.1 rfl (lv_room (Nat.le_of_ble_eq_true rfl)) dX1_lasts_16 ⟨(by first | (show _ ≤ 70; omega) | (dsimp only; omega)), (by first | (show _ ≤ 1300; omega) | (dsimp only; omega))⟩) (fun r G1 H locs hp hI hS => ?_)
    obtain ⟨A2, hA2, hC2, hF2⟩ := hp
    subst hA2
    have hX1 := hXR.fr hF2 (fun t z => by rw [show t.1 = 2 from z]; decide)
    have hX0 : G1 x = some ((3, 0, 0), xO lu lt con) := hX1.1
    have hU1 : URep E G1 3 lu eu nu uA uq := hU.fr hF2 (fun t z => by rw [show t.1 = 2 from z]; decide)
    refine W.widen (k := 44) (n := 817) (by first | omega | (dsimp only; omega)) (by first | omega | (dsimp only; omega)) ?_
    refine lv_astore_n (lv' := [(2, .ref A2.1), (0, .ref x), (1, .int (nI k))]) hx hb dX1_lasts_19 rfl hl (by decide) rfl (fun ls hl => ?_)
    refine lv_iconst (v := 0) hx hb dX1_lasts_20 (by decide) ?_
    refine lv_istore_n (lv' := [(3, .int 0), (2, .ref A2.1), (0, .ref x), (1, .int (nI k))]) hx hb dX1_lasts_21 rfl hl (by decide) rfl (fun ls hl => ?_)
    refine W.widen (k := 44 + 2 * ((passS uq nu ((tk, ck, rn, an, sp, ln, lf), (nd, dm), (nc, km)) 0).1.2.2.1 - nc)) (n := 817 + 39 * ((passS uq nu ((tk, ck, rn, an, sp, ln, lf), (nd, dm), (nc, km)) 0).1.2.2.1 - nc)) (Nat.le_add_right _ _) (Nat.le_add_right _ _) ?_
    refine g_loop3 (A1 := Nat) (A2 := Gh) (A3 := (Nat → Nat)) (fun i Gi kB H locs ls => i ≤ 501 ∧ lsV uq nu ((tk, ck, rn, an, sp, ln, lf), (nd, dm), (nc, km)) k 501 0 = lsV uq nu ((tk, ck, rn, an, sp, ln, lf), (nd, dm), (nc, km)) k (501 - i) i ∧ CRep E Gi 2 (A2.1, A2.2.1, A2.2.2.1, A2.2.2.2.1, kB) (passS uq nu ((tk, ck, rn, an, sp, ln, lf), (nd, dm), (nc, km)) i).1 ∧ Fr (Ow 2) G Gi ∧ Inv E Gi H ∧ va_S (eA E) s.heap H locs ∧ lv_has ls 4 [(0, .ref x), (1, .int (nI k)), (2, .ref A2.1), (3, .int (nI i))]) (fun i Gi kB => 44 + 2 * ((passS uq nu ((tk, ck, rn, an, sp, ln, lf), (nd, dm), (nc, km)) i).1.2.2.1 - nc)) (fun i Gi kB => 817 + 39 * ((passS uq nu ((tk, ck, rn, an, sp, ln, lf), (nd, dm), (nc, km)) i).1.2.2.1 - nc)) (fun i Gi kB => 501 - i) ?_ 0 G1 A2.2.2.2.2 _ _ _ ⟨Nat.zero_le _, rfl, hC2, hF2, hI, hS, lv_sub hl [2, 3, 1, 0] rfl⟩
    intro i Gi kB ih1 H locs ls hst
    obtain ⟨hi, hls, hCr, hFr, hI, hS, hl⟩ := hst
    have m0 := passS_nc uq nu ((tk, ck, rn, an, sp, ln, lf), (nd, dm), (nc, km)) i
    have m1 : (passS uq nu ((tk, ck, rn, an, sp, ln, lf), (nd, dm), (nc, km)) i).1.2.2.1 - nc ≤ 12 := by have := m0.2 hnc; omega
    have mn : nc ≤ (passS uq nu ((tk, ck, rn, an, sp, ln, lf), (nd, dm), (nc, km)) i).1.2.2.1 := m0.1
    have hX2 := hXR.fr hFr (fun t z => by rw [show t.1 = 2 from z]; decide)
    have hX0 : Gi x = some ((3, 0, 0), xO lu lt con) := hX2.1
    have hU2 : URep E Gi 3 lu eu nu uA uq := hU.fr hFr (fun t z => by rw [show t.1 = 2 from z]; decide)
    have hCc : Gi A2.1 = some ((2, 0, 0), coOt (passS uq nu ((tk, ck, rn, an, sp, ln, lf), (nd, dm), (nc, km)) i).1.1 A2.2.1 A2.2.2.1) := hCr.1
    obtain ⟨ed2, hld2⟩ := hCr.2.1
    have hld2 : LRep E Gi (2, 1, 0) (2, 2, 0) A2.2.1 ed2 nd A2.2.2.2.1 := by have z := hld2; rw [passS_nd] at z; exact z
    refine lv_iload_n hx hb dX1_lasts_22 rfl (lv_at hl 3 rfl) ?_
    refine lv_sipush (v := 500) hx hb dX1_lasts_23 (by decide) ?_
    refine lv_icmp_gt (tgt := 63) hx hb dX1_lasts_26 (by decide) (fun c1 => ?_) (fun c1 => ?_)
    · have ei : i = 501 := (Nat.lt_or_ge i 501).elim (fun z => absurd c1 (Int32.not_lt.mpr (nI_le (a := i) (b := 500) (by omega) (by omega)))) (fun z => by omega)
      rw [ei] at hls
      refine lv_iconst (v := -1) hx hb dX1_lasts_63 (by decide) ?_
      refine vx_ret ?_
      exact g_iret hx hb hr hlk hI hS dX1_lasts_64 (by first | (show _ ≤ 70; omega) | (dsimp only; omega)) (by first | (show _ ≤ 1300; omega) | (dsimp only; omega)) (⟨if_neg hno1, by rw [hcl]; exact hls.symm, ⟨_, hX2, hFr.sys2⟩⟩)
    · have hlt : i ≤ 500 := (Nat.lt_or_ge i 501).elim (fun z => by omega) (fun z => absurd (nI_lt (a := 500) (b := i) (by omega) (by omega)) c1)
      have hl2 : lsV uq nu ((tk, ck, rn, an, sp, ln, lf), (nd, dm), (nc, km)) k (501 - i) i = if ((passS uq nu ((tk, ck, rn, an, sp, ln, lf), (nd, dm), (nc, km)) i).1.2.1.2 k).2.2.2.2 = 0 then nI i else lsV uq nu ((tk, ck, rn, an, sp, ln, lf), (nd, dm), (nc, km)) k (501 - (i + 1)) (i + 1) := by rw [show 501 - i = (501 - (i + 1)) + 1 by omega, lsV]
      have hdk : Gi (A2.2.2.2.1 k) = some ((2, 5, k), dOt ((passS uq nu ((tk, ck, rn, an, sp, ln, lf), (nd, dm), (nc, km)) i).1.2.1.2 k)) := hCr.2.2.2.1 k (by rw [passS_nd]; exact hkn)
      refine lv_aload_n hx hb dX1_lasts_29 rfl (lv_at hl 2 rfl) ?_
      refine g_getN (C := RX2) (T := TX2) (N := 9) (v := .ref A2.2.1) hx hb hts in_X2 hown hE hI hCc rfl 7 (by decide) q120 (fun _ h9 => h9) rfl dX1_lasts_30 ?_
      refine lv_iload_n hx hb dX1_lasts_33 rfl (lv_at hl 1 rfl) ?_
      refine g_cr0 (G := Gi) (v := A2.2.2.2.1 k) hS (va_runV (As := [.int (nI k)]) (rest := []) ⟨hx, hb, hml, hown, hts⟩ (m_get l E Gi (2, 1, 0) (2, 2, 0) A2.2.1 ed2 nd A2.2.2.2.1 hld2 k hkn) (cwV 1 hts (lw_V q165 q166 q167 q34 q168) rfl rfl rfl (by decide +kernel) ⟨Nat.le_of_ble_eq_true rfl, Nat.le_of_ble_eq_true rfl⟩) (g_preV hE hI (hld2.recv hE hI)) rfl rfl hl.1 rfl (lv_room (Nat.le_of_ble_eq_true rfl)) dX1_lasts_34 ⟨(by first | (show _ ≤ 70; omega) | (dsimp only; omega)), (by first | (show _ ≤ 1300; omega) | (dsimp only; omega))⟩) (fun H locs hI hS => ?_)
      refine g_cast hx hb hts hown q255 hE hI hdk rfl rfl dX1_lasts_37 ?_
      refine g_getN (C := RX4) (T := TX4) (N := 5) (v := .int (((passS uq nu ((tk, ck, rn, an, sp, ln, lf), (nd, dm), (nc, km)) i).1.2.1.2 k).2.2.2.2)) hx hb hts in_X4 hown hE hI hdk rfl 4 (by decide) q408 (fun _ h9 => h9) rfl dX1_lasts_40 ?_
      refine lv_if_ne (tgt := 48) hx hb dX1_lasts_43 (by decide) (fun c2 => ?_) (fun c2 => ?_)
      · rw [if_neg c2] at hl2
        have m3 := (passS_nc uq nu ((tk, ck, rn, an, sp, ln, lf), (nd, dm), (nc, km)) (i + 1))
        have m4 : (passS uq nu ((tk, ck, rn, an, sp, ln, lf), (nd, dm), (nc, km)) (i + 1)).1.2.2.1 ≤ 12 := m3.2 hnc
        rw [passS_s] at m4
        have m5 := (runW_nc uq nu (passS uq nu ((tk, ck, rn, an, sp, ln, lf), (nd, dm), (nc, km)) i).1).1
        refine lv_aload_n hx hb dX1_lasts_48 rfl (lv_at hl 2 rfl) ?_
        refine lv_aload_n hx hb dX1_lasts_49 rfl (lv_at hl 0 rfl) ?_
        refine g_get (C := RX1) (T := TX1) (N := 3) (v := .ref lu) hx hb hts in_X1 hown hE hI hX0 rfl 0 (by decide) q143 (fun _ h9 => h9) rfl dX1_lasts_50 ?_
        refine g_ci hS (va_runV (As := [.ref lu]) (rest := []) ⟨hx, hb, hml, hown, hts⟩ (m_Cpass l E Gi 2 (A2.1, A2.2.1, A2.2.2.1, A2.2.2.2.1, kB) (passS uq nu ((tk, ck, rn, an, sp, ln, lf), (nd, dm), (nc, km)) i).1 hCr 3 lu eu nu uA uq (by decide) hU2 (by rw [passS_nd]; exact hok)) (cwV 1 hts (lw_V q676 q677 q678 q35 q679) rfl rfl rfl (by decide +kernel) ⟨Nat.le_of_ble_eq_true rfl, Nat.le_of_ble_eq_true rfl⟩) (g_preV hE hI (g_recv hE hI hCc rfl)) rfl rfl hl.1 rfl (lv_room (Nat.le_of_ble_eq_true rfl)) dX1_lasts_53 ⟨(by first | (show _ ≤ 70; omega) | (dsimp only; omega)), (by first | (show _ ≤ 1300; omega) | (dsimp only; omega))⟩) (fun r G3 H locs hp hI hS => ?_)
        obtain ⟨rfl, kC, hC3, hF3⟩ := hp
        refine lv_pop hx hb dX1_lasts_56 rfl ?_
        refine lv_iinc (v := nI (i + 1)) (lv' := [(3, .int (nI (i + 1))), (0, .ref x), (1, .int (nI k)), (2, .ref A2.1)]) hx hb dX1_lasts_57 hl (k := 3) rfl (nI_1 (i)) (by decide) rfl (fun ls hl => ?_)
        refine lv_goto (tgt := 22) hx hb dX1_lasts_60 (by decide) ?_
        refine W.widen (k := 44 + 2 * ((passS uq nu ((tk, ck, rn, an, sp, ln, lf), (nd, dm), (nc, km)) (i + 1)).1.2.2.1 - nc)) (n := 817 + 39 * ((passS uq nu ((tk, ck, rn, an, sp, ln, lf), (nd, dm), (nc, km)) (i + 1)).1.2.2.1 - nc)) (by rw [passS_s]; omega) (by rw [passS_s]; omega) ?_
        exact ih1 (i + 1) G3 kC _ _ _ (by omega) ⟨by omega, hls.trans hl2, hC3, Fr.trans hFr hF3, hI, hS, lv_sub hl [1, 2, 3, 0] rfl⟩
      · rw [if_pos c2] at hl2
        refine lv_iload_n hx hb dX1_lasts_46 rfl (lv_at hl 3 rfl) ?_
        refine vx_ret ?_
        exact g_iret hx hb hr hlk hI hS dX1_lasts_47 (by first | (show _ ≤ 70; omega) | (dsimp only; omega)) (by first | (show _ ≤ 1300; omega) | (dsimp only; omega)) (⟨if_neg hno1, by rw [hcl]; exact (hls.trans hl2).symm, ⟨_, hX2, hFr.sys2⟩⟩)
set_option maxHeartbeats 4000000 in
set_option maxRecDepth 100000 in
theorem m_Xforesee (l : Launch) (E : EnvT) (G : Gh) (hst : l.stackTraces = false) (x : Nat) (B : XA) (σ : Sy) (hXR : XRep E G x B σ) (hnd : σ.1.2.1.1 ≤ 8) (hnc : σ.1.2.2.1 ≤ 12) (hok : ∀ i, i < σ.2.1.1 → uOk σ.1.2.1.1 (σ.2.1.2 i)) (hrn : σ.1.1.2.2.1 = 0 ∨ σ.1.1.2.2.1 = 1) (n what : Int32) : vx_Met l yX1_foresee (ws_ yX1_foresee cX1_foresee 4 (some .int)) ({ frames := 11, cells := 70, slots := 1300, locals := 265 } : Room) (cP E G [.ref x, .int n, .int what]) (cI E (fun r G' => forR n what = 0 ∧ r = cntV (passS σ.2.1.2 σ.2.1.1 σ.1 n.toNatClampNeg).1 σ.2.1.1 σ.2.2.1 σ.2.2.2 what ∧ ∃ B', XRep E G' x B' σ ∧ Fr Sys G G')) (cX E (fun X G' => (X = xIAE ∧ forR n what = 1 ∨ X = xIOB ∧ forR n what = 2) ∧ G' = G)) 70 1300 (eA E) := by
  obtain ⟨⟨con, ld, lc, dA, kA⟩, ⟨lu, uA⟩, ⟨lt, sA⟩⟩ := B
  obtain ⟨⟨⟨tk, ck, rn, an, sp, ln, lf⟩, ⟨nd, dm⟩, ⟨nc, km⟩⟩, ⟨nu, uq⟩, ⟨ns, st⟩⟩ := σ
  refine g_xmet (rm := ({ frames := 11, cells := 70, slots := 1300, locals := 265 } : Room)) (av := [.ref x, .int n, .int what]) (lv := [(0, .ref x), (1, .int n), (2, .int what)]) (by decide) (Nat.le_of_ble_eq_true rfl) rfl ?_
  intro p e s m below meth c ls hx hb hr hlk hml hno hts hown hE hI hL hS hl
  have hXR0 := hXR
  obtain ⟨hX0, hR, ⟨eu, hU⟩, ⟨et, hlt0⟩, hst0⟩ := hXR0
  have hX0 : G x = some ((3, 0, 0), xO lu lt con) := hX0
  have hR : CRep E G 1 (con, ld, lc, dA, kA) ((tk, ck, rn, an, sp, ln, lf), (nd, dm), (nc, km)) := hR
  have hU : URep E G 3 lu eu nu uA uq := hU
  have hlt0 : LRep E G (3, 3, 0) (3, 4, 0) lt et ns sA := hlt0
  have hst0 : ∀ k, k < ns → G (sA k) = some ((3, 6, k), sOt (st k)) := hst0
  have hR0 := hR
  obtain ⟨hcon, ⟨ed, hld⟩, ⟨ec, hlc⟩, hd, hk⟩ := hR0
  have hcon : G con = some ((1, 0, 0), coO tk ck rn an sp ln lf ld lc) := hcon
  have hld : LRep E G (1, 1, 0) (1, 2, 0) ld ed nd dA := hld
  have hlc : LRep E G (1, 3, 0) (1, 4, 0) lc ec nc kA := hlc
  have hd : ∀ k, k < nd → G (dA k) = some ((1, 5, k), dOt (dm k)) := hd
  have hk : ∀ k, k < nc → G (kA k) = some ((1, 6, k), kOt (km k)) := hk
  have hn1 : nd ≤ 36 := hld.n36
  have hn2 : nc ≤ 36 := hlc.n36
  have hn3 : nu ≤ 36 := hU.1.n36
  have hn4 : ns ≤ 36 := hlt0.n36
  have hnd : nd ≤ 8 := hnd
  have hnc : nc ≤ 12 := hnc
  have hrn : rn = 0 ∨ rn = 1 := hrn
  have hok : ∀ i, i < nu → uOk nd (uq i) := hok
  refine lv_iconst (v := 1) hx hb dX1_foresee_0 (by decide) ?_
  refine lv_sipush (v := 500) hx hb dX1_foresee_1 (by decide) ?_
  refine lv_iload_n hx hb dX1_foresee_4 rfl (lv_at hl 1 rfl) ?_
  refine g_xv hS (vx_runS (As := [.int 1, .int 500, .int n]) (rest := []) ⟨hx, hb, hml, hown, hts⟩ (m_requireFrom l E G hst 1 500 n) (va_cwS 3 hts (lw_S q301 q302 q31 q303) rfl rfl rfl (by decide +kernel) ⟨Nat.le_of_ble_eq_true rfl, Nat.le_of_ble_eq_true rfl⟩) (g_preS hE hI) rfl rfl hl.1 rfl (lv_room (Nat.le_of_ble_eq_true rfl)) dX1_foresee_5 ⟨Nat.le_of_ble_eq_true rfl, Nat.le_of_ble_eq_true rfl⟩) (fun X ce q9 G1 H locs hp hI hS k1 k2 k3 => ?_) (fun G1 H locs hp hI hS => ?_)
  · obtain ⟨rfl, h1, hG1⟩ := hp
    exact g_xout hno hlk hI hS k1 k2 k3 (Nat.le_of_ble_eq_true rfl) (Nat.le_of_ble_eq_true rfl) (⟨Or.inl ⟨rfl, if_pos h1⟩, hG1⟩)
  · obtain ⟨h1, hG1⟩ := hp
    rw [hG1] at hI
    obtain ⟨t, ht, hnt⟩ := isIn_idx1 (n := 500) (by decide) h1
    have hcl : n.toNatClampNeg = t := by rw [hnt]; exact nI_clamp (by omega)
    refine lv_iload_n hx hb dX1_foresee_8 rfl (lv_at hl 2 rfl) ?_
    refine g_ci0 (G := G) (v := foV what) hS (va_runS (As := [.int what]) (rest := []) ⟨hx, hb, hml, hown, hts⟩ (m_isFore l E G what) (va_cwS 1 hts (lw_S q834 q835 q31 q836) rfl rfl rfl (by decide +kernel) ⟨Nat.le_of_ble_eq_true rfl, Nat.le_of_ble_eq_true rfl⟩) (g_preS hE hI) rfl rfl hl.1 rfl (lv_room (Nat.le_of_ble_eq_true rfl)) dX1_foresee_9 ⟨Nat.le_of_ble_eq_true rfl, Nat.le_of_ble_eq_true rfl⟩) (fun H locs hI hS => ?_)
    refine lv_if_ne (tgt := 23) hx hb dX1_foresee_12 (by decide) (fun c1 => ?_) (fun c1 => ?_)
    · refine lv_aload_n hx hb dX1_foresee_23 rfl (lv_at hl 0 rfl) ?_
      refine g_get (C := RX1) (T := TX1) (N := 3) (v := .ref con) hx hb hts in_X1 hown hE hI hX0 rfl 2 (by decide) q145 (fun _ h9 => h9) rfl dX1_foresee_24 ?_
      refine g_cr hS (va_runV (As := []) (rest := []) ⟨hx, hb, hml, hown, hts⟩ (m_Ccopy l E G 1 (con, ld, lc, dA, kA) ((tk, ck, rn, an, sp, ln, lf), (nd, dm), (nc, km)) hR 2 (by decide) hnd hnc hrn) (cwV 0 hts (lw_V q808 q809 q810 q35 q811) rfl rfl rfl (by decide +kernel) ⟨Nat.le_of_ble_eq_true rfl, Nat.le_of_ble_eq_true rfl⟩) (g_preV hE hI (g_recv hE hI hcon rfl)) rfl rfl hl.1 rfl (lv_room (Nat.le_of_ble_eq_true rfl)) dX1_foresee_27 ⟨(by first | (show _ ≤ 70; omega) | (dsimp only; omega)), (by first | (show _ ≤ 1300; omega) | (dsimp only; omega))⟩) (fun r G1 H locs hp hI hS => ?_)
      obtain ⟨A2, hA2, hC2, hF2⟩ := hp
      subst hA2
      have hX1 := hXR.fr hF2 (fun t z => by rw [show t.1 = 2 from z]; decide)
      have hX0 : G1 x = some ((3, 0, 0), xO lu lt con) := hX1.1
      have hU1 : URep E G1 3 lu eu nu uA uq := hU.fr hF2 (fun t z => by rw [show t.1 = 2 from z]; decide)
      refine W.widen (k := 44) (n := 817) (by first | omega | (dsimp only; omega)) (by first | omega | (dsimp only; omega)) ?_
      have m0 := (passS_nc uq nu ((tk, ck, rn, an, sp, ln, lf), (nd, dm), (nc, km)) t).2 hnc
      have m1 : (passS uq nu ((tk, ck, rn, an, sp, ln, lf), (nd, dm), (nc, km)) t).1.2.2.1 - nc ≤ 12 := by omega
      subst hnt
      refine lv_astore_n (lv' := [(3, .ref A2.1), (0, .ref x), (1, .int (nI t)), (2, .int what)]) hx hb dX1_foresee_30 rfl hl (by decide) rfl (fun ls hl => ?_)
      refine lv_aload_n hx hb dX1_foresee_31 rfl (lv_at hl 1 rfl) ?_
      refine lv_aload_n hx hb dX1_foresee_32 rfl (lv_at hl 0 rfl) ?_
      refine lv_iload_n hx hb dX1_foresee_33 rfl (lv_at hl 2 rfl) ?_
      refine g_ci hS (va_runV (As := [.ref A2.1, .int (nI t)]) (rest := []) ⟨hx, hb, hml, hown, hts⟩ (m_pass2 l E G1 x lu lt con hX0 eu nu uA uq hU1 2 A2 ((tk, ck, rn, an, sp, ln, lf), (nd, dm), (nc, km)) hC2 (by decide) hok t ht) (cwV 2 hts (lw_V q672 q674 qs9 q31 q675) rfl rfl rfl (by decide +kernel) ⟨Nat.le_of_ble_eq_true rfl, Nat.le_of_ble_eq_true rfl⟩) (g_preV hE hI (g_recv hE hI hX0 rfl)) rfl rfl hl.1 rfl (lv_room (Nat.le_of_ble_eq_true rfl)) dX1_foresee_34 ⟨(by show _ + 2 * ((passS uq nu ((tk, ck, rn, an, sp, ln, lf), (nd, dm), (nc, km)) t).1.2.2.1 - nc) ≤ 70; omega), (by show _ + 39 * ((passS uq nu ((tk, ck, rn, an, sp, ln, lf), (nd, dm), (nc, km)) t).1.2.2.1 - nc) ≤ 1300; omega)⟩) (fun r G2 H locs hp hI hS => ?_)
      obtain ⟨rfl, kB, hC3, hF3⟩ := hp
      refine W.widen (k := 68) (n := 1285) (by show _ + 2 * ((passS uq nu ((tk, ck, rn, an, sp, ln, lf), (nd, dm), (nc, km)) t).1.2.2.1 - nc) ≤ 68; omega) (by show _ + 39 * ((passS uq nu ((tk, ck, rn, an, sp, ln, lf), (nd, dm), (nc, km)) t).1.2.2.1 - nc) ≤ 1285; omega) ?_
      have hX2 := hX1.fr hF3 (fun t z => by rw [show t.1 = 2 from z]; decide)
      have hX0 : G2 x = some ((3, 0, 0), xO lu lt con) := hX2.1
      refine lv_pop hx hb dX1_foresee_37 rfl ?_
      refine lv_aload_n hx hb dX1_foresee_38 rfl (lv_at hl 1 rfl) ?_
      refine lv_aload_n hx hb dX1_foresee_39 rfl (lv_at hl 0 rfl) ?_
      refine lv_iload_n hx hb dX1_foresee_40 rfl (lv_at hl 3 rfl) ?_
      refine g_ci0 (G := G2) (v := cntV (passS uq nu ((tk, ck, rn, an, sp, ln, lf), (nd, dm), (nc, km)) t).1 nu ns st what) hS (va_runV (As := [.ref A2.1, .int what]) (rest := []) ⟨hx, hb, hml, hown, hts⟩ (m_counted l E G2 x ((con, ld, lc, dA, kA), (lu, uA), (lt, sA)) ((((tk, ck, rn, an, sp, ln, lf), (nd, dm), (nc, km)), (nu, uq), (ns, st)) : Sy) hX2 2 (A2.1, A2.2.1, A2.2.2.1, A2.2.2.2.1, kB) (passS uq nu ((tk, ck, rn, an, sp, ln, lf), (nd, dm), (nc, km)) t).1 hC3 what) (cwV 2 hts (lw_V q210 q212 qs0 q31 q213) rfl rfl rfl (by decide +kernel) ⟨Nat.le_of_ble_eq_true rfl, Nat.le_of_ble_eq_true rfl⟩) (g_preV hE hI (g_recv hE hI hX0 rfl)) rfl rfl hl.1 rfl (lv_room (Nat.le_of_ble_eq_true rfl)) dX1_foresee_41 ⟨(by first | (show _ ≤ 70; omega) | (dsimp only; omega)), (by first | (show _ ≤ 1300; omega) | (dsimp only; omega))⟩) (fun H locs hI hS => ?_)
      refine vx_ret ?_
      exact g_iret hx hb hr hlk hI hS dX1_foresee_44 (by first | (show _ ≤ 70; omega) | (dsimp only; omega)) (by first | (show _ ≤ 1300; omega) | (dsimp only; omega)) (⟨(if_neg h1).trans (if_neg c1), by rw [hcl], ⟨_, hX2, (Fr.trans hF2 hF3).sys2⟩⟩)
    · exact g_throw (cls := xIOB) (names := ["java/lang/RuntimeException", "java/lang/Exception"]) hx hb hst hts hown (by decide) (by decide) q538 q47 (at_IOB hts hE) ot_IOB hE hI hL hS (hl.1.trans hml.symm) dX1_foresee_15 dX1_foresee_18 dX1_foresee_19 dX1_foresee_22 hno (Nat.le_of_ble_eq_true rfl) (Nat.le_of_ble_eq_true rfl) (Nat.le_of_ble_eq_true rfl) (Nat.le_of_ble_eq_true rfl) hlk (Nat.le_of_ble_eq_true rfl) (Nat.le_of_ble_eq_true rfl) (⟨Or.inr ⟨rfl, (if_neg h1).trans (if_pos c1)⟩, rfl⟩)
def sy0 : Sy := (((0, 0, 0, 0, 0, -1, 0), (0, fun _ => (0, 0, 0, 0, 0)), (0, fun _ => (0, 0, 0))), (0, fun _ => (0, 0, 0, 0)), (0, fun _ => (0, 0)))
set_option maxHeartbeats 4000000 in
set_option maxRecDepth 100000 in
theorem m_Xinit (l : Launch) (E : EnvT) (G : Gh) (x : Nat) (hg : G x = some ((3, 0, 0), .inr (0, [.null, .null, .null]))) : Met l yX1_init (ws_ yX1_init cX1_init 1 none) ({ frames := 5, cells := 5, slots := 24, locals := 92 } : Room) (cP E G [.ref x]) (cV E (fun G' => ∃ B', XRep E G' x B' sy0 ∧ Fr Sys G G')) 5 24 (eA E) := by
  refine g_met (rm := ({ frames := 5, cells := 5, slots := 24, locals := 92 } : Room)) (av := [.ref x]) (lv := [(0, .ref x)]) (by decide) (Nat.le_of_ble_eq_true rfl) rfl ?_
  intro p e s m below meth c ls hx hb hr hlk hml hin hts hown hE hI hL hS hl
  have hFr : Fr Sys G G := Fr.rf
  refine lv_aload_n hx hb dX1_init_0 rfl (lv_at hl 0 rfl) ?_
  refine W.objInit hx hb hown (hts _ q63) (hts _ q64) (hts _ q65) rfl (by rw [hml]; exact hl.1) rfl dX1_init_1 (Nat.le_of_ble_eq_true rfl) (Nat.le_of_ble_eq_true rfl) ?_
  refine W.eq (g2 := F0 m 4 ls []) rfl ?_
  refine lv_aload_n hx hb dX1_init_4 rfl (lv_at hl 0 rfl) ?_
  have k1 := hg
  refine g_new (C := RJ2) (T := TJ2) (N := 3) (ci := 6) (fs := [.int 0, .null, .int 0]) (3, 1, 0) hx hb hts in_J2 tyJ2 tyJ2_ok hown q66 q67 q34 hE hI hS hL rfl (fun j hj => by rcases (show j = 0 ∨ j = 1 ∨ j = 2 by omega) with rfl | rfl | rfl <;> rfl) (Nat.le_of_ble_eq_true rfl) (Nat.le_of_ble_eq_true rfl) dX1_init_5 (fun lu H hnlu hI hS => ?_)
  have ne2 : x ≠ lu := g_fne hnlu hg
  have hg := gU_ne (x := ((3, 1, 0), .inr (6, [.int 0, .null, .int 0]))) ne2 hg
  have hFr0 := hFr
  have hFr : Fr (Sys) G (gU G lu ((3, 1, 0), .inr (6, [.int 0, .null, .int 0]))) := Fr.trans hFr (Fr.new (x := ((3, 1, 0), .inr (6, [.int 0, .null, .int 0]))) hnlu)
  have h_lu : (gU G lu ((3, 1, 0), .inr (6, [.int 0, .null, .int 0]))) lu = some ((3, 1, 0), .inr (6, [.int 0, .null, .int 0])) := gU_self
  refine lv_dup hx hb dX1_init_8 rfl ?_
  refine g_cv0 hS (va_runI (As := []) (rest := [.ref lu, .ref x]) ⟨hx, hb, hml, hown, hts⟩ (m_ALinit l E (gU G lu ((3, 1, 0), .inr (6, [.int 0, .null, .int 0]))) lu (3, 1, 0) h_lu) (cwI 0 hts (lw_meth q70) rfl rfl rfl (hts _ q34) (hts _ q68) (hts _ q69) rfl (by decide +kernel) ⟨Nat.le_of_ble_eq_true rfl, Nat.le_of_ble_eq_true rfl⟩) (g_preS hE hI) rfl rfl hl.1 rfl (lv_room (Nat.le_of_ble_eq_true rfl)) dX1_init_9 ⟨Nat.le_of_ble_eq_true rfl, Nat.le_of_ble_eq_true rfl⟩) (fun H locs hI hS => ?_)
  rw [gU_gU] at hI
  have hFr : Fr (Sys) G (gU G lu ((3, 1, 0), aO 0 (eK E 6) 0)) := Fr.trans hFr0 (Fr.new hnlu)
  have hg := gU_ne (x := ((3, 1, 0), aO 0 (eK E 6) 0)) ne2 k1
  have h_lu : (gU G lu ((3, 1, 0), aO 0 (eK E 6) 0)) lu = some ((3, 1, 0), aO 0 (eK E 6) 0) := gU_self
  refine g_putF (C := RX1) (T := TX1) (N := 3) (v := .ref lu) (ty := .object "java/util/ArrayList") (fs' := [.ref lu, .null, .null]) hx hb hts in_X1 tyX1 tyX1_ok nmX1 hown hE hI hS hL hg rfl 0 (by decide) q143 (fun _ h9 => h9) rfl hin rfl (by decide +kernel) rfl rfl (Nat.le_of_ble_eq_true rfl) rfl dX1_init_12 (fun H locs hI hS => ?_)
  have h_lu := gU_ne (x := ((3, 0, 0), .inr (0, [.ref lu, .null, .null]))) ne2.symm h_lu
  have hFr : Fr (Sys) G (gU (gU G lu ((3, 1, 0), aO 0 (eK E 6) 0)) x ((3, 0, 0), .inr (0, [.ref lu, .null, .null]))) := Fr.trans hFr (Fr.put (x := ((3, 0, 0), .inr (0, [.ref lu, .null, .null]))) hg (by decide))
  have hg : (gU (gU G lu ((3, 1, 0), aO 0 (eK E 6) 0)) x ((3, 0, 0), .inr (0, [.ref lu, .null, .null]))) x = some ((3, 0, 0), .inr (0, [.ref lu, .null, .null])) := gU_self
  refine lv_aload_n hx hb dX1_init_15 rfl (lv_at hl 0 rfl) ?_
  have k4 := hg
  have k5 := h_lu
  refine g_new (C := RJ2) (T := TJ2) (N := 3) (ci := 6) (fs := [.int 0, .null, .int 0]) (3, 3, 0) hx hb hts in_J2 tyJ2 tyJ2_ok hown q66 q67 q34 hE hI hS hL rfl (fun j hj => by rcases (show j = 0 ∨ j = 1 ∨ j = 2 by omega) with rfl | rfl | rfl <;> rfl) (Nat.le_of_ble_eq_true rfl) (Nat.le_of_ble_eq_true rfl) dX1_init_16 (fun lt H hnlt hI hS => ?_)
  have ne6 : x ≠ lt := g_fne hnlt hg
  have hg := gU_ne (x := ((3, 3, 0), .inr (6, [.int 0, .null, .int 0]))) ne6 hg
  have ne7 : lu ≠ lt := g_fne hnlt h_lu
  have h_lu := gU_ne (x := ((3, 3, 0), .inr (6, [.int 0, .null, .int 0]))) ne7 h_lu
  have hFr0 := hFr
  have hFr : Fr (Sys) G (gU (gU (gU G lu ((3, 1, 0), aO 0 (eK E 6) 0)) x ((3, 0, 0), .inr (0, [.ref lu, .null, .null]))) lt ((3, 3, 0), .inr (6, [.int 0, .null, .int 0]))) := Fr.trans hFr (Fr.new (x := ((3, 3, 0), .inr (6, [.int 0, .null, .int 0]))) hnlt)
  have h_lt : (gU (gU (gU G lu ((3, 1, 0), aO 0 (eK E 6) 0)) x ((3, 0, 0), .inr (0, [.ref lu, .null, .null]))) lt ((3, 3, 0), .inr (6, [.int 0, .null, .int 0]))) lt = some ((3, 3, 0), .inr (6, [.int 0, .null, .int 0])) := gU_self
  refine lv_dup hx hb dX1_init_19 rfl ?_
  refine g_cv0 hS (va_runI (As := []) (rest := [.ref lt, .ref x]) ⟨hx, hb, hml, hown, hts⟩ (m_ALinit l E (gU (gU (gU G lu ((3, 1, 0), aO 0 (eK E 6) 0)) x ((3, 0, 0), .inr (0, [.ref lu, .null, .null]))) lt ((3, 3, 0), .inr (6, [.int 0, .null, .int 0]))) lt (3, 3, 0) h_lt) (cwI 0 hts (lw_meth q70) rfl rfl rfl (hts _ q34) (hts _ q68) (hts _ q69) rfl (by decide +kernel) ⟨Nat.le_of_ble_eq_true rfl, Nat.le_of_ble_eq_true rfl⟩) (g_preS hE hI) rfl rfl hl.1 rfl (lv_room (Nat.le_of_ble_eq_true rfl)) dX1_init_20 ⟨Nat.le_of_ble_eq_true rfl, Nat.le_of_ble_eq_true rfl⟩) (fun H locs hI hS => ?_)
  rw [gU_gU] at hI
  have hFr : Fr (Sys) G (gU (gU (gU G lu ((3, 1, 0), aO 0 (eK E 6) 0)) x ((3, 0, 0), .inr (0, [.ref lu, .null, .null]))) lt ((3, 3, 0), aO 0 (eK E 6) 0)) := Fr.trans hFr0 (Fr.new hnlt)
  have hg := gU_ne (x := ((3, 3, 0), aO 0 (eK E 6) 0)) ne6 k4
  have h_lu := gU_ne (x := ((3, 3, 0), aO 0 (eK E 6) 0)) ne7 k5
  have h_lt : (gU (gU (gU G lu ((3, 1, 0), aO 0 (eK E 6) 0)) x ((3, 0, 0), .inr (0, [.ref lu, .null, .null]))) lt ((3, 3, 0), aO 0 (eK E 6) 0)) lt = some ((3, 3, 0), aO 0 (eK E 6) 0) := gU_self
  refine g_putF (C := RX1) (T := TX1) (N := 3) (v := .ref lt) (ty := .object "java/util/ArrayList") (fs' := [.ref lu, .ref lt, .null]) hx hb hts in_X1 tyX1 tyX1_ok nmX1 hown hE hI hS hL hg rfl 1 (by decide) q144 (fun _ h9 => h9) rfl hin rfl (by decide +kernel) rfl rfl (Nat.le_of_ble_eq_true rfl) rfl dX1_init_23 (fun H locs hI hS => ?_)
  have h_lu := gU_ne (x := ((3, 0, 0), .inr (0, [.ref lu, .ref lt, .null]))) ne2.symm h_lu
  have h_lt := gU_ne (x := ((3, 0, 0), .inr (0, [.ref lu, .ref lt, .null]))) ne6.symm h_lt
  have hFr : Fr (Sys) G (gU (gU (gU (gU G lu ((3, 1, 0), aO 0 (eK E 6) 0)) x ((3, 0, 0), .inr (0, [.ref lu, .null, .null]))) lt ((3, 3, 0), aO 0 (eK E 6) 0)) x ((3, 0, 0), .inr (0, [.ref lu, .ref lt, .null]))) := Fr.trans hFr (Fr.put (x := ((3, 0, 0), .inr (0, [.ref lu, .ref lt, .null]))) hg (by decide))
  have hg : (gU (gU (gU (gU G lu ((3, 1, 0), aO 0 (eK E 6) 0)) x ((3, 0, 0), .inr (0, [.ref lu, .null, .null]))) lt ((3, 3, 0), aO 0 (eK E 6) 0)) x ((3, 0, 0), .inr (0, [.ref lu, .ref lt, .null]))) x = some ((3, 0, 0), .inr (0, [.ref lu, .ref lt, .null])) := gU_self
  refine lv_aload_n hx hb dX1_init_26 rfl (lv_at hl 0 rfl) ?_
  refine g_new (C := RX2) (T := TX2) (N := 9) (ci := 1) (fs := [.int 0, .int 0, .int 0, .int 0, .int 0, .int 0, .int 0, .null, .null]) (1, 0, 0) hx hb hts in_X2 tyX2 tyX2_ok hown q92 q93 q35 hE hI hS hL rfl (fun j hj => by rcases (show j = 0 ∨ j = 1 ∨ j = 2 ∨ j = 3 ∨ j = 4 ∨ j = 5 ∨ j = 6 ∨ j = 7 ∨ j = 8 by omega) with rfl | rfl | rfl | rfl | rfl | rfl | rfl | rfl | rfl <;> rfl) (Nat.le_of_ble_eq_true rfl) (Nat.le_of_ble_eq_true rfl) dX1_init_27 (fun con H hncon hI hS => ?_)
  have ne9 : x ≠ con := g_fne hncon hg
  have hg := gU_ne (x := ((1, 0, 0), .inr (1, [.int 0, .int 0, .int 0, .int 0, .int 0, .int 0, .int 0, .null, .null]))) ne9 hg
  have ne10 : lu ≠ con := g_fne hncon h_lu
  have h_lu := gU_ne (x := ((1, 0, 0), .inr (1, [.int 0, .int 0, .int 0, .int 0, .int 0, .int 0, .int 0, .null, .null]))) ne10 h_lu
  have ne11 : lt ≠ con := g_fne hncon h_lt
  have h_lt := gU_ne (x := ((1, 0, 0), .inr (1, [.int 0, .int 0, .int 0, .int 0, .int 0, .int 0, .int 0, .null, .null]))) ne11 h_lt
  have hFr0 := hFr
  have hFr : Fr (Sys) G (gU (gU (gU (gU (gU G lu ((3, 1, 0), aO 0 (eK E 6) 0)) x ((3, 0, 0), .inr (0, [.ref lu, .null, .null]))) lt ((3, 3, 0), aO 0 (eK E 6) 0)) x ((3, 0, 0), .inr (0, [.ref lu, .ref lt, .null]))) con ((1, 0, 0), .inr (1, [.int 0, .int 0, .int 0, .int 0, .int 0, .int 0, .int 0, .null, .null]))) := Fr.trans hFr (Fr.new (x := ((1, 0, 0), .inr (1, [.int 0, .int 0, .int 0, .int 0, .int 0, .int 0, .int 0, .null, .null]))) hncon)
  have h_con : (gU (gU (gU (gU (gU G lu ((3, 1, 0), aO 0 (eK E 6) 0)) x ((3, 0, 0), .inr (0, [.ref lu, .null, .null]))) lt ((3, 3, 0), aO 0 (eK E 6) 0)) x ((3, 0, 0), .inr (0, [.ref lu, .ref lt, .null]))) con ((1, 0, 0), .inr (1, [.int 0, .int 0, .int 0, .int 0, .int 0, .int 0, .int 0, .null, .null]))) con = some ((1, 0, 0), .inr (1, [.int 0, .int 0, .int 0, .int 0, .int 0, .int 0, .int 0, .null, .null])) := gU_self
  refine lv_dup hx hb dX1_init_30 rfl ?_
  refine g_cv hS (va_runIN (As := []) (rest := [.ref con, .ref x]) ⟨hx, hb, hml, hown, hts⟩ (m_Cinit l E (gU (gU (gU (gU (gU G lu ((3, 1, 0), aO 0 (eK E 6) 0)) x ((3, 0, 0), .inr (0, [.ref lu, .null, .null]))) lt ((3, 3, 0), aO 0 (eK E 6) 0)) x ((3, 0, 0), .inr (0, [.ref lu, .ref lt, .null]))) con ((1, 0, 0), .inr (1, [.int 0, .int 0, .int 0, .int 0, .int 0, .int 0, .int 0, .null, .null]))) 1 con (fun _ => 0) (fun _ => 0) (fun _ => (0, 0, 0, 0, 0)) (fun _ => (0, 0, 0)) h_con) ⟨va_cnB 0 hts (lw_meth q96) rfl rfl rfl (hE.nw q94 rfl) (hts _ q35) (by decide +kernel) ⟨Nat.le_of_ble_eq_true rfl, Nat.le_of_ble_eq_true rfl⟩, rfl, hts _ q95⟩ (g_preS hE hI) rfl rfl hl.1 rfl (lv_room (Nat.le_of_ble_eq_true rfl)) dX1_init_31 ⟨Nat.le_of_ble_eq_true rfl, Nat.le_of_ble_eq_true rfl⟩) (fun G1 H locs hp hI hS => ?_)
  obtain ⟨ld, lc, hC, hF⟩ := hp
  have hFr : Fr Sys G G1 := Fr.trans hFr hF.sys1
  have hg := hF _ _ _ (by simp) hg
  have h_lu := hF _ _ _ (by simp) h_lu
  have h_lt := hF _ _ _ (by simp) h_lt
  have hF9 : Fr (fun t => t = (3, 0, 0)) G1 (gU G1 x ((3, 0, 0), .inr (0, [.ref lu, .ref lt, .ref con]))) := Fr.put hg rfl
  refine g_putF (C := RX1) (T := TX1) (N := 3) (v := .ref con) (ty := .object "StarConsole$Console") (fs' := [.ref lu, .ref lt, .ref con]) hx hb hts in_X1 tyX1 tyX1_ok nmX1 hown hE hI hS hL hg rfl 2 (by decide) q145 (fun _ h9 => h9) rfl hin rfl (by decide +kernel) rfl rfl (Nat.le_of_ble_eq_true rfl) rfl dX1_init_34 (fun H locs hI hS => ?_)
  have h_lu := gU_ne (x := ((3, 0, 0), .inr (0, [.ref lu, .ref lt, .ref con]))) ne2.symm h_lu
  have h_lt := gU_ne (x := ((3, 0, 0), .inr (0, [.ref lu, .ref lt, .ref con]))) ne6.symm h_lt
  have hFr : Fr (Sys) G (gU G1 x ((3, 0, 0), .inr (0, [.ref lu, .ref lt, .ref con]))) := Fr.trans hFr (Fr.put (x := ((3, 0, 0), .inr (0, [.ref lu, .ref lt, .ref con]))) hg (by decide))
  have hg : (gU G1 x ((3, 0, 0), .inr (0, [.ref lu, .ref lt, .ref con]))) x = some ((3, 0, 0), .inr (0, [.ref lu, .ref lt, .ref con])) := gU_self
  exact g_vret hx hb hr hlk hI hS dX1_init_37 (Nat.le_of_ble_eq_true rfl) (Nat.le_of_ble_eq_true rfl) (⟨((con, ld, lc, fun _ => 0, fun _ => 0), (lu, fun _ => 0), (lt, fun _ => 0)), ⟨hg, hC.fr hF9 (fun t z => by rw [z]; decide), ⟨_, LRep.nil h_lu, fun k hk => absurd hk (Nat.not_lt_zero k)⟩, ⟨_, LRep.nil h_lt⟩, fun k hk => absurd hk (Nat.not_lt_zero k)⟩, hFr⟩)
