/-! CONTRACTS of the console's run. Printed by gen/p24.py -/
set_option maxHeartbeats 4000000 in
set_option maxRecDepth 100000 in
theorem m_Crun (l : Launch) (E : EnvT) (G : Gh) (o : Nat) (A : CA) (w : Cn) (hR : CRep E G o A w) (os lu eu nu : Nat) (uA : Nat → Nat) (uq : Nat → Um) (hos : os ≠ o) (hU : URep E G os lu eu nu uA uq) (hok : ∀ i, i < nu → uOk w.2.1.1 (uq i)) : Met l yX2_run (ws_ yX2_run cX2_run 5 (some .int)) ({ frames := 8, cells := 2 * ((runW uq nu w).1.2.2.1 - w.2.2.1), slots := 39 * ((runW uq nu w).1.2.2.1 - w.2.2.1), locals := 194 } : Room) (cP E G [.ref A.1, .ref lu]) (cI E (fun r G' => r = (runW uq nu w).2 ∧ ∃ kB, CRep E G' o (A.1, A.2.1, A.2.2.1, A.2.2.2.1, kB) (runW uq nu w).1 ∧ Fr (Ow o) G G')) (2 * ((runW uq nu w).1.2.2.1 - w.2.2.1)) (39 * ((runW uq nu w).1.2.2.1 - w.2.2.1)) (eA E) := by
  obtain ⟨con, ld, lc, dA, kA⟩ := A
  refine g_met (av := [.ref con, .ref lu]) (lv := [(0, .ref con), (1, .ref lu)]) (by decide) (Nat.le_of_ble_eq_true rfl) rfl ?_
  intro p e s m below meth c ls hx hb hr hlk hml hin hts hown hE hI hL hS hl
  have hcon : G con = some ((o, 0, 0), coOt w.1 ld lc) := hR.1
  refine lv_aload_n hx hb dX2_run_0 rfl (lv_at hl 0 rfl) ?_
  refine g_get (C := RX2) (T := TX2) (N := 9) (v := .int w.1.2.2.1) hx hb hts in_X2 hown hE hI hcon rfl 2 (by decide) q104 (fun _ h9 => h9) rfl dX2_run_1 ?_
  refine lv_if_ne (tgt := 9) hx hb dX2_run_4 (by decide) (fun c0 => ?_) (fun c0 => ?_)
  · have eR : (runW uq nu w).1.2.2.1 = (runS uq w.1.2.1 w nu).1.2.2.1 := by unfold runW; rw [if_neg c0]
    have hnu : nu ≤ 36 := hU.1.n36
    refine lv_iconst (v := 0) hx hb dX2_run_9 (by decide) ?_
    refine lv_istore_n (lv' := [(2, .int 0), (0, .ref con), (1, .ref lu)]) hx hb dX2_run_10 rfl hl (by decide) rfl (fun ls hl => ?_)
    refine lv_iconst (v := 0) hx hb dX2_run_11 (by decide) ?_
    refine lv_istore_n (lv' := [(3, .int 0), (2, .int 0), (0, .ref con), (1, .ref lu)]) hx hb dX2_run_12 rfl hl (by decide) rfl (fun ls hl => ?_)
    refine W.widen (k := 2 * ((runS uq w.1.2.1 w 0).1.2.2.1 - w.2.2.1)) (n := 39 * ((runS uq w.1.2.1 w 0).1.2.2.1 - w.2.2.1)) (Nat.zero_le _) (Nat.zero_le _) ?_
    refine g_loop3 (A1 := Nat) (A2 := Gh) (A3 := (Nat → Nat)) (fun i Gi kB H locs ls => i ≤ nu ∧ CRep E Gi o (con, ld, lc, dA, kB) (runS uq w.1.2.1 w i).1 ∧ Fr (Ow o) G Gi ∧ Inv E Gi H ∧ va_S (eA E) s.heap H locs ∧ lv_has ls 5 [(0, .ref con), (1, .ref lu), (2, .int ((runS uq w.1.2.1 w i).2)), (3, .int (nI i))]) (fun i Gi kB => 2 * ((runS uq w.1.2.1 w i).1.2.2.1 - w.2.2.1)) (fun i Gi kB => 39 * ((runS uq w.1.2.1 w i).1.2.2.1 - w.2.2.1)) (fun i Gi kB => nu - i) ?_ 0 G kA _ _ _ ⟨Nat.zero_le _, hR, Fr.rf, hI, hS, lv_sub hl [2, 3, 1, 0] rfl⟩
    intro i Gi kB ih1 H locs ls hst
    obtain ⟨hi, hCr, hFr, hI, hS, hl⟩ := hst
    have mi : (runS uq w.1.2.1 w i).1.2.2.1 ≤ (runS uq w.1.2.1 w nu).1.2.2.1 := by have z := runS_mono uq w.1.2.1 w i (nu - i); rw [show i + (nu - i) = nu by omega] at z; exact z
    have hUi := hU.fr hFr (Ow.ne hos)
    have hlu := hUi.1
    refine lv_iload_n hx hb dX2_run_13 rfl (lv_at hl 3 rfl) ?_
    refine lv_aload_n hx hb dX2_run_14 rfl (lv_at hl 1 rfl) ?_
    refine g_cFi0 (G := Gi) (v := nI nu) hS (va_runF (C := RJ2) (cC := (eD E).1 6) (As := []) (rest := [.int (nI i)]) (hE.K.1 6 _ rfl).2 ⟨hx, hb, hml, hown, hts⟩ (m_size l E Gi (os, 1, 0) (os, 2, 0) lu eu nu uA hlu) (va_cwF 0 hts (lw_F q685 q532 q162 q34 q164) rfl rfl rfl hE.Fs (by decide +kernel) ⟨Nat.le_of_ble_eq_true rfl, Nat.le_of_ble_eq_true rfl⟩) (g_preV hE hI (hlu.recv hE hI)) rfl rfl hl.1 rfl (lv_room (Nat.le_of_ble_eq_true rfl)) dX2_run_15 ⟨(by show _ ≤ 2 * ((runW uq nu w).1.2.2.1 - w.2.2.1); omega), (by show _ ≤ 39 * ((runW uq nu w).1.2.2.1 - w.2.2.1); omega)⟩) (fun H locs hI hS => ?_)
    refine lv_icmp_ge (tgt := 78) hx hb dX2_run_20 (by decide) (fun c1 => ?_) (fun c1 => ?_)
    · have ei : i = nu := (Nat.lt_or_ge i nu).elim (fun z => absurd c1 (nI_ge z (by omega))) (fun z => by omega)
      subst ei
      have hcon : Gi con = some ((o, 0, 0), coOt (runS uq w.1.2.1 w i).1.1 ld lc) := hCr.1
      refine lv_aload_n hx hb dX2_run_78 rfl (lv_at hl 0 rfl) ?_
      refine lv_dup hx hb dX2_run_79 rfl ?_
      refine g_get (C := RX2) (T := TX2) (N := 9) (v := .int ((runS uq w.1.2.1 w i).1.1.2.1)) hx hb hts in_X2 hown hE hI hcon rfl 1 (by decide) q102 (fun _ h9 => h9) rfl dX2_run_80 ?_
      refine lv_iconst (v := 1) hx hb dX2_run_83 (by decide) ?_
      refine lv_iadd hx hb dX2_run_84 ?_
      refine g_put (C := RX2) (T := TX2) (N := 9) (v := .int ((runS uq w.1.2.1 w i).1.1.2.1 + 1)) (ty := .int) (fs' := [.int ((runS uq w.1.2.1 w i).1.1.1), .int ((runS uq w.1.2.1 w i).1.1.2.1 + 1), .int ((runS uq w.1.2.1 w i).1.1.2.2.1), .int ((runS uq w.1.2.1 w i).1.1.2.2.2.1), .int ((runS uq w.1.2.1 w i).1.1.2.2.2.2.1), .int ((runS uq w.1.2.1 w i).1.1.2.2.2.2.2.1), .int ((runS uq w.1.2.1 w i).1.1.2.2.2.2.2.2), .ref ld, .ref lc]) hx hb hts in_X2 tyX2 tyX2_ok nmX2 hown hE hI hS hL hcon rfl 1 (by decide) q102 (fun _ h9 => h9) rfl (by decide +kernel) rfl rfl (Nat.le_of_ble_eq_true rfl) rfl dX2_run_85 (fun H locs hI hS => ?_)
      have hcon : (gU Gi con ((o, 0, 0), .inr (1, [.int ((runS uq w.1.2.1 w i).1.1.1), .int ((runS uq w.1.2.1 w i).1.1.2.1 + 1), .int ((runS uq w.1.2.1 w i).1.1.2.2.1), .int ((runS uq w.1.2.1 w i).1.1.2.2.2.1), .int ((runS uq w.1.2.1 w i).1.1.2.2.2.2.1), .int ((runS uq w.1.2.1 w i).1.1.2.2.2.2.2.1), .int ((runS uq w.1.2.1 w i).1.1.2.2.2.2.2.2), .ref ld, .ref lc]))) con = some ((o, 0, 0), .inr (1, [.int ((runS uq w.1.2.1 w i).1.1.1), .int ((runS uq w.1.2.1 w i).1.1.2.1 + 1), .int ((runS uq w.1.2.1 w i).1.1.2.2.1), .int ((runS uq w.1.2.1 w i).1.1.2.2.2.1), .int ((runS uq w.1.2.1 w i).1.1.2.2.2.2.1), .int ((runS uq w.1.2.1 w i).1.1.2.2.2.2.2.1), .int ((runS uq w.1.2.1 w i).1.1.2.2.2.2.2.2), .ref ld, .ref lc])) := gU_self
      refine lv_iload_n hx hb dX2_run_88 rfl (lv_at hl 2 rfl) ?_
      have hz := hCr.setC ((runS uq w.1.2.1 w i).1.1.1, (runS uq w.1.2.1 w i).1.1.2.1 + 1, (runS uq w.1.2.1 w i).1.1.2.2)
      have ew : (runW uq i w).1 = (((runS uq w.1.2.1 w i).1.1.1, (runS uq w.1.2.1 w i).1.1.2.1 + 1, (runS uq w.1.2.1 w i).1.1.2.2), (runS uq w.1.2.1 w i).1.2) := by unfold runW; rw [if_neg c0, runS_ck]
      exact g_iret hx hb hr hlk hI hS dX2_run_89 (by rw [eR]; exact Nat.le_refl _) (by rw [eR]; exact Nat.le_refl _) (⟨by unfold runW; rw [if_neg c0], kB, by rw [ew]; exact hz.1, Fr.trans hFr hz.2⟩)
    · have hlt : i < nu := (Nat.lt_or_ge i nu).elim id (fun z => absurd (nI_le z (by omega)) c1)
      have hgc := hUi.2 i hlt
      have hoki := hok i hlt
      have hS1 : runS uq w.1.2.1 w (i + 1) = if (uq i).1 = w.1.2.1 then (crun (runS uq w.1.2.1 w i).1 (uq i).2.1 (uq i).2.2.1 (uq i).2.2.2, (runS uq w.1.2.1 w i).2 + 1) else (runS uq w.1.2.1 w i) := rfl
      generalize huq : uq i = u at hgc hoki hS1
      obtain ⟨tm, k, a, b⟩ := u
      have hgc : Gi (uA i) = some ((os, 5, i), uO tm (eK E k) a b) := hgc
      have hcon : Gi con = some ((o, 0, 0), coOt (runS uq w.1.2.1 w i).1.1 ld lc) := hCr.1
      refine lv_aload_n hx hb dX2_run_23 rfl (lv_at hl 1 rfl) ?_
      refine lv_iload_n hx hb dX2_run_24 rfl (lv_at hl 3 rfl) ?_
      refine g_cFr0 (G := Gi) (v := uA i) hS (va_runF (C := RJ2) (cC := (eD E).1 6) (As := [.int (nI i)]) (rest := []) (hE.K.1 6 _ rfl).2 ⟨hx, hb, hml, hown, hts⟩ (m_get l E Gi (os, 1, 0) (os, 2, 0) lu eu nu uA hlu i hlt) (va_cwF 1 hts (lw_F q687 q557 q166 q34 q168) rfl rfl rfl hE.Fg (by decide +kernel) ⟨Nat.le_of_ble_eq_true rfl, Nat.le_of_ble_eq_true rfl⟩) (g_preV hE hI (hlu.recv hE hI)) rfl rfl hl.1 rfl (lv_room (Nat.le_of_ble_eq_true rfl)) dX2_run_25 ⟨(by show _ ≤ 2 * ((runW uq nu w).1.2.2.1 - w.2.2.1); omega), (by show _ ≤ 39 * ((runW uq nu w).1.2.2.1 - w.2.2.1); omega)⟩) (fun H locs hI hS => ?_)
      refine g_cast hx hb hts hown q688 hE hI hgc rfl rfl dX2_run_30 ?_
      refine lv_astore (lv' := [(4, .ref (uA i)), (0, .ref con), (1, .ref lu), (2, .int ((runS uq w.1.2.1 w i).2)), (3, .int (nI i))]) hx hb dX2_run_33 hl (by decide) rfl (fun ls hl => ?_)
      refine lv_aload hx hb dX2_run_35 (lv_at hl 0 rfl) ?_
      refine g_ci0 (G := Gi) (v := tm) hS (va_runV (As := []) (rest := []) ⟨hx, hb, hml, hown, hts⟩ (m_Utime l E Gi (uA i) (os, 5, i) tm (eK E k) a b hgc) (cwV 0 hts (lw_V q689 q181 q182 q56 q183) rfl rfl rfl (by decide +kernel) ⟨Nat.le_of_ble_eq_true rfl, Nat.le_of_ble_eq_true rfl⟩) (g_preV hE hI (g_recv hE hI hgc rfl)) rfl rfl hl.1 rfl (lv_room (Nat.le_of_ble_eq_true rfl)) dX2_run_37 ⟨(by show _ ≤ 2 * ((runW uq nu w).1.2.2.1 - w.2.2.1); omega), (by show _ ≤ 39 * ((runW uq nu w).1.2.2.1 - w.2.2.1); omega)⟩) (fun H locs hI hS => ?_)
      refine lv_aload_n hx hb dX2_run_40 rfl (lv_at hl 1 rfl) ?_
      refine g_get (C := RX2) (T := TX2) (N := 9) (v := .int ((runS uq w.1.2.1 w i).1.1.2.1)) hx hb hts in_X2 hown hE hI hcon rfl 1 (by decide) q102 (fun _ h9 => h9) rfl dX2_run_41 ?_
      refine lv_icmp_eq (tgt := 50) hx hb dX2_run_44 (by decide) (fun c2 => ?_) (fun c2 => ?_)
      · have e9 : runS uq w.1.2.1 w (i + 1) = (crun (runS uq w.1.2.1 w i).1 k a b, (runS uq w.1.2.1 w i).2 + 1) := hS1.trans (if_pos (c2.trans (runS_ck uq w.1.2.1 w i)))
        have m0 := (runS_nc uq w.1.2.1 w i).1
        have m9 : (runS uq w.1.2.1 w i).1.2.2.1 + cst k (runS uq w.1.2.1 w i).1.2.2.1 ≤ (runS uq w.1.2.1 w nu).1.2.2.1 := by have z9 := runS_mono uq w.1.2.1 w (i + 1) (nu - (i + 1)); rw [show i + 1 + (nu - (i + 1)) = nu by omega, e9] at z9; rw [← crun_cst (runS uq w.1.2.1 w i).1 k a b]; exact z9
        refine lv_aload hx hb dX2_run_50 (lv_at hl 0 rfl) ?_
        refine g_cr0 (G := Gi) (v := eK E k) hS (va_runV (As := []) (rest := []) ⟨hx, hb, hml, hown, hts⟩ (m_Ukind l E Gi (uA i) (os, 5, i) tm (eK E k) a b hgc) (cwV 0 hts (lw_V q690 q271 q272 q56 q273) rfl rfl rfl (by decide +kernel) ⟨Nat.le_of_ble_eq_true rfl, Nat.le_of_ble_eq_true rfl⟩) (g_preV hE hI (g_recv hE hI hgc rfl)) rfl rfl hl.1 rfl (lv_room (Nat.le_of_ble_eq_true rfl)) dX2_run_52 ⟨(by show _ ≤ 2 * ((runW uq nu w).1.2.2.1 - w.2.2.1); omega), (by show _ ≤ 39 * ((runW uq nu w).1.2.2.1 - w.2.2.1); omega)⟩) (fun H locs hI hS => ?_)
        refine lv_aload_n hx hb dX2_run_55 rfl (lv_at hl 1 rfl) ?_
        refine lv_aload hx hb dX2_run_56 (lv_at hl 0 rfl) ?_
        refine g_ci0 (G := Gi) (v := a) hS (va_runV (As := []) (rest := [.ref con, .ref (eK E k)]) ⟨hx, hb, hml, hown, hts⟩ (m_Ua l E Gi (uA i) (os, 5, i) tm (eK E k) a b hgc) (cwV 0 hts (lw_V q691 q285 q286 q56 q287) rfl rfl rfl (by decide +kernel) ⟨Nat.le_of_ble_eq_true rfl, Nat.le_of_ble_eq_true rfl⟩) (g_preV hE hI (g_recv hE hI hgc rfl)) rfl rfl hl.1 rfl (lv_room (Nat.le_of_ble_eq_true rfl)) dX2_run_58 ⟨(by show _ ≤ 2 * ((runW uq nu w).1.2.2.1 - w.2.2.1); omega), (by show _ ≤ 39 * ((runW uq nu w).1.2.2.1 - w.2.2.1); omega)⟩) (fun H locs hI hS => ?_)
        refine lv_aload hx hb dX2_run_61 (lv_at hl 0 rfl) ?_
        refine g_ci0 (G := Gi) (v := b) hS (va_runV (As := []) (rest := [.int a, .ref con, .ref (eK E k)]) ⟨hx, hb, hml, hown, hts⟩ (m_Ub l E Gi (uA i) (os, 5, i) tm (eK E k) a b hgc) (cwV 0 hts (lw_V q692 q289 q290 q56 q291) rfl rfl rfl (by decide +kernel) ⟨Nat.le_of_ble_eq_true rfl, Nat.le_of_ble_eq_true rfl⟩) (g_preV hE hI (g_recv hE hI hgc rfl)) rfl rfl hl.1 rfl (lv_room (Nat.le_of_ble_eq_true rfl)) dX2_run_63 ⟨(by show _ ≤ 2 * ((runW uq nu w).1.2.2.1 - w.2.2.1); omega), (by show _ ≤ 39 * ((runW uq nu w).1.2.2.1 - w.2.2.1); omega)⟩) (fun H locs hI hS => ?_)
        refine g_cv (av := ([.ref (eK E k), .ref con, .int a, .int b] : List Value).toArray) (rest := []) (post := fun G' => ∃ kC, CRep E G' o (con, ld, lc, dA, kC) (crun (runS uq w.1.2.1 w i).1 k a b) ∧ Fr (Ow o) Gi G') (mc := 2 * cst k (runS uq w.1.2.1 w i).1.2.2.1) (ms := 39 * cst k (runS uq w.1.2.1 w i).1.2.2.1) hS ?_ (fun G1 H locs hp hI hS => ?_)
        · have hk5 : k < 5 := hoki.1
          rcases (show k = 0 ∨ k = 1 ∨ k = 2 ∨ k = 3 ∨ k = 4 by omega) with rfl | rfl | rfl | rfl | rfl
          · obtain ⟨j, hj, rfl⟩ := hoki.2 rfl
            rw [← runS_nd uq w.1.2.1 w i] at hj
            exact g_runU (n := 3) (C := RX12) (owner := "StarConsole$Kind") (x := ⟨"StarConsole$Kind", "run", "(LStarConsole$Console;II)V"⟩) (As := [.ref con, .int (nI j), .int b]) (rest := []) hx hb hml hown hts (m_krun0 l E Gi o (con, ld, lc, dA, kB) (runS uq w.1.2.1 w i).1 hCr (eK E 0) j hj b) rfl rfl (Nat.le_of_ble_eq_true rfl) (Nat.le_of_ble_eq_true rfl) q693 q695 (hE.nw q694 rfl) q696 q697 q698 (by decide +kernel) (g_preV hE hI (kRecv (k := 0) hE hI (by decide))) rfl rfl hl.1 rfl (lv_room (Nat.le_of_ble_eq_true rfl)) dX2_run_66 ⟨(by show _ ≤ 2 * ((runW uq nu w).1.2.2.1 - w.2.2.1); omega), (by show _ ≤ 39 * ((runW uq nu w).1.2.2.1 - w.2.2.1); omega)⟩
          · exact g_runU (n := 3) (C := RX10) (owner := "StarConsole$Kind") (x := ⟨"StarConsole$Kind", "run", "(LStarConsole$Console;II)V"⟩) (As := [.ref con, .int a, .int b]) (rest := []) hx hb hml hown hts (m_krun1 l E Gi o (con, ld, lc, dA, kB) (runS uq w.1.2.1 w i).1 hCr (eK E 1) a b) rfl rfl (Nat.le_of_ble_eq_true rfl) (Nat.le_of_ble_eq_true rfl) q693 q695 (hE.nw q694 rfl) q701 q702 q703 (by decide +kernel) (g_preV hE hI (kRecv (k := 1) hE hI (by decide))) rfl rfl hl.1 rfl (lv_room (Nat.le_of_ble_eq_true rfl)) dX2_run_66 ⟨(by show _ ≤ 2 * ((runW uq nu w).1.2.2.1 - w.2.2.1); omega), (by show _ ≤ 39 * ((runW uq nu w).1.2.2.1 - w.2.2.1); omega)⟩
          · exact g_runU (n := 3) (C := RX13) (owner := "StarConsole$Kind") (x := ⟨"StarConsole$Kind", "run", "(LStarConsole$Console;II)V"⟩) (As := [.ref con, .int a, .int b]) (rest := []) hx hb hml hown hts (m_krun2 l E Gi o (con, ld, lc, dA, kB) (runS uq w.1.2.1 w i).1 hCr (eK E 2) a b) rfl rfl (Nat.le_of_ble_eq_true rfl) (Nat.le_of_ble_eq_true rfl) q693 q695 (hE.nw q694 rfl) q704 q705 q706 (by decide +kernel) (g_preV hE hI (kRecv (k := 2) hE hI (by decide))) rfl rfl hl.1 rfl (lv_room (Nat.le_of_ble_eq_true rfl)) dX2_run_66 ⟨(by show _ ≤ 2 * ((runW uq nu w).1.2.2.1 - w.2.2.1); omega), (by show _ ≤ 39 * ((runW uq nu w).1.2.2.1 - w.2.2.1); omega)⟩
          · exact g_runU (n := 3) (C := RX11) (owner := "StarConsole$Kind") (x := ⟨"StarConsole$Kind", "run", "(LStarConsole$Console;II)V"⟩) (As := [.ref con, .int a, .int b]) (rest := []) hx hb hml hown hts (m_krun3 l E Gi o (con, ld, lc, dA, kB) (runS uq w.1.2.1 w i).1 hCr (eK E 3) a b) rfl rfl (Nat.le_of_ble_eq_true rfl) (Nat.le_of_ble_eq_true rfl) q693 q695 (hE.nw q694 rfl) q729 q730 q731 (by decide +kernel) (g_preV hE hI (kRecv (k := 3) hE hI (by decide))) rfl rfl hl.1 rfl (lv_room (Nat.le_of_ble_eq_true rfl)) dX2_run_66 ⟨(by show _ ≤ 2 * ((runW uq nu w).1.2.2.1 - w.2.2.1); omega), (by show _ ≤ 39 * ((runW uq nu w).1.2.2.1 - w.2.2.1); omega)⟩
          · exact g_runU (n := 3) (C := RX9) (owner := "StarConsole$Kind") (x := ⟨"StarConsole$Kind", "run", "(LStarConsole$Console;II)V"⟩) (As := [.ref con, .int a, .int b]) (rest := []) hx hb hml hown hts (m_krun4 l E Gi o (con, ld, lc, dA, kB) (runS uq w.1.2.1 w i).1 hCr (eK E 4) a b) rfl rfl (Nat.le_of_ble_eq_true rfl) (Nat.le_of_ble_eq_true rfl) q693 q695 (hE.nw q694 rfl) q732 q733 q734 (by decide +kernel) (g_preV hE hI (kRecv (k := 4) hE hI (by decide))) rfl rfl hl.1 rfl (lv_room (Nat.le_of_ble_eq_true rfl)) dX2_run_66 ⟨(by show _ ≤ 2 * ((runW uq nu w).1.2.2.1 - w.2.2.1); omega), (by show _ ≤ 39 * ((runW uq nu w).1.2.2.1 - w.2.2.1); omega)⟩
        · obtain ⟨kC, hC2, hF2⟩ := hp
          refine lv_iinc (v := ((runS uq w.1.2.1 w i).2 + 1)) (lv' := [(2, .int ((runS uq w.1.2.1 w i).2 + 1)), (4, .ref (uA i)), (0, .ref con), (1, .ref lu), (3, .int (nI i))]) hx hb dX2_run_69 hl (k := 3) rfl rfl (by decide) rfl (fun ls hl => ?_)
          refine lv_iinc (v := nI (i + 1)) (lv' := [(3, .int (nI (i + 1))), (2, .int ((runS uq w.1.2.1 w i).2 + 1)), (4, .ref (uA i)), (0, .ref con), (1, .ref lu)]) hx hb dX2_run_72 hl (k := 4) rfl (nI_1 i) (by decide) rfl (fun ls hl => ?_)
          refine lv_goto (tgt := 13) hx hb dX2_run_75 (by decide) ?_
          have e10 : ((runS uq w.1.2.1 w i).2 + 1 : Int32) = (runS uq w.1.2.1 w (i + 1)).2 := by rw [e9]
          rw [e10] at hl
          refine W.widen (k := 2 * ((runS uq w.1.2.1 w (i + 1)).1.2.2.1 - w.2.2.1)) (n := 39 * ((runS uq w.1.2.1 w (i + 1)).1.2.2.1 - w.2.2.1)) (by rw [e9]; show _ ≤ 2 * ((crun (runS uq w.1.2.1 w i).1 k a b).2.2.1 - _); rw [crun_cst]; omega) (by rw [e9]; show _ ≤ 39 * ((crun (runS uq w.1.2.1 w i).1 k a b).2.2.1 - _); rw [crun_cst]; omega) ?_
          exact ih1 (i + 1) G1 kC _ _ _ (by omega) ⟨hlt, by rw [e9]; exact hC2, Fr.trans hFr hF2, hI, hS, lv_sub hl [3, 4, 1, 0] rfl⟩
      · have e9 : runS uq w.1.2.1 w (i + 1) = (runS uq w.1.2.1 w i) := hS1.trans (if_neg (fun z => c2 (z.trans (runS_ck uq w.1.2.1 w i).symm)))
        refine lv_goto (tgt := 72) hx hb dX2_run_47 (by decide) ?_
        refine lv_iinc (v := nI (i + 1)) (lv' := [(3, .int (nI (i + 1))), (4, .ref (uA i)), (0, .ref con), (1, .ref lu), (2, .int ((runS uq w.1.2.1 w i).2))]) hx hb dX2_run_72 hl (k := 4) rfl (nI_1 i) (by decide) rfl (fun ls hl => ?_)
        refine lv_goto (tgt := 13) hx hb dX2_run_75 (by decide) ?_
        rw [← e9] at hl
        refine W.widen (k := 2 * ((runS uq w.1.2.1 w (i + 1)).1.2.2.1 - w.2.2.1)) (n := 39 * ((runS uq w.1.2.1 w (i + 1)).1.2.2.1 - w.2.2.1)) (by rw [e9]; exact Nat.le_refl _) (by rw [e9]; exact Nat.le_refl _) ?_
        exact ih1 (i + 1) Gi kB _ _ _ (by omega) ⟨hlt, by rw [e9]; exact hCr, hFr, hI, hS, lv_sub hl [2, 3, 4, 0] rfl⟩
  · refine lv_iconst (v := 0) hx hb dX2_run_7 (by decide) ?_
    exact g_iret hx hb hr hlk hI hS dX2_run_8 (Nat.zero_le _) (Nat.zero_le _) (⟨by unfold runW; rw [if_pos c0], kA, by unfold runW; rw [if_pos c0]; exact hR, Fr.rf⟩)
