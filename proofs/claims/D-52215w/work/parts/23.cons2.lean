/-! CONTRACTS of the kinds' run, of the console's speak. Printed by gen/p23.py -/
set_option maxHeartbeats 4000000 in
set_option maxRecDepth 100000 in
theorem m_krun0 (l : Launch) (E : EnvT) (G : Gh) (o : Nat) (A : CA) (w : Cn) (hR : CRep E G o A w) (h0 : Nat) (j : Nat) (hj : j < w.2.1.1) (b : Int32) : MetU l yX12_run (ws_ yX12_run cX12_run 4 none) ({ frames := 3, cells := 2 * cst 0 w.2.2.1, slots := 39 * cst 0 w.2.2.1, locals := 64 } : Room) (cP E G [.ref h0, .ref A.1, .int (nI j), .int b]) (cV E (fun G' => ∃ kB, CRep E G' o (A.1, A.2.1, A.2.2.1, A.2.2.2.1, kB) (crun w 0 (nI j) b) ∧ Fr (Ow o) G G')) (2 * cst 0 w.2.2.1) (39 * cst 0 w.2.2.1) (eA E) := by
  obtain ⟨con, ld, lc, dA, kA⟩ := A
  obtain ⟨⟨tk, ck, rn, an, sp, ln, lf⟩, ⟨nd, dm⟩, ⟨nc, km⟩⟩ := w
  refine g_umet (av := [.ref h0, .ref con, .int (nI j), .int b]) (lv := [(0, .ref h0), (1, .ref con), (2, .int (nI j)), (3, .int b)]) (by decide) (Nat.le_of_ble_eq_true rfl) rfl ?_
  intro p e s m below meth c ls hx hb hr hlk hml hin hts hown hE hI hL hS hl
  have hR0 := hR
  obtain ⟨hcon, ⟨ed, hld⟩, ⟨ec, hlc⟩, hd, hk⟩ := hR0
  have hcon : G con = some ((o, 0, 0), coO tk ck rn an sp ln lf ld lc) := hcon
  have hld : LRep E G (o, 1, 0) (o, 2, 0) ld ed nd dA := hld
  have hlc : LRep E G (o, 3, 0) (o, 4, 0) lc ec nc kA := hlc
  have hd : ∀ k, k < nd → G (dA k) = some ((o, 5, k), dOt (dm k)) := hd
  have hk : ∀ k, k < nc → G (kA k) = some ((o, 6, k), kOt (km k)) := hk
  have hn1 : nd ≤ 36 := hld.n36
  have hn2 : nc ≤ 36 := hlc.n36
  have hj : j < nd := hj
  refine lv_aload_n hx hb dX12_run_0 rfl (lv_at hl 1 rfl) ?_
  refine g_getN (C := RX2) (T := TX2) (N := 9) (v := .ref ld) hx hb hts in_X2 hown hE hI hcon rfl 7 (by decide) q119 (fun _ h9 => h9) rfl dX12_run_1 ?_
  refine lv_iload_n hx hb dX12_run_4 rfl (lv_at hl 2 rfl) ?_
  refine g_cr0 (G := G) (v := dA j) hS (va_runV (As := [.int (nI j)]) (rest := []) ⟨hx, hb, hml, hown, hts⟩ (m_get l E G (o, 1, 0) (o, 2, 0) ld ed nd dA hld j hj) (cwV 1 hts (lw_V q699 q166 q167 q34 q168) rfl rfl rfl (by decide +kernel) ⟨Nat.le_of_ble_eq_true rfl, Nat.le_of_ble_eq_true rfl⟩) (g_preV hE hI (hld.recv hE hI)) rfl rfl hl.1 rfl (lv_room (Nat.le_of_ble_eq_true rfl)) dX12_run_5 ⟨Nat.le_of_ble_eq_true rfl, Nat.le_of_ble_eq_true rfl⟩) (fun H locs hI hS => ?_)
  have hdj := hd j hj
  refine g_cast hx hb hts hown q700 hE hI hdj rfl rfl dX12_run_8 ?_
  refine lv_iload_n hx hb dX12_run_11 rfl (lv_at hl 3 rfl) ?_
  refine g_putN (C := RX4) (T := TX4) (N := 5) (v := .int b) (ty := .int) (fs' := [.int ((dm j).1), .int ((dm j).2.1), .int ((dm j).2.2.1), .int b, .int ((dm j).2.2.2.2)]) hx hb hts in_X4 tyX4 tyX4_ok nmX4 hown hE hI hS hL hdj rfl 3 (by decide) q405 (fun _ h9 => h9) rfl (by decide +kernel) rfl rfl (Nat.le_of_ble_eq_true rfl) rfl dX12_run_12 (fun H locs hI hS => ?_)
  have hdj : (gU G (dA j) ((o, 5, j), .inr (2, [.int ((dm j).1), .int ((dm j).2.1), .int ((dm j).2.2.1), .int b, .int ((dm j).2.2.2.2)]))) (dA j) = some ((o, 5, j), .inr (2, [.int ((dm j).1), .int ((dm j).2.1), .int ((dm j).2.2.1), .int b, .int ((dm j).2.2.2.2)])) := gU_self
  have hz := hR.setD (j := j) hj ((dm j).1, (dm j).2.1, (dm j).2.2.1, b, (dm j).2.2.2.2)
  exact g_vret hx hb hr hlk hI hS dX12_run_15 (Nat.zero_le _) (Nat.zero_le _) (⟨kA, by simp only [crun, nI_clamp (show j < 2 ^ 31 by omega)]; exact hz.1, hz.2⟩)
set_option maxHeartbeats 4000000 in
set_option maxRecDepth 100000 in
theorem m_krun1 (l : Launch) (E : EnvT) (G : Gh) (o : Nat) (A : CA) (w : Cn) (hR : CRep E G o A w) (h0 : Nat) (a b : Int32) : MetU l yX10_run (ws_ yX10_run cX10_run 4 none) ({ frames := 0, cells := 2 * cst 1 w.2.2.1, slots := 39 * cst 1 w.2.2.1, locals := 0 } : Room) (cP E G [.ref h0, .ref A.1, .int a, .int b]) (cV E (fun G' => ∃ kB, CRep E G' o (A.1, A.2.1, A.2.2.1, A.2.2.2.1, kB) (crun w 1 a b) ∧ Fr (Ow o) G G')) (2 * cst 1 w.2.2.1) (39 * cst 1 w.2.2.1) (eA E) := by
  obtain ⟨con, ld, lc, dA, kA⟩ := A
  obtain ⟨⟨tk, ck, rn, an, sp, ln, lf⟩, ⟨nd, dm⟩, ⟨nc, km⟩⟩ := w
  refine g_umet (av := [.ref h0, .ref con, .int a, .int b]) (lv := [(0, .ref h0), (1, .ref con), (2, .int a), (3, .int b)]) (by decide) (Nat.le_of_ble_eq_true rfl) rfl ?_
  intro p e s m below meth c ls hx hb hr hlk hml hin hts hown hE hI hL hS hl
  have hR0 := hR
  obtain ⟨hcon, ⟨ed, hld⟩, ⟨ec, hlc⟩, hd, hk⟩ := hR0
  have hcon : G con = some ((o, 0, 0), coO tk ck rn an sp ln lf ld lc) := hcon
  have hld : LRep E G (o, 1, 0) (o, 2, 0) ld ed nd dA := hld
  have hlc : LRep E G (o, 3, 0) (o, 4, 0) lc ec nc kA := hlc
  have hd : ∀ k, k < nd → G (dA k) = some ((o, 5, k), dOt (dm k)) := hd
  have hk : ∀ k, k < nc → G (kA k) = some ((o, 6, k), kOt (km k)) := hk
  have hn1 : nd ≤ 36 := hld.n36
  have hn2 : nc ≤ 36 := hlc.n36
  refine lv_aload_n hx hb dX10_run_0 rfl (lv_at hl 1 rfl) ?_
  refine lv_iload_n hx hb dX10_run_1 rfl (lv_at hl 3 rfl) ?_
  refine g_putN (C := RX2) (T := TX2) (N := 9) (v := .int b) (ty := .int) (fs' := [.int tk, .int ck, .int rn, .int an, .int b, .int ln, .int lf, .ref ld, .ref lc]) hx hb hts in_X2 tyX2 tyX2_ok nmX2 hown hE hI hS hL hcon rfl 4 (by decide) q110 (fun _ h9 => h9) rfl (by decide +kernel) rfl rfl (Nat.le_of_ble_eq_true rfl) rfl dX10_run_2 (fun H locs hI hS => ?_)
  have hcon : (gU G con ((o, 0, 0), .inr (1, [.int tk, .int ck, .int rn, .int an, .int b, .int ln, .int lf, .ref ld, .ref lc]))) con = some ((o, 0, 0), .inr (1, [.int tk, .int ck, .int rn, .int an, .int b, .int ln, .int lf, .ref ld, .ref lc])) := gU_self
  have hz := hR.setC (tk, ck, rn, an, b, ln, lf)
  exact g_vret hx hb hr hlk hI hS dX10_run_5 (Nat.zero_le _) (Nat.zero_le _) (⟨kA, hz.1, hz.2⟩)
set_option maxHeartbeats 4000000 in
set_option maxRecDepth 100000 in
theorem m_krun3 (l : Launch) (E : EnvT) (G : Gh) (o : Nat) (A : CA) (w : Cn) (hR : CRep E G o A w) (h0 : Nat) (a b : Int32) : MetU l yX11_run (ws_ yX11_run cX11_run 4 none) ({ frames := 0, cells := 2 * cst 3 w.2.2.1, slots := 39 * cst 3 w.2.2.1, locals := 0 } : Room) (cP E G [.ref h0, .ref A.1, .int a, .int b]) (cV E (fun G' => ∃ kB, CRep E G' o (A.1, A.2.1, A.2.2.1, A.2.2.2.1, kB) (crun w 3 a b) ∧ Fr (Ow o) G G')) (2 * cst 3 w.2.2.1) (39 * cst 3 w.2.2.1) (eA E) := by
  obtain ⟨con, ld, lc, dA, kA⟩ := A
  obtain ⟨⟨tk, ck, rn, an, sp, ln, lf⟩, ⟨nd, dm⟩, ⟨nc, km⟩⟩ := w
  refine g_umet (av := [.ref h0, .ref con, .int a, .int b]) (lv := [(0, .ref h0), (1, .ref con), (2, .int a), (3, .int b)]) (by decide) (Nat.le_of_ble_eq_true rfl) rfl ?_
  intro p e s m below meth c ls hx hb hr hlk hml hin hts hown hE hI hL hS hl
  have hR0 := hR
  obtain ⟨hcon, ⟨ed, hld⟩, ⟨ec, hlc⟩, hd, hk⟩ := hR0
  have hcon : G con = some ((o, 0, 0), coO tk ck rn an sp ln lf ld lc) := hcon
  have hld : LRep E G (o, 1, 0) (o, 2, 0) ld ed nd dA := hld
  have hlc : LRep E G (o, 3, 0) (o, 4, 0) lc ec nc kA := hlc
  have hd : ∀ k, k < nd → G (dA k) = some ((o, 5, k), dOt (dm k)) := hd
  have hk : ∀ k, k < nc → G (kA k) = some ((o, 6, k), kOt (km k)) := hk
  have hn1 : nd ≤ 36 := hld.n36
  have hn2 : nc ≤ 36 := hlc.n36
  refine lv_aload_n hx hb dX11_run_0 rfl (lv_at hl 1 rfl) ?_
  refine lv_iload_n hx hb dX11_run_1 rfl (lv_at hl 2 rfl) ?_
  refine g_putN (C := RX2) (T := TX2) (N := 9) (v := .int a) (ty := .int) (fs' := [.int tk, .int ck, .int rn, .int an, .int sp, .int a, .int lf, .ref ld, .ref lc]) hx hb hts in_X2 tyX2 tyX2_ok nmX2 hown hE hI hS hL hcon rfl 5 (by decide) q113 (fun _ h9 => h9) rfl (by decide +kernel) rfl rfl (Nat.le_of_ble_eq_true rfl) rfl dX11_run_2 (fun H locs hI hS => ?_)
  have hcon : (gU G con ((o, 0, 0), .inr (1, [.int tk, .int ck, .int rn, .int an, .int sp, .int a, .int lf, .ref ld, .ref lc]))) con = some ((o, 0, 0), .inr (1, [.int tk, .int ck, .int rn, .int an, .int sp, .int a, .int lf, .ref ld, .ref lc])) := gU_self
  refine lv_aload_n hx hb dX11_run_5 rfl (lv_at hl 1 rfl) ?_
  refine lv_iload_n hx hb dX11_run_6 rfl (lv_at hl 3 rfl) ?_
  refine g_putN (C := RX2) (T := TX2) (N := 9) (v := .int b) (ty := .int) (fs' := [.int tk, .int ck, .int rn, .int an, .int sp, .int a, .int b, .ref ld, .ref lc]) hx hb hts in_X2 tyX2 tyX2_ok nmX2 hown hE hI hS hL hcon rfl 6 (by decide) q116 (fun _ h9 => h9) rfl (by decide +kernel) rfl rfl (Nat.le_of_ble_eq_true rfl) rfl dX11_run_7 (fun H locs hI hS => ?_)
  have hcon : (gU (gU G con ((o, 0, 0), .inr (1, [.int tk, .int ck, .int rn, .int an, .int sp, .int a, .int lf, .ref ld, .ref lc]))) con ((o, 0, 0), .inr (1, [.int tk, .int ck, .int rn, .int an, .int sp, .int a, .int b, .ref ld, .ref lc]))) con = some ((o, 0, 0), .inr (1, [.int tk, .int ck, .int rn, .int an, .int sp, .int a, .int b, .ref ld, .ref lc])) := gU_self
  have hz := hR.setC (tk, ck, rn, an, sp, a, b)
  rw [gU_gU] at hI
  exact g_vret hx hb hr hlk hI hS dX11_run_10 (Nat.zero_le _) (Nat.zero_le _) (⟨kA, hz.1, hz.2⟩)
set_option maxHeartbeats 4000000 in
set_option maxRecDepth 100000 in
theorem m_krun4 (l : Launch) (E : EnvT) (G : Gh) (o : Nat) (A : CA) (w : Cn) (hR : CRep E G o A w) (h0 : Nat) (a b : Int32) : MetU l yX9_run (ws_ yX9_run cX9_run 4 none) ({ frames := 0, cells := 2 * cst 4 w.2.2.1, slots := 39 * cst 4 w.2.2.1, locals := 0 } : Room) (cP E G [.ref h0, .ref A.1, .int a, .int b]) (cV E (fun G' => ∃ kB, CRep E G' o (A.1, A.2.1, A.2.2.1, A.2.2.2.1, kB) (crun w 4 a b) ∧ Fr (Ow o) G G')) (2 * cst 4 w.2.2.1) (39 * cst 4 w.2.2.1) (eA E) := by
  obtain ⟨con, ld, lc, dA, kA⟩ := A
  obtain ⟨⟨tk, ck, rn, an, sp, ln, lf⟩, ⟨nd, dm⟩, ⟨nc, km⟩⟩ := w
  refine g_umet (av := [.ref h0, .ref con, .int a, .int b]) (lv := [(0, .ref h0), (1, .ref con), (2, .int a), (3, .int b)]) (by decide) (Nat.le_of_ble_eq_true rfl) rfl ?_
  intro p e s m below meth c ls hx hb hr hlk hml hin hts hown hE hI hL hS hl
  have hR0 := hR
  obtain ⟨hcon, ⟨ed, hld⟩, ⟨ec, hlc⟩, hd, hk⟩ := hR0
  have hcon : G con = some ((o, 0, 0), coO tk ck rn an sp ln lf ld lc) := hcon
  have hld : LRep E G (o, 1, 0) (o, 2, 0) ld ed nd dA := hld
  have hlc : LRep E G (o, 3, 0) (o, 4, 0) lc ec nc kA := hlc
  have hd : ∀ k, k < nd → G (dA k) = some ((o, 5, k), dOt (dm k)) := hd
  have hk : ∀ k, k < nc → G (kA k) = some ((o, 6, k), kOt (km k)) := hk
  have hn1 : nd ≤ 36 := hld.n36
  have hn2 : nc ≤ 36 := hlc.n36
  refine lv_aload_n hx hb dX9_run_0 rfl (lv_at hl 1 rfl) ?_
  refine lv_iconst (v := 0) hx hb dX9_run_1 (by decide) ?_
  refine g_putN (C := RX2) (T := TX2) (N := 9) (v := .int 0) (ty := .boolean) (fs' := [.int tk, .int ck, .int 0, .int an, .int sp, .int ln, .int lf, .ref ld, .ref lc]) hx hb hts in_X2 tyX2 tyX2_ok nmX2 hown hE hI hS hL hcon rfl 2 (by decide) q105 (fun _ h9 => h9) rfl (by decide +kernel) rfl rfl (Nat.le_of_ble_eq_true rfl) rfl dX9_run_2 (fun H locs hI hS => ?_)
  have hcon : (gU G con ((o, 0, 0), .inr (1, [.int tk, .int ck, .int 0, .int an, .int sp, .int ln, .int lf, .ref ld, .ref lc]))) con = some ((o, 0, 0), .inr (1, [.int tk, .int ck, .int 0, .int an, .int sp, .int ln, .int lf, .ref ld, .ref lc])) := gU_self
  have hz := hR.setC (tk, ck, 0, an, sp, ln, lf)
  exact g_vret hx hb hr hlk hI hS dX9_run_5 (Nat.zero_le _) (Nat.zero_le _) (⟨kA, hz.1, hz.2⟩)
set_option maxHeartbeats 4000000 in
set_option maxRecDepth 100000 in
theorem m_krun2 (l : Launch) (E : EnvT) (G : Gh) (o : Nat) (A : CA) (w : Cn) (hR : CRep E G o A w) (h0 : Nat) (a b : Int32) : MetU l yX13_run (ws_ yX13_run cX13_run 4 none) ({ frames := 7, cells := 2 * cst 2 w.2.2.1, slots := 39 * cst 2 w.2.2.1, locals := 171 } : Room) (cP E G [.ref h0, .ref A.1, .int a, .int b]) (cV E (fun G' => ∃ kB, CRep E G' o (A.1, A.2.1, A.2.2.1, A.2.2.2.1, kB) (crun w 2 a b) ∧ Fr (Ow o) G G')) (2 * cst 2 w.2.2.1) (39 * cst 2 w.2.2.1) (eA E) := by
  obtain ⟨con, ld, lc, dA, kA⟩ := A
  obtain ⟨⟨tk, ck, rn, an, sp, ln, lf⟩, ⟨nd, dm⟩, ⟨nc, km⟩⟩ := w
  refine g_umet (av := [.ref h0, .ref con, .int a, .int b]) (lv := [(0, .ref h0), (1, .ref con), (2, .int a), (3, .int b)]) (by decide) (Nat.le_of_ble_eq_true rfl) rfl ?_
  intro p e s m below meth c ls hx hb hr hlk hml hin hts hown hE hI hL hS hl
  have hR0 := hR
  obtain ⟨hcon, ⟨ed, hld⟩, ⟨ec, hlc⟩, hd, hk⟩ := hR0
  have hcon : G con = some ((o, 0, 0), coO tk ck rn an sp ln lf ld lc) := hcon
  have hld : LRep E G (o, 1, 0) (o, 2, 0) ld ed nd dA := hld
  have hlc : LRep E G (o, 3, 0) (o, 4, 0) lc ec nc kA := hlc
  have hd : ∀ k, k < nd → G (dA k) = some ((o, 5, k), dOt (dm k)) := hd
  have hk : ∀ k, k < nc → G (kA k) = some ((o, 6, k), kOt (km k)) := hk
  have hn1 : nd ≤ 36 := hld.n36
  have hn2 : nc ≤ 36 := hlc.n36
  refine lv_aload_n hx hb dX13_run_0 rfl (lv_at hl 1 rfl) ?_
  refine g_getN (C := RX2) (T := TX2) (N := 9) (v := .ref lc) hx hb hts in_X2 hown hE hI hcon rfl 8 (by decide) q122 (fun _ h9 => h9) rfl dX13_run_1 ?_
  refine g_ci0 (G := G) (v := nI nc) hS (va_runV (As := []) (rest := []) ⟨hx, hb, hml, hown, hts⟩ (m_size l E G (o, 3, 0) (o, 4, 0) lc ec nc kA hlc) (cwV 0 hts (lw_V q707 q162 q163 q34 q164) rfl rfl rfl (by decide +kernel) ⟨Nat.le_of_ble_eq_true rfl, Nat.le_of_ble_eq_true rfl⟩) (g_preV hE hI (hlc.recv hE hI)) rfl rfl hl.1 rfl (lv_room (Nat.le_of_ble_eq_true rfl)) dX13_run_4 ⟨Nat.le_of_ble_eq_true rfl, Nat.le_of_ble_eq_true rfl⟩) (fun H locs hI hS => ?_)
  refine lv_bipush (v := 12) hx hb dX13_run_7 (by decide) ?_
  refine lv_icmp_ge (tgt := 29) hx hb dX13_run_9 (by decide) (fun c1 => ?_) (fun c1 => ?_)
  · have hge : ¬ nc < 12 := fun z => absurd c1 (nI_ge (b := 12) z (by omega))
    have ez : crun ((tk, ck, rn, an, sp, ln, lf), (nd, dm), (nc, km)) 2 a b = ((tk, ck, rn, an, sp, ln, lf), (nd, dm), (nc, km)) := if_neg hge
    exact g_vret hx hb hr hlk hI hS dX13_run_29 (Nat.zero_le _) (Nat.zero_le _) (⟨kA, by rw [ez]; exact hR, Fr.rf⟩)
  · have hlt : nc < 12 := Nat.lt_of_not_le (fun z => c1 (nI_le (a := 12) z (by omega)))
    have ez : crun ((tk, ck, rn, an, sp, ln, lf), (nd, dm), (nc, km)) 2 a b = ((tk, ck, rn, an, sp, ln, lf), (nd, dm), (nc + 1, va_up km nc (b, a, 20))) := if_pos hlt
    have e1 : cst 2 nc = 1 := by unfold cst; rw [if_pos rfl, if_pos hlt]
    have hR1 := hR
    have hlc1 := hlc
    have hk1 := hk
    refine lv_aload_n hx hb dX13_run_12 rfl (lv_at hl 1 rfl) ?_
    refine g_getN (C := RX2) (T := TX2) (N := 9) (v := .ref lc) hx hb hts in_X2 hown hE hI hcon rfl 8 (by decide) q122 (fun _ h9 => h9) rfl dX13_run_13 ?_
    refine g_new (C := RX8) (T := TX8) (N := 3) (ci := 3) (fs := [.int 0, .int 0, .int 0]) (o, 6, nc) hx hb hts in_X8 tyX8 tyX8_ok hown q708 q709 q57 hE hI hS hL rfl (fun j hj => by rcases (show j = 0 ∨ j = 1 ∨ j = 2 by omega) with rfl | rfl | rfl <;> rfl) ((by show _ ≤ 2 * cst 2 nc; omega)) ((by show _ ≤ 39 * cst 2 nc; omega)) dX13_run_16 (fun q H hnq hI hS => ?_)
    have h_q : (gU G q ((o, 6, nc), .inr (3, [.int 0, .int 0, .int 0]))) q = some ((o, 6, nc), .inr (3, [.int 0, .int 0, .int 0])) := gU_self
    refine lv_dup hx hb dX13_run_19 rfl ?_
    refine lv_iload_n hx hb dX13_run_20 rfl (lv_at hl 2 rfl) ?_
    refine lv_iload_n hx hb dX13_run_21 rfl (lv_at hl 3 rfl) ?_
    refine g_cv0 hS (va_runI (As := [.int a, .int b]) (rest := [.ref q, .ref lc]) ⟨hx, hb, hml, hown, hts⟩ (m_Kinit l E (gU G q ((o, 6, nc), .inr (3, [.int 0, .int 0, .int 0]))) q (o, 6, nc) a b h_q) (cwI 2 hts (lw_meth q712) rfl rfl rfl (hts _ q57) (hts _ q710) (hts _ q711) rfl (by decide +kernel) ⟨Nat.le_of_ble_eq_true rfl, Nat.le_of_ble_eq_true rfl⟩) (g_preS hE hI) rfl rfl hl.1 rfl (lv_room (Nat.le_of_ble_eq_true rfl)) dX13_run_22 ⟨(by show _ ≤ 2 * cst 2 nc; omega), (by show _ ≤ 39 * cst 2 nc; omega)⟩) (fun H locs hI hS => ?_)
    rw [gU_gU] at hI
    have hF0 : Fr (fun t => t = (o, 6, nc)) G (gU G q ((o, 6, nc), kO b a 20)) := Fr.new hnq
    have hFn : ∀ P, Fr P G (gU G q ((o, 6, nc), kO b a 20)) := fun P => Fr.new hnq
    have hq : gU G q ((o, 6, nc), kO b a 20) q = some ((o, 6, nc), kO b a 20) := gU_self
    have hlc2 := hlc1.fr (hFn (fun _ => False)) id id
    refine g_ci hS (va_runV (As := [.ref q]) (rest := []) ⟨hx, hb, hml, hown, hts⟩ (m_add l E (gU G q ((o, 6, nc), kO b a 20)) (o, 3, 0) (o, 4, 0) lc ec nc kA hlc2 q 3 (o, 6, nc) [.int b, .int a, .int 20] (RX8, TX8, 3) (by simp) (by simp) (by simp) hq rfl (by omega) (fun k hk => ⟨(o, 6, k), _, by simp, hFn (fun _ => False) _ _ _ id (hk1 k hk)⟩)) (cwV 1 hts (lw_V q728 q421 q422 q34 q423) rfl rfl rfl (by decide +kernel) ⟨Nat.le_of_ble_eq_true rfl, Nat.le_of_ble_eq_true rfl⟩) (g_preV hE hI (hlc2.recv hE hI)) rfl rfl hl.1 rfl (lv_room (Nat.le_of_ble_eq_true rfl)) dX13_run_25 ⟨(by show _ ≤ 2 * cst 2 nc; omega), (by show _ ≤ 39 * cst 2 nc; omega)⟩) (fun r G1 H locs hp hI hS => ?_)
    obtain ⟨rfl, el', hL1, hF1⟩ := hp
    refine lv_pop hx hb dX13_run_28 rfl ?_
    have hz := (hR1.fr (hFn (fun _ => False)) (fun _ z => z.elim)).addK (k := (b, a, 20)) hF1 (hF1 _ _ _ (by simp) hq) hL1
    exact g_vret hx hb hr hlk hI hS dX13_run_29 (by show _ ≤ 2 * cst 2 nc; omega) (by show _ ≤ 39 * cst 2 nc; omega) (⟨_, by rw [ez]; exact hz, Fr.trans (hFn _) (hF1.mono (fun t z => by rcases z with z | z <;> rw [z]))⟩)
set_option maxHeartbeats 4000000 in
set_option maxRecDepth 100000 in
theorem m_speak (l : Launch) (E : EnvT) (G : Gh) (o : Nat) (A : CA) (w : Cn) (hR : CRep E G o A w) : Met l yX2_speak (ws_ yX2_speak cX2_speak 1 none) ({ frames := 1, cells := 0, slots := 0, locals := 14 } : Room) (cP E G [.ref A.1]) (cV E (fun G' => CRep E G' o A (spk w) ∧ Fr (Ow o) G G')) 0 0 (eA E) := by
  obtain ⟨con, ld, lc, dA, kA⟩ := A
  obtain ⟨⟨tk, ck, rn, an, sp, ln, lf⟩, ⟨nd, dm⟩, ⟨nc, km⟩⟩ := w
  refine g_met (rm := ({ frames := 1, cells := 0, slots := 0, locals := 14 } : Room)) (av := [.ref con]) (lv := [(0, .ref con)]) (by decide) (Nat.le_of_ble_eq_true rfl) rfl ?_
  intro p e s m below meth c ls hx hb hr hlk hml hin hts hown hE hI hL hS hl
  have hR0 := hR
  obtain ⟨hcon, ⟨ed, hld⟩, ⟨ec, hlc⟩, hd, hk⟩ := hR0
  have hcon : G con = some ((o, 0, 0), coO tk ck rn an sp ln lf ld lc) := hcon
  have hld : LRep E G (o, 1, 0) (o, 2, 0) ld ed nd dA := hld
  have hlc : LRep E G (o, 3, 0) (o, 4, 0) lc ec nc kA := hlc
  have hd : ∀ k, k < nd → G (dA k) = some ((o, 5, k), dOt (dm k)) := hd
  have hk : ∀ k, k < nc → G (kA k) = some ((o, 6, k), kOt (km k)) := hk
  have hn1 : nd ≤ 36 := hld.n36
  have hn2 : nc ≤ 36 := hlc.n36
  refine lv_aload_n hx hb dX2_speak_0 rfl (lv_at hl 0 rfl) ?_
  refine lv_iconst (v := 0) hx hb dX2_speak_1 (by decide) ?_
  refine lv_aload_n hx hb dX2_speak_2 rfl (lv_at hl 0 rfl) ?_
  refine g_get (C := RX2) (T := TX2) (N := 9) (v := .int lf) hx hb hts in_X2 hown hE hI hcon rfl 6 (by decide) q115 (fun _ h9 => h9) rfl dX2_speak_3 ?_
  refine lv_iconst (v := 1) hx hb dX2_speak_6 (by decide) ?_
  refine lv_isub hx hb dX2_speak_7 ?_
  refine va_mmax hx hb (hml.trans hl.1.symm) hown (hts _ q752) (hts _ q440) (hts _ q44) (hts _ q441) (Nat.le_of_ble_eq_true rfl) (Nat.le_of_ble_eq_true rfl) (Nat.le_of_ble_eq_true rfl) (Nat.le_of_ble_eq_true rfl) dX2_speak_8 ?_
  have e0 : lfS lf = _ := rfl
  show W _ _ _ _ _ _ _ _ _ _ _ _ _ _ _ (F0 m _ ls [.int (lfS lf), .ref con])
  refine g_put (C := RX2) (T := TX2) (N := 9) (v := .int (lfS lf)) (ty := .int) (fs' := [.int tk, .int ck, .int rn, .int an, .int sp, .int ln, .int (lfS lf), .ref ld, .ref lc]) hx hb hts in_X2 tyX2 tyX2_ok nmX2 hown hE hI hS hL hcon rfl 6 (by decide) q115 (fun _ h9 => h9) rfl (by decide +kernel) rfl rfl (Nat.le_of_ble_eq_true rfl) rfl dX2_speak_11 (fun H locs hI hS => ?_)
  have hcon : (gU G con ((o, 0, 0), .inr (1, [.int tk, .int ck, .int rn, .int an, .int sp, .int ln, .int (lfS lf), .ref ld, .ref lc]))) con = some ((o, 0, 0), .inr (1, [.int tk, .int ck, .int rn, .int an, .int sp, .int ln, .int (lfS lf), .ref ld, .ref lc])) := gU_self
  refine lv_aload_n hx hb dX2_speak_14 rfl (lv_at hl 0 rfl) ?_
  refine g_get (C := RX2) (T := TX2) (N := 9) (v := .int (lfS lf)) hx hb hts in_X2 hown hE hI hcon rfl 6 (by decide) q115 (fun _ h9 => h9) rfl dX2_speak_15 ?_
  refine lv_if_ne (tgt := 26) hx hb dX2_speak_18 (by decide) (fun c1 => ?_) (fun c1 => ?_)
  · have hz := hR.setC (tk, ck, rn, an, sp, ln, lfS lf)
    exact g_vret hx hb hr hlk hI hS dX2_speak_26 (Nat.le_of_ble_eq_true rfl) (Nat.le_of_ble_eq_true rfl) (⟨by rw [show spk ((tk, ck, rn, an, sp, ln, lf), (nd, dm), (nc, km)) = ((tk, ck, rn, an, sp, ln, lfS lf), (nd, dm), (nc, km)) from by unfold spk lnS; rw [if_neg c1]]; exact hz.1, hz.2⟩)
  · refine lv_aload_n hx hb dX2_speak_21 rfl (lv_at hl 0 rfl) ?_
    refine lv_iconst (v := -1) hx hb dX2_speak_22 (by decide) ?_
    refine g_put (C := RX2) (T := TX2) (N := 9) (v := .int (-1)) (ty := .int) (fs' := [.int tk, .int ck, .int rn, .int an, .int sp, .int (-1), .int (lfS lf), .ref ld, .ref lc]) hx hb hts in_X2 tyX2 tyX2_ok nmX2 hown hE hI hS hL hcon rfl 5 (by decide) q112 (fun _ h9 => h9) rfl (by decide +kernel) rfl rfl (Nat.le_of_ble_eq_true rfl) rfl dX2_speak_23 (fun H locs hI hS => ?_)
    have hcon : (gU (gU G con ((o, 0, 0), .inr (1, [.int tk, .int ck, .int rn, .int an, .int sp, .int ln, .int (lfS lf), .ref ld, .ref lc]))) con ((o, 0, 0), .inr (1, [.int tk, .int ck, .int rn, .int an, .int sp, .int (-1), .int (lfS lf), .ref ld, .ref lc]))) con = some ((o, 0, 0), .inr (1, [.int tk, .int ck, .int rn, .int an, .int sp, .int (-1), .int (lfS lf), .ref ld, .ref lc])) := gU_self
    have hz := hR.setC (tk, ck, rn, an, sp, -1, lfS lf)
    rw [gU_gU] at hI
    exact g_vret hx hb hr hlk hI hS dX2_speak_26 (Nat.le_of_ble_eq_true rfl) (Nat.le_of_ble_eq_true rfl) (⟨by rw [show spk ((tk, ck, rn, an, sp, ln, lf), (nd, dm), (nc, km)) = ((tk, ck, rn, an, sp, -1, lfS lf), (nd, dm), (nc, km)) from by unfold spk lnS; rw [if_pos c1]]; exact hz.1, hz.2⟩)
