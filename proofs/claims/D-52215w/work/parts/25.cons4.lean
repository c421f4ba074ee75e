/-! CONTRACT of the console's pass. Printed by gen/p25.py -/
/-- a tick -/
def tickW (uq : Nat → Um) (nu : Nat) (w : Cn) : Cn × Int32 :=
  ((((runW uq nu w).1.1.1 + 1, (runW uq nu w).1.1.2.1, (runW uq nu w).1.1.2.2.1, rnd ((runW uq nu w).1.1.2.2.2.1 + (runW uq nu w).1.1.2.2.2.2.1), (runW uq nu w).1.1.2.2.2.2.1, lnS (runW uq nu w).1.1.2.2.2.2.2.1 (runW uq nu w).1.1.2.2.2.2.2.2, lfS (runW uq nu w).1.1.2.2.2.2.2.2),
    ((runW uq nu w).1.2.1.1, mapN dps (runW uq nu w).1.2.1.2 (runW uq nu w).1.2.1.1), ((runW uq nu w).1.2.2.1, mapN kps (runW uq nu w).1.2.2.2 (runW uq nu w).1.2.2.1)), (runW uq nu w).2)
theorem va_up_id {α : Type} (f : Nat → α) (k : Nat) : va_up f k (f k) = f := by
  funext j
  by_cases h : j = k
  · subst h; rw [va_up_self]
  · rw [va_up_ne _ _ h]
set_option maxHeartbeats 4000000 in
set_option maxRecDepth 100000 in
theorem m_Cpass (l : Launch) (E : EnvT) (G : Gh) (o : Nat) (A : CA) (w : Cn) (hR : CRep E G o A w) (os lu eu nu : Nat) (uA : Nat → Nat) (uq : Nat → Um) (hos : os ≠ o) (hU : URep E G os lu eu nu uA uq) (hok : ∀ i, i < nu → uOk w.2.1.1 (uq i)) : Met l yX2_pass (ws_ yX2_pass cX2_pass 4 (some .int)) ({ frames := 9, cells := 2 * ((runW uq nu w).1.2.2.1 - w.2.2.1), slots := 39 * ((runW uq nu w).1.2.2.1 - w.2.2.1), locals := 218 } : Room) (cP E G [.ref A.1, .ref lu]) (cI E (fun r G' => r = (tickW uq nu w).2 ∧ ∃ kB, CRep E G' o (A.1, A.2.1, A.2.2.1, A.2.2.2.1, kB) (tickW uq nu w).1 ∧ Fr (Ow o) G G')) (2 * ((runW uq nu w).1.2.2.1 - w.2.2.1)) (39 * ((runW uq nu w).1.2.2.1 - w.2.2.1)) (eA E) := by
  obtain ⟨con, ld, lc, dA, kA⟩ := A
  refine g_met (av := [.ref con, .ref lu]) (lv := [(0, .ref con), (1, .ref lu)]) (by decide) (Nat.le_of_ble_eq_true rfl) rfl ?_
  intro p e s m below meth c ls hx hb hr hlk hml hin hts hown hE hI hL hS hl
  have hcon : G con = some ((o, 0, 0), coOt w.1 ld lc) := hR.1
  refine lv_aload_n hx hb dX2_pass_0 rfl (lv_at hl 0 rfl) ?_
  refine lv_aload_n hx hb dX2_pass_1 rfl (lv_at hl 1 rfl) ?_
  refine g_ci hS (va_runV (As := [.ref lu]) (rest := []) ⟨hx, hb, hml, hown, hts⟩ (m_Crun l E G o (con, ld, lc, dA, kA) w hR os lu eu nu uA uq hos hU hok) (cwV 1 hts (lw_V q680 q682 qs10 q35 q683) rfl rfl rfl (by decide +kernel) ⟨Nat.le_of_ble_eq_true rfl, Nat.le_of_ble_eq_true rfl⟩) (g_preV hE hI (g_recv hE hI hcon rfl)) rfl rfl hl.1 rfl (lv_room (Nat.le_of_ble_eq_true rfl)) dX2_pass_2 ⟨Nat.le_of_eq (Nat.zero_add _), Nat.le_of_eq (Nat.zero_add _)⟩) (fun r G1 H locs hp hI hS => ?_)
  obtain ⟨hr1, kB, hC1, hF1⟩ := hp
  have htk : tickW uq nu w = ((((runW uq nu w).1.1.1 + 1, (runW uq nu w).1.1.2.1, (runW uq nu w).1.1.2.2.1, rnd ((runW uq nu w).1.1.2.2.2.1 + (runW uq nu w).1.1.2.2.2.2.1), (runW uq nu w).1.1.2.2.2.2.1, lnS (runW uq nu w).1.1.2.2.2.2.2.1 (runW uq nu w).1.1.2.2.2.2.2.2, lfS (runW uq nu w).1.1.2.2.2.2.2.2), ((runW uq nu w).1.2.1.1, mapN dps (runW uq nu w).1.2.1.2 (runW uq nu w).1.2.1.1), ((runW uq nu w).1.2.2.1, mapN kps (runW uq nu w).1.2.2.2 (runW uq nu w).1.2.2.1)), (runW uq nu w).2) := rfl
  rw [htk]
  generalize runW uq nu w = p1 at hr1 hC1 ⊢
  obtain ⟨⟨⟨tk, ck, rn, an, sp, ln, lf⟩, ⟨nd, dm⟩, ⟨nc, km⟩⟩, r1⟩ := p1
  have hr1 : r = r1 := hr1
  subst hr1
  refine W.widen (k := 2 * (nc - w.2.2.1)) (n := 39 * (nc - w.2.2.1)) (Nat.le_of_eq (Nat.zero_add _)) (Nat.le_of_eq (Nat.zero_add _)) ?_
  refine lv_istore_n (lv' := [(2, .int r), (0, .ref con), (1, .ref lu)]) hx hb dX2_pass_5 rfl hl (by decide) rfl (fun ls hl => ?_)
  refine lv_iconst (v := 0) hx hb dX2_pass_6 (by decide) ?_
  refine lv_istore_n (lv' := [(3, .int 0), (2, .int r), (0, .ref con), (1, .ref lu)]) hx hb dX2_pass_7 rfl hl (by decide) rfl (fun ls hl => ?_)
  have hn1 : nd ≤ 36 := by obtain ⟨-, ⟨ed, hld⟩, -⟩ := hC1; exact hld.n36
  have hn2 : nc ≤ 36 := by obtain ⟨-, -, ⟨ec, hlc⟩, -⟩ := hC1; exact hlc.n36
  refine g_loop2 (A1 := Nat) (A2 := Gh) (fun i Gi H locs ls => i ≤ nd ∧ CRep E Gi o (con, ld, lc, dA, kB) ((tk, ck, rn, an, sp, ln, lf), (nd, mapN dps dm i), (nc, km)) ∧ Fr (Ow o) G Gi ∧ Inv E Gi H ∧ va_S (eA E) s.heap H locs ∧ lv_has ls 4 [(0, .ref con), (1, .ref lu), (2, .int r), (3, .int (nI i))]) (fun i Gi => 2 * (nc - w.2.2.1)) (fun i Gi => 39 * (nc - w.2.2.1)) (fun i Gi => nd - i) ?_ 0 G1 _ _ _ ⟨Nat.zero_le _, (mapN_0 dps dm).symm ▸ hC1, hF1, hI, hS, lv_sub hl [2, 3, 1, 0] rfl⟩
  intro i Gi ih1 H locs ls hst
  obtain ⟨hi, hCr, hFr, hI, hS, hl⟩ := hst
  have hRq := hCr
  obtain ⟨hcon, ⟨ed, hld⟩, ⟨ec, hlc⟩, hd, hk⟩ := hRq
  have hcon : Gi con = some ((o, 0, 0), coO tk ck rn an sp ln lf ld lc) := hcon
  have hld : LRep E Gi (o, 1, 0) (o, 2, 0) ld ed nd dA := hld
  have hlc : LRep E Gi (o, 3, 0) (o, 4, 0) lc ec nc kB := hlc
  have hd : ∀ k, k < nd → Gi (dA k) = some ((o, 5, k), dOt ((mapN dps dm i) k)) := hd
  have hk : ∀ k, k < nc → Gi (kB k) = some ((o, 6, k), kOt (km k)) := hk
  refine lv_iload_n hx hb dX2_pass_8 rfl (lv_at hl 3 rfl) ?_
  refine lv_aload_n hx hb dX2_pass_9 rfl (lv_at hl 0 rfl) ?_
  refine g_get (C := RX2) (T := TX2) (N := 9) (v := .ref ld) hx hb hts in_X2 hown hE hI hcon rfl 7 (by decide) q118 (fun _ h9 => h9) rfl dX2_pass_10 ?_
  refine g_ci0 (G := Gi) (v := nI nd) hS (va_runV (As := []) (rest := [.int (nI i)]) ⟨hx, hb, hml, hown, hts⟩ (m_size l E Gi (o, 1, 0) (o, 2, 0) ld ed nd dA hld) (cwV 0 hts (lw_V q192 q162 q163 q34 q164) rfl rfl rfl (by decide +kernel) ⟨Nat.le_of_ble_eq_true rfl, Nat.le_of_ble_eq_true rfl⟩) (g_preV hE hI (hld.recv hE hI)) rfl rfl hl.1 rfl (lv_room (Nat.le_of_ble_eq_true rfl)) dX2_pass_13 ⟨Nat.le_refl _, Nat.le_refl _⟩) (fun H locs hI hS => ?_)
  refine lv_icmp_ge (tgt := 39) hx hb dX2_pass_16 (by decide) (fun c1 => ?_) (fun c1 => ?_)
  · have ei : i = nd := (Nat.lt_or_ge i nd).elim (fun z => absurd c1 (nI_ge z (by omega))) (fun z => by omega)
    subst ei
    refine lv_aload_n hx hb dX2_pass_39 rfl (lv_at hl 0 rfl) ?_
    refine lv_aload_n hx hb dX2_pass_40 rfl (lv_at hl 0 rfl) ?_
    refine g_get (C := RX2) (T := TX2) (N := 9) (v := .int an) hx hb hts in_X2 hown hE hI hcon rfl 3 (by decide) q107 (fun _ h9 => h9) rfl dX2_pass_41 ?_
    refine lv_aload_n hx hb dX2_pass_44 rfl (lv_at hl 0 rfl) ?_
    refine g_get (C := RX2) (T := TX2) (N := 9) (v := .int sp) hx hb hts in_X2 hown hE hI hcon rfl 4 (by decide) q109 (fun _ h9 => h9) rfl dX2_pass_45 ?_
    refine lv_iadd hx hb dX2_pass_48 ?_
    refine g_ci0 (G := Gi) (v := rnd (an + sp)) hS (va_runSN (As := [.int (an + sp)]) (rest := [.ref con]) ⟨hx, hb, hml, hown, hts⟩ (m_round l E Gi (an + sp)) ⟨va_cnB 1 hts (lw_meth q233) rfl rfl rfl (hE.nw q231 rfl) (hts _ q31) (by decide +kernel) ⟨Nat.le_of_ble_eq_true rfl, Nat.le_of_ble_eq_true rfl⟩, hts _ q232, trivial⟩ (g_preS hE hI) rfl rfl hl.1 rfl (lv_room (Nat.le_of_ble_eq_true rfl)) dX2_pass_49 ⟨Nat.le_refl _, Nat.le_refl _⟩) (fun H locs hI hS => ?_)
    refine g_put (C := RX2) (T := TX2) (N := 9) (v := .int (rnd (an + sp))) (ty := .int) (fs' := [.int tk, .int ck, .int rn, .int (rnd (an + sp)), .int sp, .int ln, .int lf, .ref ld, .ref lc]) hx hb hts in_X2 tyX2 tyX2_ok nmX2 hown hE hI hS hL hcon rfl 3 (by decide) q107 (fun _ h9 => h9) rfl (by decide +kernel) rfl rfl (Nat.le_of_ble_eq_true rfl) rfl dX2_pass_52 (fun H locs hI hS => ?_)
    have hcon : (gU Gi con ((o, 0, 0), .inr (1, [.int tk, .int ck, .int rn, .int (rnd (an + sp)), .int sp, .int ln, .int lf, .ref ld, .ref lc]))) con = some ((o, 0, 0), .inr (1, [.int tk, .int ck, .int rn, .int (rnd (an + sp)), .int sp, .int ln, .int lf, .ref ld, .ref lc])) := gU_self
    have hz := hCr.setC (tk, ck, rn, rnd (an + sp), sp, ln, lf)
    have hz1 : CRep E (gU Gi con ((o, 0, 0), .inr (1, [.int tk, .int ck, .int rn, .int (rnd (an + sp)), .int sp, .int ln, .int lf, .ref ld, .ref lc]))) o (con, ld, lc, dA, kB) ((tk, ck, rn, rnd (an + sp), sp, ln, lf), (i, mapN dps dm i), (nc, km)) := hz.1
    have hF2 : Fr (Ow o) G (gU Gi con ((o, 0, 0), .inr (1, [.int tk, .int ck, .int rn, .int (rnd (an + sp)), .int sp, .int ln, .int lf, .ref ld, .ref lc]))) := Fr.trans hFr hz.2
    refine lv_iconst (v := 0) hx hb dX2_pass_55 (by decide) ?_
    refine lv_istore_n (lv' := [(3, .int 0), (0, .ref con), (1, .ref lu), (2, .int r)]) hx hb dX2_pass_56 rfl hl (by decide) rfl (fun ls hl => ?_)
    refine g_loop2 (A1 := Nat) (A2 := Gh) (fun j Gj H locs ls => j ≤ nc ∧ CRep E Gj o (con, ld, lc, dA, kB) ((tk, ck, rn, rnd (an + sp), sp, ln, lf), (i, mapN dps dm i), (nc, mapN kps km j)) ∧ Fr (Ow o) G Gj ∧ Inv E Gj H ∧ va_S (eA E) s.heap H locs ∧ lv_has ls 4 [(0, .ref con), (1, .ref lu), (2, .int r), (3, .int (nI j))]) (fun j Gj => 2 * (nc - w.2.2.1)) (fun j Gj => 39 * (nc - w.2.2.1)) (fun j Gj => nc - j) ?_ 0 (gU Gi con ((o, 0, 0), .inr (1, [.int tk, .int ck, .int rn, .int (rnd (an + sp)), .int sp, .int ln, .int lf, .ref ld, .ref lc]))) _ _ _ ⟨Nat.zero_le _, (mapN_0 kps km).symm ▸ hz1, hF2, hI, hS, lv_sub hl [1, 2, 3, 0] rfl⟩
    intro j Gj ih3 H locs ls hst
    obtain ⟨hj, hCr, hFr, hI, hS, hl⟩ := hst
    have hRq := hCr
    obtain ⟨hcon, ⟨ed, hld⟩, ⟨ec, hlc⟩, hd, hk⟩ := hRq
    have hcon : Gj con = some ((o, 0, 0), coO tk ck rn (rnd (an + sp)) sp ln lf ld lc) := hcon
    have hld : LRep E Gj (o, 1, 0) (o, 2, 0) ld ed i dA := hld
    have hlc : LRep E Gj (o, 3, 0) (o, 4, 0) lc ec nc kB := hlc
    have hd : ∀ k, k < i → Gj (dA k) = some ((o, 5, k), dOt ((mapN dps dm i) k)) := hd
    have hk : ∀ k, k < nc → Gj (kB k) = some ((o, 6, k), kOt ((mapN kps km j) k)) := hk
    refine lv_iload_n hx hb dX2_pass_57 rfl (lv_at hl 3 rfl) ?_
    refine lv_aload_n hx hb dX2_pass_58 rfl (lv_at hl 0 rfl) ?_
    refine g_get (C := RX2) (T := TX2) (N := 9) (v := .ref lc) hx hb hts in_X2 hown hE hI hcon rfl 8 (by decide) q121 (fun _ h9 => h9) rfl dX2_pass_59 ?_
    refine g_ci0 (G := Gj) (v := nI nc) hS (va_runV (As := []) (rest := [.int (nI j)]) ⟨hx, hb, hml, hown, hts⟩ (m_size l E Gj (o, 3, 0) (o, 4, 0) lc ec nc kB hlc) (cwV 0 hts (lw_V q192 q162 q163 q34 q164) rfl rfl rfl (by decide +kernel) ⟨Nat.le_of_ble_eq_true rfl, Nat.le_of_ble_eq_true rfl⟩) (g_preV hE hI (hlc.recv hE hI)) rfl rfl hl.1 rfl (lv_room (Nat.le_of_ble_eq_true rfl)) dX2_pass_62 ⟨Nat.le_refl _, Nat.le_refl _⟩) (fun H locs hI hS => ?_)
    refine lv_icmp_ge (tgt := 88) hx hb dX2_pass_65 (by decide) (fun c2 => ?_) (fun c2 => ?_)
    · have ej : j = nc := (Nat.lt_or_ge j nc).elim (fun z => absurd c2 (nI_ge z (by omega))) (fun z => by omega)
      subst ej
      refine lv_aload_n hx hb dX2_pass_88 rfl (lv_at hl 0 rfl) ?_
      refine g_cv hS (va_runV (As := []) (rest := []) ⟨hx, hb, hml, hown, hts⟩ (m_speak l E Gj o (con, ld, lc, dA, kB) ((tk, ck, rn, rnd (an + sp), sp, ln, lf), (i, mapN dps dm i), (j, mapN kps km j)) hCr) (cwV 0 hts (lw_V q748 q750 qs11 q35 q751) rfl rfl rfl (by decide +kernel) ⟨Nat.le_of_ble_eq_true rfl, Nat.le_of_ble_eq_true rfl⟩) (g_preV hE hI (g_recv hE hI hcon rfl)) rfl rfl hl.1 rfl (lv_room (Nat.le_of_ble_eq_true rfl)) dX2_pass_89 ⟨Nat.le_refl _, Nat.le_refl _⟩) (fun G2 H locs hp hI hS => ?_)
      obtain ⟨hC3, hF3⟩ := hp
      have hcon : G2 con = some ((o, 0, 0), coO tk ck rn (rnd (an + sp)) sp (lnS ln lf) (lfS lf) ld lc) := hC3.1
      refine lv_aload_n hx hb dX2_pass_92 rfl (lv_at hl 0 rfl) ?_
      refine lv_dup hx hb dX2_pass_93 rfl ?_
      refine g_get (C := RX2) (T := TX2) (N := 9) (v := .int tk) hx hb hts in_X2 hown hE hI hcon rfl 0 (by decide) q100 (fun _ h9 => h9) rfl dX2_pass_94 ?_
      refine lv_iconst (v := 1) hx hb dX2_pass_97 (by decide) ?_
      refine lv_iadd hx hb dX2_pass_98 ?_
      refine g_put (C := RX2) (T := TX2) (N := 9) (v := .int (tk + 1)) (ty := .int) (fs' := [.int (tk + 1), .int ck, .int rn, .int (rnd (an + sp)), .int sp, .int (lnS ln lf), .int (lfS lf), .ref ld, .ref lc]) hx hb hts in_X2 tyX2 tyX2_ok nmX2 hown hE hI hS hL hcon rfl 0 (by decide) q100 (fun _ h9 => h9) rfl (by decide +kernel) rfl rfl (Nat.le_of_ble_eq_true rfl) rfl dX2_pass_99 (fun H locs hI hS => ?_)
      have hcon : (gU G2 con ((o, 0, 0), .inr (1, [.int (tk + 1), .int ck, .int rn, .int (rnd (an + sp)), .int sp, .int (lnS ln lf), .int (lfS lf), .ref ld, .ref lc]))) con = some ((o, 0, 0), .inr (1, [.int (tk + 1), .int ck, .int rn, .int (rnd (an + sp)), .int sp, .int (lnS ln lf), .int (lfS lf), .ref ld, .ref lc])) := gU_self
      refine lv_iload_n hx hb dX2_pass_102 rfl (lv_at hl 2 rfl) ?_
      have hz := hC3.setC (tk + 1, ck, rn, rnd (an + sp), sp, lnS ln lf, lfS lf)
      exact g_iret hx hb hr hlk hI hS dX2_pass_103 (Nat.le_refl _) (Nat.le_refl _) (⟨rfl, kB, hz.1, Fr.trans hFr (Fr.trans hF3 hz.2)⟩)
    · have hlt : j < nc := (Nat.lt_or_ge j nc).elim id (fun z => absurd (nI_le z (by omega)) c2)
      refine lv_aload_n hx hb dX2_pass_68 rfl (lv_at hl 0 rfl) ?_
      refine g_get (C := RX2) (T := TX2) (N := 9) (v := .ref lc) hx hb hts in_X2 hown hE hI hcon rfl 8 (by decide) q121 (fun _ h9 => h9) rfl dX2_pass_69 ?_
      refine lv_iload_n hx hb dX2_pass_72 rfl (lv_at hl 3 rfl) ?_
      refine g_cr0 (G := Gj) (v := kB j) hS (va_runV (As := [.int (nI j)]) (rest := []) ⟨hx, hb, hml, hown, hts⟩ (m_get l E Gj (o, 3, 0) (o, 4, 0) lc ec nc kB hlc j hlt) (cwV 1 hts (lw_V q193 q166 q167 q34 q168) rfl rfl rfl (by decide +kernel) ⟨Nat.le_of_ble_eq_true rfl, Nat.le_of_ble_eq_true rfl⟩) (g_preV hE hI (hlc.recv hE hI)) rfl rfl hl.1 rfl (lv_room (Nat.le_of_ble_eq_true rfl)) dX2_pass_73 ⟨Nat.le_refl _, Nat.le_refl _⟩) (fun H locs hI hS => ?_)
      have hkj : Gj (kB j) = some ((o, 6, j), kOt (km j)) := by have z := hk j hlt; rw [mapN_at] at z; exact z
      refine g_cast hx hb hts hown q741 hE hI hkj rfl rfl dX2_pass_76 ?_
      refine g_cv0 hS (va_runV (As := []) (rest := []) ⟨hx, hb, hml, hown, hts⟩ (m_Kpass l E Gj (kB j) (o, 6, j) (km j).1 (km j).2.1 (km j).2.2 hkj) (cwV 0 hts (lw_V q742 q743 q744 q57 q745) rfl rfl rfl (by decide +kernel) ⟨Nat.le_of_ble_eq_true rfl, Nat.le_of_ble_eq_true rfl⟩) (g_preV hE hI (g_recv hE hI hkj rfl)) rfl rfl hl.1 rfl (lv_room (Nat.le_of_ble_eq_true rfl)) dX2_pass_79 ⟨Nat.le_refl _, Nat.le_refl _⟩) (fun H locs hI hS => ?_)
      have hz := hCr.setK (j := j) hlt (kps (km j))
      have hz1 := hz.1
      dsimp only at hz1
      rw [mapN_s] at hz1
      refine lv_iinc (v := nI (j + 1)) (lv' := [(3, .int (nI (j + 1))), (0, .ref con), (1, .ref lu), (2, .int r)]) hx hb dX2_pass_82 hl (k := 3) rfl (nI_1 j) (by decide) rfl (fun ls hl => ?_)
      refine lv_goto (tgt := 57) hx hb dX2_pass_85 (by decide) ?_
      exact ih3 (j + 1) (gU Gj (kB j) ((o, 6, j), kOt (kps (km j)))) _ _ _ (by omega) ⟨hlt, hz1, Fr.trans hFr hz.2, hI, hS, lv_sub hl [1, 2, 3, 0] rfl⟩
  · have hlt : i < nd := (Nat.lt_or_ge i nd).elim id (fun z => absurd (nI_le z (by omega)) c1)
    refine lv_aload_n hx hb dX2_pass_19 rfl (lv_at hl 0 rfl) ?_
    refine g_get (C := RX2) (T := TX2) (N := 9) (v := .ref ld) hx hb hts in_X2 hown hE hI hcon rfl 7 (by decide) q118 (fun _ h9 => h9) rfl dX2_pass_20 ?_
    refine lv_iload_n hx hb dX2_pass_23 rfl (lv_at hl 3 rfl) ?_
    refine g_cr0 (G := Gi) (v := dA i) hS (va_runV (As := [.int (nI i)]) (rest := []) ⟨hx, hb, hml, hown, hts⟩ (m_get l E Gi (o, 1, 0) (o, 2, 0) ld ed nd dA hld i hlt) (cwV 1 hts (lw_V q193 q166 q167 q34 q168) rfl rfl rfl (by decide +kernel) ⟨Nat.le_of_ble_eq_true rfl, Nat.le_of_ble_eq_true rfl⟩) (g_preV hE hI (hld.recv hE hI)) rfl rfl hl.1 rfl (lv_room (Nat.le_of_ble_eq_true rfl)) dX2_pass_24 ⟨Nat.le_refl _, Nat.le_refl _⟩) (fun H locs hI hS => ?_)
    have hdi : Gi (dA i) = some ((o, 5, i), dOt (dm i)) := by have z := hd i hlt; rw [mapN_at] at z; exact z
    refine g_cast hx hb hts hown q194 hE hI hdi rfl rfl dX2_pass_27 ?_
    refine g_cv0 hS (va_runV (As := []) (rest := []) ⟨hx, hb, hml, hown, hts⟩ (m_Dpass l E Gi (dA i) (o, 5, i) (dm i).1 (dm i).2.1 (dm i).2.2.1 (dm i).2.2.2.1 (dm i).2.2.2.2 hdi) (cwV 0 hts (lw_V q735 q736 q737 q42 q738) rfl rfl rfl (by decide +kernel) ⟨Nat.le_of_ble_eq_true rfl, Nat.le_of_ble_eq_true rfl⟩) (g_preV hE hI (g_recv hE hI hdi rfl)) rfl rfl hl.1 rfl (lv_room (Nat.le_of_ble_eq_true rfl)) dX2_pass_30 ⟨Nat.le_refl _, Nat.le_refl _⟩) (fun H locs hI hS => ?_)
    have hz := hCr.setD (j := i) hlt (dps (dm i))
    have hz1 := hz.1
    dsimp only at hz1
    rw [mapN_s] at hz1
    refine lv_iinc (v := nI (i + 1)) (lv' := [(3, .int (nI (i + 1))), (0, .ref con), (1, .ref lu), (2, .int r)]) hx hb dX2_pass_33 hl (k := 3) rfl (nI_1 i) (by decide) rfl (fun ls hl => ?_)
    refine lv_goto (tgt := 8) hx hb dX2_pass_36 (by decide) ?_
    exact ih1 (i + 1) (gU Gi (dA i) ((o, 5, i), dOt (dps (dm i)))) _ _ _ (by omega) ⟨hlt, hz1, Fr.trans hFr hz.2, hI, hS, lv_sub hl [1, 2, 3, 0] rfl⟩
