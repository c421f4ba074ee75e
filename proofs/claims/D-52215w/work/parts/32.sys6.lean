/-! CONTRACTS of StarConsole: starsSeen, cometsSeen, counted, count, next, darkest. Printed by gen/p32.py -/
set_option maxRecDepth 100000
set_option maxHeartbeats 4000000 in
set_option maxRecDepth 100000 in
theorem m_sSeen (l : Launch) (E : EnvT) (G : Gh) (x : Nat) (B : XA) (σ : Sy) (hXR : XRep E G x B σ) (o : Nat) (A2 : CA) (w2 : Cn) (hC2 : CRep E G o A2 w2) : Met l yX1_starsSeen (ws_ yX1_starsSeen cX1_starsSeen 4 (some .int)) ({ frames := 6, cells := 0, slots := 0, locals := 130 } : Room) (cP E G [.ref x, .ref A2.1]) (cI E (fun r G' => r = stS w2.2.1.2 w2.2.1.1 w2.1.2.2.2.1 σ.2.2.2 σ.2.2.1 ∧ G' = G)) 0 0 (eA E) := by
  obtain ⟨⟨con, ld, lc, dA, kA⟩, ⟨lu, uA⟩, ⟨lt, sA⟩⟩ := B
  obtain ⟨⟨⟨tk, ck, rn, an, sp, ln, lf⟩, ⟨nd, dm⟩, ⟨nc, km⟩⟩, ⟨nu, uq⟩, ⟨ns, st⟩⟩ := σ
  refine g_met (rm := ({ frames := 6, cells := 0, slots := 0, locals := 130 } : Room)) (av := [.ref x, .ref A2.1]) (lv := [(0, .ref x), (1, .ref A2.1)]) (by decide) (Nat.le_of_ble_eq_true rfl) rfl ?_
  intro p e s m below meth c ls hx hb hr hlk hml hin hts hown hE hI hL hS hl
  have hXR0 := hXR
  obtain ⟨hX0, hR, ⟨eu, hU⟩, ⟨et, hlt0⟩, hst0⟩ := hXR0
  have hX0 : G x = some ((3, 0, 0), xO lu lt con) := hX0
  have hR : CRep E G 1 (con, ld, lc, dA, kA) ((tk, ck, rn, an, sp, ln, lf), (nd, dm), (nc, km)) := hR
  have hU : URep E G 3 lu eu nu uA uq := hU
  have hlt0 : LRep E G (3, 3, 0) (3, 4, 0) lt et ns sA := hlt0
  have hst0 : ∀ k, k < ns → G (sA k) = some ((3, 6, k), sOt (st k)) := hst0
  have hR0 := hR
  obtain ⟨hcon, ⟨ed, hld⟩, ⟨ec, hlc⟩, hd, hk⟩ := hR0
  have hcon : G con = some ((1, 0, 0), coO tk ck rn an sp ln lf ld lc) := hcon
  have hld : LRep E G (1, 1, 0) (1, 2, 0) ld ed nd dA := hld
  have hlc : LRep E G (1, 3, 0) (1, 4, 0) lc ec nc kA := hlc
  have hd : ∀ k, k < nd → G (dA k) = some ((1, 5, k), dOt (dm k)) := hd
  have hk : ∀ k, k < nc → G (kA k) = some ((1, 6, k), kOt (km k)) := hk
  have hn1 : nd ≤ 36 := hld.n36
  have hn2 : nc ≤ 36 := hlc.n36
  have hn3 : nu ≤ 36 := hU.1.n36
  have hn4 : ns ≤ 36 := hlt0.n36
  refine lv_iconst (v := 0) hx hb dX1_starsSeen_0 (by decide) ?_
  refine lv_istore_n (lv' := [(2, .int 0), (0, .ref x), (1, .ref A2.1)]) hx hb dX1_starsSeen_1 rfl hl (by decide) rfl (fun ls hl => ?_)
  refine lv_iconst (v := 0) hx hb dX1_starsSeen_2 (by decide) ?_
  refine lv_istore_n (lv' := [(3, .int 0), (2, .int 0), (0, .ref x), (1, .ref A2.1)]) hx hb dX1_starsSeen_3 rfl hl (by decide) rfl (fun ls hl => ?_)
  refine g_loop2 (A1 := Nat) (A2 := Int32) (fun i z H locs ls => i ≤ ns ∧ z = stS w2.2.1.2 w2.2.1.1 w2.1.2.2.2.1 st i ∧ Inv E G H ∧ va_S (eA E) s.heap H locs ∧ lv_has ls 4 [(0, .ref x), (1, .ref A2.1), (2, .int z), (3, .int (nI i))]) (fun i z => 0) (fun i z => 0) (fun i z => ns - i) ?_ 0 0 _ _ _ ⟨Nat.zero_le _, rfl, hI, hS, lv_sub hl [2, 3, 1, 0] rfl⟩
  intro i z ih1 H locs ls hst
  obtain ⟨hi, hz, hI, hS, hl⟩ := hst
  refine lv_iload_n hx hb dX1_starsSeen_4 rfl (lv_at hl 3 rfl) ?_
  refine lv_aload_n hx hb dX1_starsSeen_5 rfl (lv_at hl 0 rfl) ?_
  refine g_get (C := RX1) (T := TX1) (N := 3) (v := .ref lt) hx hb hts in_X1 hown hE hI hX0 rfl 1 (by decide) q144 (fun _ h9 => h9) rfl dX1_starsSeen_6 ?_
  refine g_ci0 (G := G) (v := nI ns) hS (va_runV (As := []) (rest := [.int (nI i)]) ⟨hx, hb, hml, hown, hts⟩ (m_size l E G (3, 3, 0) (3, 4, 0) lt et ns sA hlt0) (cwV 0 hts (lw_V q161 q162 q163 q34 q164) rfl rfl rfl (by decide +kernel) ⟨Nat.le_of_ble_eq_true rfl, Nat.le_of_ble_eq_true rfl⟩) (g_preV hE hI (hlt0.recv hE hI)) rfl rfl hl.1 rfl (lv_room (Nat.le_of_ble_eq_true rfl)) dX1_starsSeen_9 ⟨Nat.le_of_ble_eq_true rfl, Nat.le_of_ble_eq_true rfl⟩) (fun H locs hI hS => ?_)
  refine lv_icmp_ge (tgt := 47) hx hb dX1_starsSeen_12 (by decide) (fun c1 => ?_) (fun c1 => ?_)
  · have ei : i = ns := (Nat.lt_or_ge i ns).elim (fun z => absurd c1 (nI_ge z (by omega))) (fun z => by omega)
    refine lv_iload_n hx hb dX1_starsSeen_47 rfl (lv_at hl 2 rfl) ?_
    exact g_iret hx hb hr hlk hI hS dX1_starsSeen_48 (Nat.le_of_ble_eq_true rfl) (Nat.le_of_ble_eq_true rfl) (⟨by rw [hz, ei], rfl⟩)
  · have hlt : i < ns := (Nat.lt_or_ge i ns).elim id (fun z => absurd (nI_le z (by omega)) c1)
    refine lv_iload_n hx hb dX1_starsSeen_15 rfl (lv_at hl 2 rfl) ?_
    refine lv_aload_n hx hb dX1_starsSeen_16 rfl (lv_at hl 1 rfl) ?_
    refine lv_aload_n hx hb dX1_starsSeen_17 rfl (lv_at hl 0 rfl) ?_
    refine g_get (C := RX1) (T := TX1) (N := 3) (v := .ref lt) hx hb hts in_X1 hown hE hI hX0 rfl 1 (by decide) q144 (fun _ h9 => h9) rfl dX1_starsSeen_18 ?_
    refine lv_iload_n hx hb dX1_starsSeen_21 rfl (lv_at hl 3 rfl) ?_
    refine g_cr0 (G := G) (v := sA i) hS (va_runV (As := [.int (nI i)]) (rest := [.ref A2.1, .int z]) ⟨hx, hb, hml, hown, hts⟩ (m_get l E G (3, 3, 0) (3, 4, 0) lt et ns sA hlt0 i hlt) (cwV 1 hts (lw_V q165 q166 q167 q34 q168) rfl rfl rfl (by decide +kernel) ⟨Nat.le_of_ble_eq_true rfl, Nat.le_of_ble_eq_true rfl⟩) (g_preV hE hI (hlt0.recv hE hI)) rfl rfl hl.1 rfl (lv_room (Nat.le_of_ble_eq_true rfl)) dX1_starsSeen_22 ⟨Nat.le_of_ble_eq_true rfl, Nat.le_of_ble_eq_true rfl⟩) (fun H locs hI hS => ?_)
    refine g_cast hx hb hts hown q218 hE hI (hst0 i hlt) rfl rfl dX1_starsSeen_25 ?_
    refine g_ci0 (G := G) (v := starV w2.2.1.2 w2.2.1.1 w2.1.2.2.2.1 (st i)) hS (va_runV (As := [.ref (sA i)]) (rest := [.int z]) ⟨hx, hb, hml, hown, hts⟩ (m_isSeenS l E G o A2 w2 hC2 (sA i) (3, 6, i) (st i) (hst0 i hlt)) (cwV 1 hts (lw_V q219 q220 q221 q35 q222) rfl rfl rfl (by decide +kernel) ⟨Nat.le_of_ble_eq_true rfl, Nat.le_of_ble_eq_true rfl⟩) (g_preV hE hI (g_recv hE hI hC2.1 rfl)) rfl rfl hl.1 rfl (lv_room (Nat.le_of_ble_eq_true rfl)) dX1_starsSeen_28 ⟨Nat.le_of_ble_eq_true rfl, Nat.le_of_ble_eq_true rfl⟩) (fun H locs hI hS => ?_)
    refine lv_if_eq (tgt := 38) hx hb dX1_starsSeen_31 (by decide) (fun c2 => ?_) (fun c2 => ?_)
    · refine lv_iconst (v := 0) hx hb dX1_starsSeen_38 (by decide) ?_
      refine lv_iadd hx hb dX1_starsSeen_39 ?_
      refine lv_istore_n (lv' := [(2, .int (z + 0)), (0, .ref x), (1, .ref A2.1), (3, .int (nI i))]) hx hb dX1_starsSeen_40 rfl hl (by decide) rfl (fun ls hl => ?_)
      refine lv_iinc (v := nI (i + 1)) (lv' := [(3, .int (nI (i + 1))), (2, .int (z + 0)), (0, .ref x), (1, .ref A2.1)]) hx hb dX1_starsSeen_41 hl (k := 3) rfl (nI_1 (i)) (by decide) rfl (fun ls hl => ?_)
      refine lv_goto (tgt := 4) hx hb dX1_starsSeen_44 (by decide) ?_
      exact ih1 (i + 1) (z + 0) _ _ _ (by omega) ⟨hlt, by rw [hz, stS, if_pos c2], hI, hS, lv_sub hl [2, 3, 1, 0] rfl⟩
    · refine lv_iconst (v := 1) hx hb dX1_starsSeen_34 (by decide) ?_
      refine lv_goto (tgt := 39) hx hb dX1_starsSeen_35 (by decide) ?_
      refine lv_iadd hx hb dX1_starsSeen_39 ?_
      refine lv_istore_n (lv' := [(2, .int (z + 1)), (0, .ref x), (1, .ref A2.1), (3, .int (nI i))]) hx hb dX1_starsSeen_40 rfl hl (by decide) rfl (fun ls hl => ?_)
      refine lv_iinc (v := nI (i + 1)) (lv' := [(3, .int (nI (i + 1))), (2, .int (z + 1)), (0, .ref x), (1, .ref A2.1)]) hx hb dX1_starsSeen_41 hl (k := 3) rfl (nI_1 (i)) (by decide) rfl (fun ls hl => ?_)
      refine lv_goto (tgt := 4) hx hb dX1_starsSeen_44 (by decide) ?_
      exact ih1 (i + 1) (z + 1) _ _ _ (by omega) ⟨hlt, by rw [hz, stS, if_neg c2], hI, hS, lv_sub hl [2, 3, 1, 0] rfl⟩
set_option maxHeartbeats 4000000 in
set_option maxRecDepth 100000 in
theorem m_kSeen (l : Launch) (E : EnvT) (G : Gh) (o : Nat) (A : CA) (w : Cn) (hR : CRep E G o A w) : Met l yX1_cometsSeen (ws_ yX1_cometsSeen cX1_cometsSeen 3 (some .int)) ({ frames := 6, cells := 0, slots := 0, locals := 130 } : Room) (cP E G [.ref A.1]) (cI E (fun r G' => r = kmS w.2.1.2 w.2.1.1 w.2.2.2 w.2.2.1 ∧ G' = G)) 0 0 (eA E) := by
  obtain ⟨con, ld, lc, dA, kA⟩ := A
  obtain ⟨⟨tk, ck, rn, an, sp, ln, lf⟩, ⟨nd, dm⟩, ⟨nc, km⟩⟩ := w
  refine g_met (rm := ({ frames := 6, cells := 0, slots := 0, locals := 130 } : Room)) (av := [.ref con]) (lv := [(0, .ref con)]) (by decide) (Nat.le_of_ble_eq_true rfl) rfl ?_
  intro p e s m below meth c ls hx hb hr hlk hml hin hts hown hE hI hL hS hl
  have hR0 := hR
  obtain ⟨hcon, ⟨ed, hld⟩, ⟨ec, hlc⟩, hd, hk⟩ := hR0
  have hcon : G con = some ((o, 0, 0), coO tk ck rn an sp ln lf ld lc) := hcon
  have hld : LRep E G (o, 1, 0) (o, 2, 0) ld ed nd dA := hld
  have hlc : LRep E G (o, 3, 0) (o, 4, 0) lc ec nc kA := hlc
  have hd : ∀ k, k < nd → G (dA k) = some ((o, 5, k), dOt (dm k)) := hd
  have hk : ∀ k, k < nc → G (kA k) = some ((o, 6, k), kOt (km k)) := hk
  have hn1 : nd ≤ 36 := hld.n36
  have hn2 : nc ≤ 36 := hlc.n36
  refine lv_iconst (v := 0) hx hb dX1_cometsSeen_0 (by decide) ?_
  refine lv_istore_n (lv' := [(1, .int 0), (0, .ref con)]) hx hb dX1_cometsSeen_1 rfl hl (by decide) rfl (fun ls hl => ?_)
  refine lv_iconst (v := 0) hx hb dX1_cometsSeen_2 (by decide) ?_
  refine lv_istore_n (lv' := [(2, .int 0), (1, .int 0), (0, .ref con)]) hx hb dX1_cometsSeen_3 rfl hl (by decide) rfl (fun ls hl => ?_)
  refine g_loop2 (A1 := Nat) (A2 := Int32) (fun i z H locs ls => i ≤ nc ∧ z = kmS dm nd km i ∧ Inv E G H ∧ va_S (eA E) s.heap H locs ∧ lv_has ls 3 [(0, .ref con), (1, .int z), (2, .int (nI i))]) (fun i z => 0) (fun i z => 0) (fun i z => nc - i) ?_ 0 0 _ _ _ ⟨Nat.zero_le _, rfl, hI, hS, lv_sub hl [2, 1, 0] rfl⟩
  intro i z ih1 H locs ls hst
  obtain ⟨hi, hz, hI, hS, hl⟩ := hst
  refine lv_iload_n hx hb dX1_cometsSeen_4 rfl (lv_at hl 2 rfl) ?_
  refine lv_aload_n hx hb dX1_cometsSeen_5 rfl (lv_at hl 0 rfl) ?_
  refine g_getN (C := RX2) (T := TX2) (N := 9) (v := .ref lc) hx hb hts in_X2 hown hE hI hcon rfl 8 (by decide) q123 (fun _ h9 => h9) rfl dX1_cometsSeen_6 ?_
  refine g_ci0 (G := G) (v := nI nc) hS (va_runV (As := []) (rest := [.int (nI i)]) ⟨hx, hb, hml, hown, hts⟩ (m_size l E G (o, 3, 0) (o, 4, 0) lc ec nc kA hlc) (cwV 0 hts (lw_V q161 q162 q163 q34 q164) rfl rfl rfl (by decide +kernel) ⟨Nat.le_of_ble_eq_true rfl, Nat.le_of_ble_eq_true rfl⟩) (g_preV hE hI (hlc.recv hE hI)) rfl rfl hl.1 rfl (lv_room (Nat.le_of_ble_eq_true rfl)) dX1_cometsSeen_9 ⟨Nat.le_of_ble_eq_true rfl, Nat.le_of_ble_eq_true rfl⟩) (fun H locs hI hS => ?_)
  refine lv_icmp_ge (tgt := 47) hx hb dX1_cometsSeen_12 (by decide) (fun c1 => ?_) (fun c1 => ?_)
  · have ei : i = nc := (Nat.lt_or_ge i nc).elim (fun z => absurd c1 (nI_ge z (by omega))) (fun z => by omega)
    refine lv_iload_n hx hb dX1_cometsSeen_47 rfl (lv_at hl 1 rfl) ?_
    exact g_iret hx hb hr hlk hI hS dX1_cometsSeen_48 (Nat.le_of_ble_eq_true rfl) (Nat.le_of_ble_eq_true rfl) (⟨by rw [hz, ei], rfl⟩)
  · have hlt : i < nc := (Nat.lt_or_ge i nc).elim id (fun z => absurd (nI_le z (by omega)) c1)
    refine lv_iload_n hx hb dX1_cometsSeen_15 rfl (lv_at hl 1 rfl) ?_
    refine lv_aload_n hx hb dX1_cometsSeen_16 rfl (lv_at hl 0 rfl) ?_
    refine lv_aload_n hx hb dX1_cometsSeen_17 rfl (lv_at hl 0 rfl) ?_
    refine g_getN (C := RX2) (T := TX2) (N := 9) (v := .ref lc) hx hb hts in_X2 hown hE hI hcon rfl 8 (by decide) q123 (fun _ h9 => h9) rfl dX1_cometsSeen_18 ?_
    refine lv_iload_n hx hb dX1_cometsSeen_21 rfl (lv_at hl 2 rfl) ?_
    refine g_cr0 (G := G) (v := kA i) hS (va_runV (As := [.int (nI i)]) (rest := [.ref con, .int z]) ⟨hx, hb, hml, hown, hts⟩ (m_get l E G (o, 3, 0) (o, 4, 0) lc ec nc kA hlc i hlt) (cwV 1 hts (lw_V q165 q166 q167 q34 q168) rfl rfl rfl (by decide +kernel) ⟨Nat.le_of_ble_eq_true rfl, Nat.le_of_ble_eq_true rfl⟩) (g_preV hE hI (hlc.recv hE hI)) rfl rfl hl.1 rfl (lv_room (Nat.le_of_ble_eq_true rfl)) dX1_cometsSeen_22 ⟨Nat.le_of_ble_eq_true rfl, Nat.le_of_ble_eq_true rfl⟩) (fun H locs hI hS => ?_)
    refine g_cast hx hb hts hown q246 hE hI (hk i hlt) rfl rfl dX1_cometsSeen_25 ?_
    refine g_ci0 (G := G) (v := comeV dm nd (km i)) hS (va_runV (As := [.ref (kA i)]) (rest := [.int z]) ⟨hx, hb, hml, hown, hts⟩ (m_isSeenK l E G o (con, ld, lc, dA, kA) ((tk, ck, rn, an, sp, ln, lf), (nd, dm), (nc, km)) hR (kA i) (o, 6, i) (km i) (hk i hlt)) (cwV 1 hts (lw_V q247 q248 q249 q35 q250) rfl rfl rfl (by decide +kernel) ⟨Nat.le_of_ble_eq_true rfl, Nat.le_of_ble_eq_true rfl⟩) (g_preV hE hI (g_recv hE hI hcon rfl)) rfl rfl hl.1 rfl (lv_room (Nat.le_of_ble_eq_true rfl)) dX1_cometsSeen_28 ⟨Nat.le_of_ble_eq_true rfl, Nat.le_of_ble_eq_true rfl⟩) (fun H locs hI hS => ?_)
    refine lv_if_eq (tgt := 38) hx hb dX1_cometsSeen_31 (by decide) (fun c2 => ?_) (fun c2 => ?_)
    · refine lv_iconst (v := 0) hx hb dX1_cometsSeen_38 (by decide) ?_
      refine lv_iadd hx hb dX1_cometsSeen_39 ?_
      refine lv_istore_n (lv' := [(1, .int (z + 0)), (0, .ref con), (2, .int (nI i))]) hx hb dX1_cometsSeen_40 rfl hl (by decide) rfl (fun ls hl => ?_)
      refine lv_iinc (v := nI (i + 1)) (lv' := [(2, .int (nI (i + 1))), (1, .int (z + 0)), (0, .ref con)]) hx hb dX1_cometsSeen_41 hl (k := 2) rfl (nI_1 (i)) (by decide) rfl (fun ls hl => ?_)
      refine lv_goto (tgt := 4) hx hb dX1_cometsSeen_44 (by decide) ?_
      exact ih1 (i + 1) (z + 0) _ _ _ (by omega) ⟨hlt, by rw [hz, kmS, if_pos c2], hI, hS, lv_sub hl [2, 1, 0] rfl⟩
    · refine lv_iconst (v := 1) hx hb dX1_cometsSeen_34 (by decide) ?_
      refine lv_goto (tgt := 39) hx hb dX1_cometsSeen_35 (by decide) ?_
      refine lv_iadd hx hb dX1_cometsSeen_39 ?_
      refine lv_istore_n (lv' := [(1, .int (z + 1)), (0, .ref con), (2, .int (nI i))]) hx hb dX1_cometsSeen_40 rfl hl (by decide) rfl (fun ls hl => ?_)
      refine lv_iinc (v := nI (i + 1)) (lv' := [(2, .int (nI (i + 1))), (1, .int (z + 1)), (0, .ref con)]) hx hb dX1_cometsSeen_41 hl (k := 2) rfl (nI_1 (i)) (by decide) rfl (fun ls hl => ?_)
      refine lv_goto (tgt := 4) hx hb dX1_cometsSeen_44 (by decide) ?_
      exact ih1 (i + 1) (z + 1) _ _ _ (by omega) ⟨hlt, by rw [hz, kmS, if_neg c2], hI, hS, lv_sub hl [2, 1, 0] rfl⟩
set_option maxHeartbeats 4000000 in
set_option maxRecDepth 100000 in
theorem m_counted (l : Launch) (E : EnvT) (G : Gh) (x : Nat) (B : XA) (σ : Sy) (hXR : XRep E G x B σ) (o : Nat) (A2 : CA) (w2 : Cn) (hC2 : CRep E G o A2 w2) (what : Int32) : Met l yX1_counted (ws_ yX1_counted cX1_counted 3 (some .int)) ({ frames := 7, cells := 0, slots := 0, locals := 153 } : Room) (cP E G [.ref x, .ref A2.1, .int what]) (cI E (fun r G' => r = cntV w2 σ.2.1.1 σ.2.2.1 σ.2.2.2 what ∧ G' = G)) 0 0 (eA E) := by
  obtain ⟨⟨con, ld, lc, dA, kA⟩, ⟨lu, uA⟩, ⟨lt, sA⟩⟩ := B
  obtain ⟨⟨⟨tk, ck, rn, an, sp, ln, lf⟩, ⟨nd, dm⟩, ⟨nc, km⟩⟩, ⟨nu, uq⟩, ⟨ns, st⟩⟩ := σ
  refine g_met (rm := ({ frames := 7, cells := 0, slots := 0, locals := 153 } : Room)) (av := [.ref x, .ref A2.1, .int what]) (lv := [(0, .ref x), (1, .ref A2.1), (2, .int what)]) (by decide) (Nat.le_of_ble_eq_true rfl) rfl ?_
  intro p e s m below meth c ls hx hb hr hlk hml hin hts hown hE hI hL hS hl
  have hXR0 := hXR
  obtain ⟨hX0, hR, ⟨eu, hU⟩, ⟨et, hlt0⟩, hst0⟩ := hXR0
  have hX0 : G x = some ((3, 0, 0), xO lu lt con) := hX0
  have hR : CRep E G 1 (con, ld, lc, dA, kA) ((tk, ck, rn, an, sp, ln, lf), (nd, dm), (nc, km)) := hR
  have hU : URep E G 3 lu eu nu uA uq := hU
  have hlt0 : LRep E G (3, 3, 0) (3, 4, 0) lt et ns sA := hlt0
  have hst0 : ∀ k, k < ns → G (sA k) = some ((3, 6, k), sOt (st k)) := hst0
  have hR0 := hR
  obtain ⟨hcon, ⟨ed, hld⟩, ⟨ec, hlc⟩, hd, hk⟩ := hR0
  have hcon : G con = some ((1, 0, 0), coO tk ck rn an sp ln lf ld lc) := hcon
  have hld : LRep E G (1, 1, 0) (1, 2, 0) ld ed nd dA := hld
  have hlc : LRep E G (1, 3, 0) (1, 4, 0) lc ec nc kA := hlc
  have hd : ∀ k, k < nd → G (dA k) = some ((1, 5, k), dOt (dm k)) := hd
  have hk : ∀ k, k < nc → G (kA k) = some ((1, 6, k), kOt (km k)) := hk
  have hn1 : nd ≤ 36 := hld.n36
  have hn2 : nc ≤ 36 := hlc.n36
  have hn3 : nu ≤ 36 := hU.1.n36
  have hn4 : ns ≤ 36 := hlt0.n36
  refine lv_iload_n hx hb dX1_counted_0 rfl (lv_at hl 2 rfl) ?_
  by_cases z0 : what = 0
  · subst z0
    refine lv_tableIn (tgt := 64) hx hb dX1_counted_1 (by decide) (by decide) rfl (by decide) ?_
    refine lv_aload_n hx hb dX1_counted_64 rfl (lv_at hl 1 rfl) ?_
    refine g_getN (C := RX2) (T := TX2) (N := 9) (v := .int w2.1.1) hx hb hts in_X2 hown hE hI hC2.1 rfl 0 (by decide) q101 (fun _ h9 => h9) rfl dX1_counted_65 ?_
    exact g_iret hx hb hr hlk hI hS dX1_counted_68 (Nat.le_of_ble_eq_true rfl) (Nat.le_of_ble_eq_true rfl) (⟨rfl, rfl⟩)
  · by_cases z1 : what = 1
    · subst z1
      refine lv_tableIn (tgt := 69) hx hb dX1_counted_1 (by decide) (by decide) rfl (by decide) ?_
      refine lv_aload_n hx hb dX1_counted_69 rfl (lv_at hl 1 rfl) ?_
      refine g_getN (C := RX2) (T := TX2) (N := 9) (v := .int w2.1.2.1) hx hb hts in_X2 hown hE hI hC2.1 rfl 1 (by decide) q103 (fun _ h9 => h9) rfl dX1_counted_70 ?_
      exact g_iret hx hb hr hlk hI hS dX1_counted_73 (Nat.le_of_ble_eq_true rfl) (Nat.le_of_ble_eq_true rfl) (⟨rfl, rfl⟩)
    · by_cases z2 : what = 2
      · subst z2
        refine lv_tableIn (tgt := 74) hx hb dX1_counted_1 (by decide) (by decide) rfl (by decide) ?_
        refine lv_aload_n hx hb dX1_counted_74 rfl (lv_at hl 1 rfl) ?_
        refine g_getN (C := RX2) (T := TX2) (N := 9) (v := .int w2.1.2.2.1) hx hb hts in_X2 hown hE hI hC2.1 rfl 2 (by decide) q106 (fun _ h9 => h9) rfl dX1_counted_75 ?_
        refine lv_if_eq (tgt := 85) hx hb dX1_counted_78 (by decide) (fun c1 => ?_) (fun c1 => ?_)
        · refine lv_iconst (v := 0) hx hb dX1_counted_85 (by decide) ?_
          exact g_iret hx hb hr hlk hI hS dX1_counted_86 (Nat.le_of_ble_eq_true rfl) (Nat.le_of_ble_eq_true rfl) (⟨(show cntV w2 nu ns st 2 = _ from if_pos c1).symm, rfl⟩)
        · refine lv_iconst (v := 1) hx hb dX1_counted_81 (by decide) ?_
          refine lv_goto (tgt := 86) hx hb dX1_counted_82 (by decide) ?_
          exact g_iret hx hb hr hlk hI hS dX1_counted_86 (Nat.le_of_ble_eq_true rfl) (Nat.le_of_ble_eq_true rfl) (⟨(show cntV w2 nu ns st 2 = _ from if_neg c1).symm, rfl⟩)
      · by_cases z3 : what = 3
        · subst z3
          refine lv_tableIn (tgt := 87) hx hb dX1_counted_1 (by decide) (by decide) rfl (by decide) ?_
          obtain ⟨ed2, hld2⟩ := hC2.2.1
          refine lv_aload_n hx hb dX1_counted_87 rfl (lv_at hl 1 rfl) ?_
          refine g_getN (C := RX2) (T := TX2) (N := 9) (v := .ref A2.2.1) hx hb hts in_X2 hown hE hI hC2.1 rfl 7 (by decide) q120 (fun _ h9 => h9) rfl dX1_counted_88 ?_
          refine g_ci0 (G := G) (v := nI w2.2.1.1) hS (va_runV (As := []) (rest := []) ⟨hx, hb, hml, hown, hts⟩ (m_size l E G (o, 1, 0) (o, 2, 0) A2.2.1 ed2 w2.2.1.1 A2.2.2.2.1 hld2) (cwV 0 hts (lw_V q161 q162 q163 q34 q164) rfl rfl rfl (by decide +kernel) ⟨Nat.le_of_ble_eq_true rfl, Nat.le_of_ble_eq_true rfl⟩) (g_preV hE hI (hld2.recv hE hI)) rfl rfl hl.1 rfl (lv_room (Nat.le_of_ble_eq_true rfl)) dX1_counted_91 ⟨Nat.le_of_ble_eq_true rfl, Nat.le_of_ble_eq_true rfl⟩) (fun H locs hI hS => ?_)
          exact g_iret hx hb hr hlk hI hS dX1_counted_94 (Nat.le_of_ble_eq_true rfl) (Nat.le_of_ble_eq_true rfl) (⟨rfl, rfl⟩)
        · by_cases z4 : what = 4
          · subst z4
            refine lv_tableIn (tgt := 95) hx hb dX1_counted_1 (by decide) (by decide) rfl (by decide) ?_
            refine lv_aload_n hx hb dX1_counted_95 rfl (lv_at hl 0 rfl) ?_
            refine g_get (C := RX1) (T := TX1) (N := 3) (v := .ref lt) hx hb hts in_X1 hown hE hI hX0 rfl 1 (by decide) q144 (fun _ h9 => h9) rfl dX1_counted_96 ?_
            refine g_ci0 (G := G) (v := nI ns) hS (va_runV (As := []) (rest := []) ⟨hx, hb, hml, hown, hts⟩ (m_size l E G (3, 3, 0) (3, 4, 0) lt et ns sA hlt0) (cwV 0 hts (lw_V q161 q162 q163 q34 q164) rfl rfl rfl (by decide +kernel) ⟨Nat.le_of_ble_eq_true rfl, Nat.le_of_ble_eq_true rfl⟩) (g_preV hE hI (hlt0.recv hE hI)) rfl rfl hl.1 rfl (lv_room (Nat.le_of_ble_eq_true rfl)) dX1_counted_99 ⟨Nat.le_of_ble_eq_true rfl, Nat.le_of_ble_eq_true rfl⟩) (fun H locs hI hS => ?_)
            exact g_iret hx hb hr hlk hI hS dX1_counted_102 (Nat.le_of_ble_eq_true rfl) (Nat.le_of_ble_eq_true rfl) (⟨rfl, rfl⟩)
          · by_cases z5 : what = 5
            · subst z5
              refine lv_tableIn (tgt := 103) hx hb dX1_counted_1 (by decide) (by decide) rfl (by decide) ?_
              obtain ⟨ec2, hlc2⟩ := hC2.2.2.1
              refine lv_aload_n hx hb dX1_counted_103 rfl (lv_at hl 1 rfl) ?_
              refine g_getN (C := RX2) (T := TX2) (N := 9) (v := .ref A2.2.2.1) hx hb hts in_X2 hown hE hI hC2.1 rfl 8 (by decide) q123 (fun _ h9 => h9) rfl dX1_counted_104 ?_
              refine g_ci0 (G := G) (v := nI w2.2.2.1) hS (va_runV (As := []) (rest := []) ⟨hx, hb, hml, hown, hts⟩ (m_size l E G (o, 3, 0) (o, 4, 0) A2.2.2.1 ec2 w2.2.2.1 A2.2.2.2.2 hlc2) (cwV 0 hts (lw_V q161 q162 q163 q34 q164) rfl rfl rfl (by decide +kernel) ⟨Nat.le_of_ble_eq_true rfl, Nat.le_of_ble_eq_true rfl⟩) (g_preV hE hI (hlc2.recv hE hI)) rfl rfl hl.1 rfl (lv_room (Nat.le_of_ble_eq_true rfl)) dX1_counted_107 ⟨Nat.le_of_ble_eq_true rfl, Nat.le_of_ble_eq_true rfl⟩) (fun H locs hI hS => ?_)
              exact g_iret hx hb hr hlk hI hS dX1_counted_110 (Nat.le_of_ble_eq_true rfl) (Nat.le_of_ble_eq_true rfl) (⟨rfl, rfl⟩)
            · by_cases z6 : what = 6
              · subst z6
                refine lv_tableIn (tgt := 111) hx hb dX1_counted_1 (by decide) (by decide) rfl (by decide) ?_
                refine lv_aload_n hx hb dX1_counted_111 rfl (lv_at hl 0 rfl) ?_
                refine g_get (C := RX1) (T := TX1) (N := 3) (v := .ref lu) hx hb hts in_X1 hown hE hI hX0 rfl 0 (by decide) q143 (fun _ h9 => h9) rfl dX1_counted_112 ?_
                refine g_ci0 (G := G) (v := nI nu) hS (va_runV (As := []) (rest := []) ⟨hx, hb, hml, hown, hts⟩ (m_size l E G (3, 1, 0) (3, 2, 0) lu eu nu uA hU.1) (cwV 0 hts (lw_V q161 q162 q163 q34 q164) rfl rfl rfl (by decide +kernel) ⟨Nat.le_of_ble_eq_true rfl, Nat.le_of_ble_eq_true rfl⟩) (g_preV hE hI (hU.1.recv hE hI)) rfl rfl hl.1 rfl (lv_room (Nat.le_of_ble_eq_true rfl)) dX1_counted_115 ⟨Nat.le_of_ble_eq_true rfl, Nat.le_of_ble_eq_true rfl⟩) (fun H locs hI hS => ?_)
                exact g_iret hx hb hr hlk hI hS dX1_counted_118 (Nat.le_of_ble_eq_true rfl) (Nat.le_of_ble_eq_true rfl) (⟨rfl, rfl⟩)
              · by_cases z7 : what = 7
                · subst z7
                  refine lv_tableIn (tgt := 119) hx hb dX1_counted_1 (by decide) (by decide) rfl (by decide) ?_
                  refine lv_aload_n hx hb dX1_counted_119 rfl (lv_at hl 0 rfl) ?_
                  refine lv_aload_n hx hb dX1_counted_120 rfl (lv_at hl 1 rfl) ?_
                  refine g_ci0 (G := G) (v := stS w2.2.1.2 w2.2.1.1 w2.1.2.2.2.1 st ns) hS (va_runV (As := [.ref A2.1]) (rest := []) ⟨hx, hb, hml, hown, hts⟩ (m_sSeen l E G x ((con, ld, lc, dA, kA), (lu, uA), (lt, sA)) ((((tk, ck, rn, an, sp, ln, lf), (nd, dm), (nc, km)), (nu, uq), (ns, st)) : Sy) hXR o A2 w2 hC2) (cwV 1 hts (lw_V q214 q216 qs1 q31 q217) rfl rfl rfl (by decide +kernel) ⟨Nat.le_of_ble_eq_true rfl, Nat.le_of_ble_eq_true rfl⟩) (g_preV hE hI (g_recv hE hI hX0 rfl)) rfl rfl hl.1 rfl (lv_room (Nat.le_of_ble_eq_true rfl)) dX1_counted_121 ⟨Nat.le_of_ble_eq_true rfl, Nat.le_of_ble_eq_true rfl⟩) (fun H locs hI hS => ?_)
                  exact g_iret hx hb hr hlk hI hS dX1_counted_124 (Nat.le_of_ble_eq_true rfl) (Nat.le_of_ble_eq_true rfl) (⟨rfl, rfl⟩)
                · by_cases z8 : what = 8
                  · subst z8
                    refine lv_tableIn (tgt := 125) hx hb dX1_counted_1 (by decide) (by decide) rfl (by decide) ?_
                    refine lv_aload_n hx hb dX1_counted_125 rfl (lv_at hl 1 rfl) ?_
                    refine g_ci0 (G := G) (v := kmS w2.2.1.2 w2.2.1.1 w2.2.2.2 w2.2.2.1) hS (va_runS (As := [.ref A2.1]) (rest := []) ⟨hx, hb, hml, hown, hts⟩ (m_kSeen l E G o A2 w2 hC2) (va_cwS 1 hts (lw_S q243 q244 q31 q245) rfl rfl rfl (by decide +kernel) ⟨Nat.le_of_ble_eq_true rfl, Nat.le_of_ble_eq_true rfl⟩) (g_preS hE hI) rfl rfl hl.1 rfl (lv_room (Nat.le_of_ble_eq_true rfl)) dX1_counted_126 ⟨Nat.le_of_ble_eq_true rfl, Nat.le_of_ble_eq_true rfl⟩) (fun H locs hI hS => ?_)
                    exact g_iret hx hb hr hlk hI hS dX1_counted_129 (Nat.le_of_ble_eq_true rfl) (Nat.le_of_ble_eq_true rfl) (⟨rfl, rfl⟩)
                  · by_cases z9 : what = 9
                    · subst z9
                      refine lv_tableIn (tgt := 130) hx hb dX1_counted_1 (by decide) (by decide) rfl (by decide) ?_
                      refine lv_aload_n hx hb dX1_counted_130 rfl (lv_at hl 1 rfl) ?_
                      refine g_getN (C := RX2) (T := TX2) (N := 9) (v := .int w2.1.2.2.2.2.2.1) hx hb hts in_X2 hown hE hI hC2.1 rfl 5 (by decide) q114 (fun _ h9 => h9) rfl dX1_counted_131 ?_
                      exact g_iret hx hb hr hlk hI hS dX1_counted_134 (Nat.le_of_ble_eq_true rfl) (Nat.le_of_ble_eq_true rfl) (⟨rfl, rfl⟩)
                    · by_cases z10 : what = 10
                      · subst z10
                        refine lv_tableIn (tgt := 135) hx hb dX1_counted_1 (by decide) (by decide) rfl (by decide) ?_
                        refine lv_aload_n hx hb dX1_counted_135 rfl (lv_at hl 1 rfl) ?_
                        refine g_getN (C := RX2) (T := TX2) (N := 9) (v := .int w2.1.2.2.2.2.2.2) hx hb hts in_X2 hown hE hI hC2.1 rfl 6 (by decide) q117 (fun _ h9 => h9) rfl dX1_counted_136 ?_
                        exact g_iret hx hb hr hlk hI hS dX1_counted_139 (Nat.le_of_ble_eq_true rfl) (Nat.le_of_ble_eq_true rfl) (⟨rfl, rfl⟩)
                      · by_cases z11 : what = 11
                        · subst z11
                          refine lv_tableIn (tgt := 140) hx hb dX1_counted_1 (by decide) (by decide) rfl (by decide) ?_
                          refine lv_aload_n hx hb dX1_counted_140 rfl (lv_at hl 1 rfl) ?_
                          refine g_getN (C := RX2) (T := TX2) (N := 9) (v := .int w2.1.2.2.2.1) hx hb hts in_X2 hown hE hI hC2.1 rfl 3 (by decide) q108 (fun _ h9 => h9) rfl dX1_counted_141 ?_
                          exact g_iret hx hb hr hlk hI hS dX1_counted_144 (Nat.le_of_ble_eq_true rfl) (Nat.le_of_ble_eq_true rfl) (⟨rfl, rfl⟩)
                        · have ht9 : what.toInt < 0 ∨ 11 < what.toInt := by have := lv_neT z0 (a := 0) (by decide); have := lv_neT z1 (a := 1) (by decide); have := lv_neT z2 (a := 2) (by decide); have := lv_neT z3 (a := 3) (by decide); have := lv_neT z4 (a := 4) (by decide); have := lv_neT z5 (a := 5) (by decide); have := lv_neT z6 (a := 6) (by decide); have := lv_neT z7 (a := 7) (by decide); have := lv_neT z8 (a := 8) (by decide); have := lv_neT z9 (a := 9) (by decide); have := lv_neT z10 (a := 10) (by decide); have := lv_neT z11 (a := 11) (by decide); omega
                          refine lv_tableOut (tgt := 145) hx hb dX1_counted_1 ht9 (by decide) ?_
                          refine lv_aload_n hx hb dX1_counted_145 rfl (lv_at hl 1 rfl) ?_
                          refine g_getN (C := RX2) (T := TX2) (N := 9) (v := .int w2.1.2.2.2.2.1) hx hb hts in_X2 hown hE hI hC2.1 rfl 4 (by decide) q111 (fun _ h9 => h9) rfl dX1_counted_146 ?_
                          exact g_iret hx hb hr hlk hI hS dX1_counted_149 (Nat.le_of_ble_eq_true rfl) (Nat.le_of_ble_eq_true rfl) (⟨(show cntV w2 nu ns st what = _ from ((if_neg z0).trans ((if_neg z1).trans ((if_neg z2).trans ((if_neg z3).trans ((if_neg z4).trans ((if_neg z5).trans ((if_neg z6).trans ((if_neg z7).trans ((if_neg z8).trans ((if_neg z9).trans ((if_neg z10).trans (if_neg z11))))))))))))).symm, rfl⟩)
set_option maxHeartbeats 4000000 in
set_option maxRecDepth 100000 in
theorem m_Xcount (l : Launch) (E : EnvT) (G : Gh) (hst : l.stackTraces = false) (x : Nat) (B : XA) (σ : Sy) (hXR : XRep E G x B σ) (i : Int32) : vx_Met l yX1_count (ws_ yX1_count cX1_count 2 (some .int)) ({ frames := 8, cells := 1, slots := 6, locals := 175 } : Room) (cP E G [.ref x, .int i]) (cI E (fun r G' => oneR 13 i = 0 ∧ r = cntV σ.1 σ.2.1.1 σ.2.2.1 σ.2.2.2 i ∧ G' = G)) (cX E (fun X G' => X = xIOB ∧ oneR 13 i = 1 ∧ G' = G)) 1 6 (eA E) := by
  obtain ⟨⟨con, ld, lc, dA, kA⟩, ⟨lu, uA⟩, ⟨lt, sA⟩⟩ := B
  obtain ⟨⟨⟨tk, ck, rn, an, sp, ln, lf⟩, ⟨nd, dm⟩, ⟨nc, km⟩⟩, ⟨nu, uq⟩, ⟨ns, st⟩⟩ := σ
  refine g_xmet (rm := ({ frames := 8, cells := 1, slots := 6, locals := 175 } : Room)) (av := [.ref x, .int i]) (lv := [(0, .ref x), (1, .int i)]) (by decide) (Nat.le_of_ble_eq_true rfl) rfl ?_
  intro p e s m below meth c ls hx hb hr hlk hml hno hts hown hE hI hL hS hl
  have hXR0 := hXR
  obtain ⟨hX0, hR, ⟨eu, hU⟩, ⟨et, hlt0⟩, hst0⟩ := hXR0
  have hX0 : G x = some ((3, 0, 0), xO lu lt con) := hX0
  have hR : CRep E G 1 (con, ld, lc, dA, kA) ((tk, ck, rn, an, sp, ln, lf), (nd, dm), (nc, km)) := hR
  have hU : URep E G 3 lu eu nu uA uq := hU
  have hlt0 : LRep E G (3, 3, 0) (3, 4, 0) lt et ns sA := hlt0
  have hst0 : ∀ k, k < ns → G (sA k) = some ((3, 6, k), sOt (st k)) := hst0
  have hR0 := hR
  obtain ⟨hcon, ⟨ed, hld⟩, ⟨ec, hlc⟩, hd, hk⟩ := hR0
  have hcon : G con = some ((1, 0, 0), coO tk ck rn an sp ln lf ld lc) := hcon
  have hld : LRep E G (1, 1, 0) (1, 2, 0) ld ed nd dA := hld
  have hlc : LRep E G (1, 3, 0) (1, 4, 0) lc ec nc kA := hlc
  have hd : ∀ k, k < nd → G (dA k) = some ((1, 5, k), dOt (dm k)) := hd
  have hk : ∀ k, k < nc → G (kA k) = some ((1, 6, k), kOt (km k)) := hk
  have hn1 : nd ≤ 36 := hld.n36
  have hn2 : nc ≤ 36 := hlc.n36
  have hn3 : nu ≤ 36 := hU.1.n36
  have hn4 : ns ≤ 36 := hlt0.n36
  refine lv_iload_n hx hb dX1_count_0 rfl (lv_at hl 1 rfl) ?_
  refine lv_bipush (v := 13) hx hb dX1_count_1 (by decide) ?_
  refine g_xv hS (vx_runS (As := [.int i, .int 13]) (rest := []) ⟨hx, hb, hml, hown, hts⟩ (m_requireIndex l E G hst i 13) (va_cwS 2 hts (lw_S q535 q536 q31 q537) rfl rfl rfl (by decide +kernel) ⟨Nat.le_of_ble_eq_true rfl, Nat.le_of_ble_eq_true rfl⟩) (g_preS hE hI) rfl rfl hl.1 rfl (lv_room (Nat.le_of_ble_eq_true rfl)) dX1_count_3 ⟨Nat.le_of_ble_eq_true rfl, Nat.le_of_ble_eq_true rfl⟩) (fun X ce q9 G1 H locs hp hI hS k1 k2 k3 => ?_) (fun G1 H locs hp hI hS => ?_)
  · obtain ⟨rfl, hc, hG1⟩ := hp
    exact g_xout hno hlk hI hS k1 k2 k3 (Nat.le_of_ble_eq_true rfl) (Nat.le_of_ble_eq_true rfl) (⟨rfl, if_pos hc, hG1⟩)
  · obtain ⟨j1, j2, hG1⟩ := hp
    rw [hG1] at hI
    have hnoJ : ¬ outI i 13 := fun z => z.elim j1 (fun z => absurd j2 (Int32.not_lt.mpr z))
    refine lv_aload_n hx hb dX1_count_6 rfl (lv_at hl 0 rfl) ?_
    refine lv_aload_n hx hb dX1_count_7 rfl (lv_at hl 0 rfl) ?_
    refine g_get (C := RX1) (T := TX1) (N := 3) (v := .ref con) hx hb hts in_X1 hown hE hI hX0 rfl 2 (by decide) q145 (fun _ h9 => h9) rfl dX1_count_8 ?_
    refine lv_iload_n hx hb dX1_count_11 rfl (lv_at hl 1 rfl) ?_
    refine g_ci0 (G := G) (v := cntV ((tk, ck, rn, an, sp, ln, lf), (nd, dm), (nc, km)) nu ns st i) hS (va_runV (As := [.ref con, .int i]) (rest := []) ⟨hx, hb, hml, hown, hts⟩ (m_counted l E G x ((con, ld, lc, dA, kA), (lu, uA), (lt, sA)) ((((tk, ck, rn, an, sp, ln, lf), (nd, dm), (nc, km)), (nu, uq), (ns, st)) : Sy) hXR 1 (con, ld, lc, dA, kA) ((tk, ck, rn, an, sp, ln, lf), (nd, dm), (nc, km)) hR i) (cwV 2 hts (lw_V q210 q212 qs0 q31 q213) rfl rfl rfl (by decide +kernel) ⟨Nat.le_of_ble_eq_true rfl, Nat.le_of_ble_eq_true rfl⟩) (g_preV hE hI (g_recv hE hI hX0 rfl)) rfl rfl hl.1 rfl (lv_room (Nat.le_of_ble_eq_true rfl)) dX1_count_12 ⟨Nat.le_of_ble_eq_true rfl, Nat.le_of_ble_eq_true rfl⟩) (fun H locs hI hS => ?_)
    refine vx_ret ?_
    exact g_iret hx hb hr hlk hI hS dX1_count_15 (Nat.le_of_ble_eq_true rfl) (Nat.le_of_ble_eq_true rfl) (⟨if_neg hnoJ, rfl, rfl⟩)
set_option maxHeartbeats 4000000 in
set_option maxRecDepth 100000 in
theorem m_Xnext (l : Launch) (E : EnvT) (G : Gh) (x : Nat) (B : XA) (σ : Sy) (hXR : XRep E G x B σ) : Met l yX1_next (ws_ yX1_next cX1_next 3 (some .int)) ({ frames := 3, cells := 0, slots := 0, locals := 64 } : Room) (cP E G [.ref x]) (cI E (fun r G' => r = nxS σ.2.1.2 σ.1.1.2.1 σ.2.1.1 ∧ G' = G)) 0 0 (eA E) := by
  obtain ⟨⟨con, ld, lc, dA, kA⟩, ⟨lu, uA⟩, ⟨lt, sA⟩⟩ := B
  obtain ⟨⟨⟨tk, ck, rn, an, sp, ln, lf⟩, ⟨nd, dm⟩, ⟨nc, km⟩⟩, ⟨nu, uq⟩, ⟨ns, st⟩⟩ := σ
  refine g_met (rm := ({ frames := 3, cells := 0, slots := 0, locals := 64 } : Room)) (av := [.ref x]) (lv := [(0, .ref x)]) (by decide) (Nat.le_of_ble_eq_true rfl) rfl ?_
  intro p e s m below meth c ls hx hb hr hlk hml hin hts hown hE hI hL hS hl
  have hXR0 := hXR
  obtain ⟨hX0, hR, ⟨eu, hU⟩, ⟨et, hlt0⟩, hst0⟩ := hXR0
  have hX0 : G x = some ((3, 0, 0), xO lu lt con) := hX0
  have hR : CRep E G 1 (con, ld, lc, dA, kA) ((tk, ck, rn, an, sp, ln, lf), (nd, dm), (nc, km)) := hR
  have hU : URep E G 3 lu eu nu uA uq := hU
  have hlt0 : LRep E G (3, 3, 0) (3, 4, 0) lt et ns sA := hlt0
  have hst0 : ∀ k, k < ns → G (sA k) = some ((3, 6, k), sOt (st k)) := hst0
  have hR0 := hR
  obtain ⟨hcon, ⟨ed, hld⟩, ⟨ec, hlc⟩, hd, hk⟩ := hR0
  have hcon : G con = some ((1, 0, 0), coO tk ck rn an sp ln lf ld lc) := hcon
  have hld : LRep E G (1, 1, 0) (1, 2, 0) ld ed nd dA := hld
  have hlc : LRep E G (1, 3, 0) (1, 4, 0) lc ec nc kA := hlc
  have hd : ∀ k, k < nd → G (dA k) = some ((1, 5, k), dOt (dm k)) := hd
  have hk : ∀ k, k < nc → G (kA k) = some ((1, 6, k), kOt (km k)) := hk
  have hn1 : nd ≤ 36 := hld.n36
  have hn2 : nc ≤ 36 := hlc.n36
  have hn3 : nu ≤ 36 := hU.1.n36
  have hn4 : ns ≤ 36 := hlt0.n36
  refine lv_iconst (v := -1) hx hb dX1_next_0 (by decide) ?_
  refine lv_istore_n (lv' := [(1, .int (-1)), (0, .ref x)]) hx hb dX1_next_1 rfl hl (by decide) rfl (fun ls hl => ?_)
  refine lv_iconst (v := 0) hx hb dX1_next_2 (by decide) ?_
  refine lv_istore_n (lv' := [(2, .int 0), (1, .int (-1)), (0, .ref x)]) hx hb dX1_next_3 rfl hl (by decide) rfl (fun ls hl => ?_)
  refine g_loop1 (A1 := Nat) (fun i H locs ls => i ≤ nu ∧ Inv E G H ∧ va_S (eA E) s.heap H locs ∧ lv_has ls 3 [(0, .ref x), (1, .int (nxS uq ck i)), (2, .int (nI i))]) (fun i => 0) (fun i => 0) (fun i => nu - i) ?_ 0 _ _ _ ⟨Nat.zero_le _, hI, hS, lv_sub hl [2, 1, 0] rfl⟩
  intro i ih1 H locs ls hst
  obtain ⟨hi, hI, hS, hl⟩ := hst
  refine lv_iload_n hx hb dX1_next_4 rfl (lv_at hl 2 rfl) ?_
  refine lv_aload_n hx hb dX1_next_5 rfl (lv_at hl 0 rfl) ?_
  refine g_get (C := RX1) (T := TX1) (N := 3) (v := .ref lu) hx hb hts in_X1 hown hE hI hX0 rfl 0 (by decide) q143 (fun _ h9 => h9) rfl dX1_next_6 ?_
  refine g_ci0 (G := G) (v := nI nu) hS (va_runV (As := []) (rest := [.int (nI i)]) ⟨hx, hb, hml, hown, hts⟩ (m_size l E G (3, 1, 0) (3, 2, 0) lu eu nu uA hU.1) (cwV 0 hts (lw_V q161 q162 q163 q34 q164) rfl rfl rfl (by decide +kernel) ⟨Nat.le_of_ble_eq_true rfl, Nat.le_of_ble_eq_true rfl⟩) (g_preV hE hI (hU.1.recv hE hI)) rfl rfl hl.1 rfl (lv_room (Nat.le_of_ble_eq_true rfl)) dX1_next_9 ⟨Nat.le_of_ble_eq_true rfl, Nat.le_of_ble_eq_true rfl⟩) (fun H locs hI hS => ?_)
  refine lv_icmp_ge (tgt := 83) hx hb dX1_next_12 (by decide) (fun c1 => ?_) (fun c1 => ?_)
  · have ei : i = nu := (Nat.lt_or_ge i nu).elim (fun z => absurd c1 (nI_ge z (by omega))) (fun z => by omega)
    refine lv_iload_n hx hb dX1_next_83 rfl (lv_at hl 1 rfl) ?_
    exact g_iret hx hb hr hlk hI hS dX1_next_84 (Nat.le_of_ble_eq_true rfl) (Nat.le_of_ble_eq_true rfl) (⟨by rw [ei], rfl⟩)
  · have hlt : i < nu := (Nat.lt_or_ge i nu).elim id (fun z => absurd (nI_le z (by omega)) c1)
    have hn1 : nxS uq ck (i + 1) = if (uq i).1 < ck then nxS uq ck i else if nxS uq ck i = -1 then nI i else if (uq (nxS uq ck i).toNatClampNeg).1 ≤ (uq i).1 then nxS uq ck i else nI i := rfl
    refine lv_aload_n hx hb dX1_next_15 rfl (lv_at hl 0 rfl) ?_
    refine g_get (C := RX1) (T := TX1) (N := 3) (v := .ref lu) hx hb hts in_X1 hown hE hI hX0 rfl 0 (by decide) q143 (fun _ h9 => h9) rfl dX1_next_16 ?_
    refine lv_iload_n hx hb dX1_next_19 rfl (lv_at hl 2 rfl) ?_
    refine g_cr0 (G := G) (v := uA i) hS (va_runV (As := [.int (nI i)]) (rest := []) ⟨hx, hb, hml, hown, hts⟩ (m_get l E G (3, 1, 0) (3, 2, 0) lu eu nu uA hU.1 i hlt) (cwV 1 hts (lw_V q165 q166 q167 q34 q168) rfl rfl rfl (by decide +kernel) ⟨Nat.le_of_ble_eq_true rfl, Nat.le_of_ble_eq_true rfl⟩) (g_preV hE hI (hU.1.recv hE hI)) rfl rfl hl.1 rfl (lv_room (Nat.le_of_ble_eq_true rfl)) dX1_next_20 ⟨Nat.le_of_ble_eq_true rfl, Nat.le_of_ble_eq_true rfl⟩) (fun H locs hI hS => ?_)
    refine g_cast hx hb hts hown q179 hE hI (hU.2 i hlt) rfl rfl dX1_next_23 ?_
    refine g_ci0 (G := G) (v := (uq i).1) hS (va_runV (As := []) (rest := []) ⟨hx, hb, hml, hown, hts⟩ (m_Utime l E G (uA i) (3, 5, i) (uq i).1 (eK E (uq i).2.1) (uq i).2.2.1 (uq i).2.2.2 (hU.2 i hlt)) (cwV 0 hts (lw_V q180 q181 q182 q56 q183) rfl rfl rfl (by decide +kernel) ⟨Nat.le_of_ble_eq_true rfl, Nat.le_of_ble_eq_true rfl⟩) (g_preV hE hI (g_recv hE hI (hU.2 i hlt) rfl)) rfl rfl hl.1 rfl (lv_room (Nat.le_of_ble_eq_true rfl)) dX1_next_26 ⟨Nat.le_of_ble_eq_true rfl, Nat.le_of_ble_eq_true rfl⟩) (fun H locs hI hS => ?_)
    refine lv_aload_n hx hb dX1_next_29 rfl (lv_at hl 0 rfl) ?_
    refine g_get (C := RX1) (T := TX1) (N := 3) (v := .ref con) hx hb hts in_X1 hown hE hI hX0 rfl 2 (by decide) q145 (fun _ h9 => h9) rfl dX1_next_30 ?_
    refine g_getN (C := RX2) (T := TX2) (N := 9) (v := .int ck) hx hb hts in_X2 hown hE hI hcon rfl 1 (by decide) q103 (fun _ h9 => h9) rfl dX1_next_33 ?_
    refine lv_icmp_lt (tgt := 77) hx hb dX1_next_36 (by decide) (fun c2 => ?_) (fun c2 => ?_)
    · rw [if_pos c2] at hn1
      refine lv_iinc (v := nI (i + 1)) (lv' := [(2, .int (nI (i + 1))), (0, .ref x), (1, .int (nxS uq ck i))]) hx hb dX1_next_77 hl (k := 2) rfl (nI_1 (i)) (by decide) rfl (fun ls hl => ?_)
      refine lv_goto (tgt := 4) hx hb dX1_next_80 (by decide) ?_
      rw [← hn1] at hl
      exact ih1 (i + 1) _ _ _ (by omega) ⟨hlt, hI, hS, lv_sub hl [1, 2, 0] rfl⟩
    · rw [if_neg c2] at hn1
      refine lv_iload_n hx hb dX1_next_39 rfl (lv_at hl 1 rfl) ?_
      refine lv_iconst (v := -1) hx hb dX1_next_40 (by decide) ?_
      refine lv_icmp_eq (tgt := 75) hx hb dX1_next_41 (by decide) (fun c3 => ?_) (fun c3 => ?_)
      · rw [if_pos c3] at hn1
        refine lv_iload_n hx hb dX1_next_75 rfl (lv_at hl 2 rfl) ?_
        refine lv_istore_n (lv' := [(1, .int (nI i)), (0, .ref x), (2, .int (nI i))]) hx hb dX1_next_76 rfl hl (by decide) rfl (fun ls hl => ?_)
        refine lv_iinc (v := nI (i + 1)) (lv' := [(2, .int (nI (i + 1))), (1, .int (nI i)), (0, .ref x)]) hx hb dX1_next_77 hl (k := 2) rfl (nI_1 (i)) (by decide) rfl (fun ls hl => ?_)
        refine lv_goto (tgt := 4) hx hb dX1_next_80 (by decide) ?_
        rw [← hn1] at hl
        exact ih1 (i + 1) _ _ _ (by omega) ⟨hlt, hI, hS, lv_sub hl [2, 1, 0] rfl⟩
      · rw [if_neg c3] at hn1
        obtain ⟨j, hj, ej⟩ := (nxS_in uq ck i).resolve_left c3
        have hju : j < nu := by omega
        have hcl : (nxS uq ck i).toNatClampNeg = j := by rw [ej]; exact nI_clamp (by omega)
        rw [hcl] at hn1
        refine lv_aload_n hx hb dX1_next_44 rfl (lv_at hl 0 rfl) ?_
        refine g_get (C := RX1) (T := TX1) (N := 3) (v := .ref lu) hx hb hts in_X1 hown hE hI hX0 rfl 0 (by decide) q143 (fun _ h9 => h9) rfl dX1_next_45 ?_
        refine lv_iload_n hx hb dX1_next_48 rfl (lv_at hl 2 rfl) ?_
        refine g_cr0 (G := G) (v := uA i) hS (va_runV (As := [.int (nI i)]) (rest := []) ⟨hx, hb, hml, hown, hts⟩ (m_get l E G (3, 1, 0) (3, 2, 0) lu eu nu uA hU.1 i hlt) (cwV 1 hts (lw_V q165 q166 q167 q34 q168) rfl rfl rfl (by decide +kernel) ⟨Nat.le_of_ble_eq_true rfl, Nat.le_of_ble_eq_true rfl⟩) (g_preV hE hI (hU.1.recv hE hI)) rfl rfl hl.1 rfl (lv_room (Nat.le_of_ble_eq_true rfl)) dX1_next_49 ⟨Nat.le_of_ble_eq_true rfl, Nat.le_of_ble_eq_true rfl⟩) (fun H locs hI hS => ?_)
        refine g_cast hx hb hts hown q179 hE hI (hU.2 i hlt) rfl rfl dX1_next_52 ?_
        refine g_ci0 (G := G) (v := (uq i).1) hS (va_runV (As := []) (rest := []) ⟨hx, hb, hml, hown, hts⟩ (m_Utime l E G (uA i) (3, 5, i) (uq i).1 (eK E (uq i).2.1) (uq i).2.2.1 (uq i).2.2.2 (hU.2 i hlt)) (cwV 0 hts (lw_V q180 q181 q182 q56 q183) rfl rfl rfl (by decide +kernel) ⟨Nat.le_of_ble_eq_true rfl, Nat.le_of_ble_eq_true rfl⟩) (g_preV hE hI (g_recv hE hI (hU.2 i hlt) rfl)) rfl rfl hl.1 rfl (lv_room (Nat.le_of_ble_eq_true rfl)) dX1_next_55 ⟨Nat.le_of_ble_eq_true rfl, Nat.le_of_ble_eq_true rfl⟩) (fun H locs hI hS => ?_)
        refine lv_aload_n hx hb dX1_next_58 rfl (lv_at hl 0 rfl) ?_
        refine g_get (C := RX1) (T := TX1) (N := 3) (v := .ref lu) hx hb hts in_X1 hown hE hI hX0 rfl 0 (by decide) q143 (fun _ h9 => h9) rfl dX1_next_59 ?_
        refine lv_iload_n hx hb dX1_next_62 rfl (lv_at hl 1 rfl) ?_
        rw [ej]
        refine g_cr0 (G := G) (v := uA j) hS (va_runV (As := [.int (nI j)]) (rest := [.int ((uq i).1)]) ⟨hx, hb, hml, hown, hts⟩ (m_get l E G (3, 1, 0) (3, 2, 0) lu eu nu uA hU.1 j hju) (cwV 1 hts (lw_V q165 q166 q167 q34 q168) rfl rfl rfl (by decide +kernel) ⟨Nat.le_of_ble_eq_true rfl, Nat.le_of_ble_eq_true rfl⟩) (g_preV hE hI (hU.1.recv hE hI)) rfl rfl hl.1 rfl (lv_room (Nat.le_of_ble_eq_true rfl)) dX1_next_63 ⟨Nat.le_of_ble_eq_true rfl, Nat.le_of_ble_eq_true rfl⟩) (fun H locs hI hS => ?_)
        refine g_cast hx hb hts hown q179 hE hI (hU.2 j hju) rfl rfl dX1_next_66 ?_
        refine g_ci0 (G := G) (v := (uq j).1) hS (va_runV (As := []) (rest := [.int ((uq i).1)]) ⟨hx, hb, hml, hown, hts⟩ (m_Utime l E G (uA j) (3, 5, j) (uq j).1 (eK E (uq j).2.1) (uq j).2.2.1 (uq j).2.2.2 (hU.2 j hju)) (cwV 0 hts (lw_V q180 q181 q182 q56 q183) rfl rfl rfl (by decide +kernel) ⟨Nat.le_of_ble_eq_true rfl, Nat.le_of_ble_eq_true rfl⟩) (g_preV hE hI (g_recv hE hI (hU.2 j hju) rfl)) rfl rfl hl.1 rfl (lv_room (Nat.le_of_ble_eq_true rfl)) dX1_next_69 ⟨Nat.le_of_ble_eq_true rfl, Nat.le_of_ble_eq_true rfl⟩) (fun H locs hI hS => ?_)
        refine lv_icmp_ge (tgt := 77) hx hb dX1_next_72 (by decide) (fun c4 => ?_) (fun c4 => ?_)
        · rw [if_pos c4] at hn1
          refine lv_iinc (v := nI (i + 1)) (lv' := [(2, .int (nI (i + 1))), (0, .ref x), (1, .int (nxS uq ck i))]) hx hb dX1_next_77 hl (k := 2) rfl (nI_1 (i)) (by decide) rfl (fun ls hl => ?_)
          refine lv_goto (tgt := 4) hx hb dX1_next_80 (by decide) ?_
          rw [← hn1] at hl
          exact ih1 (i + 1) _ _ _ (by omega) ⟨hlt, hI, hS, lv_sub hl [1, 2, 0] rfl⟩
        · rw [if_neg c4] at hn1
          refine lv_iload_n hx hb dX1_next_75 rfl (lv_at hl 2 rfl) ?_
          refine lv_istore_n (lv' := [(1, .int (nI i)), (0, .ref x), (2, .int (nI i))]) hx hb dX1_next_76 rfl hl (by decide) rfl (fun ls hl => ?_)
          refine lv_iinc (v := nI (i + 1)) (lv' := [(2, .int (nI (i + 1))), (1, .int (nI i)), (0, .ref x)]) hx hb dX1_next_77 hl (k := 2) rfl (nI_1 (i)) (by decide) rfl (fun ls hl => ?_)
          refine lv_goto (tgt := 4) hx hb dX1_next_80 (by decide) ?_
          rw [← hn1] at hl
          exact ih1 (i + 1) _ _ _ (by omega) ⟨hlt, hI, hS, lv_sub hl [2, 1, 0] rfl⟩
set_option maxHeartbeats 4000000 in
set_option maxRecDepth 100000 in
theorem m_Xdarkest (l : Launch) (E : EnvT) (G : Gh) (x : Nat) (B : XA) (σ : Sy) (hXR : XRep E G x B σ) : Met l yX1_darkest (ws_ yX1_darkest cX1_darkest 3 (some .int)) ({ frames := 4, cells := 0, slots := 0, locals := 87 } : Room) (cP E G [.ref x]) (cI E (fun r G' => r = dkS σ.1.2.1.2 σ.1.2.1.1 11 ∧ G' = G)) 0 0 (eA E) := by
  obtain ⟨⟨con, ld, lc, dA, kA⟩, ⟨lu, uA⟩, ⟨lt, sA⟩⟩ := B
  obtain ⟨⟨⟨tk, ck, rn, an, sp, ln, lf⟩, ⟨nd, dm⟩, ⟨nc, km⟩⟩, ⟨nu, uq⟩, ⟨ns, st⟩⟩ := σ
  refine g_met (rm := ({ frames := 4, cells := 0, slots := 0, locals := 87 } : Room)) (av := [.ref x]) (lv := [(0, .ref x)]) (by decide) (Nat.le_of_ble_eq_true rfl) rfl ?_
  intro p e s m below meth c ls hx hb hr hlk hml hin hts hown hE hI hL hS hl
  have hXR0 := hXR
  obtain ⟨hX0, hR, ⟨eu, hU⟩, ⟨et, hlt0⟩, hst0⟩ := hXR0
  have hX0 : G x = some ((3, 0, 0), xO lu lt con) := hX0
  have hR : CRep E G 1 (con, ld, lc, dA, kA) ((tk, ck, rn, an, sp, ln, lf), (nd, dm), (nc, km)) := hR
  have hU : URep E G 3 lu eu nu uA uq := hU
  have hlt0 : LRep E G (3, 3, 0) (3, 4, 0) lt et ns sA := hlt0
  have hst0 : ∀ k, k < ns → G (sA k) = some ((3, 6, k), sOt (st k)) := hst0
  have hR0 := hR
  obtain ⟨hcon, ⟨ed, hld⟩, ⟨ec, hlc⟩, hd, hk⟩ := hR0
  have hcon : G con = some ((1, 0, 0), coO tk ck rn an sp ln lf ld lc) := hcon
  have hld : LRep E G (1, 1, 0) (1, 2, 0) ld ed nd dA := hld
  have hlc : LRep E G (1, 3, 0) (1, 4, 0) lc ec nc kA := hlc
  have hd : ∀ k, k < nd → G (dA k) = some ((1, 5, k), dOt (dm k)) := hd
  have hk : ∀ k, k < nc → G (kA k) = some ((1, 6, k), kOt (km k)) := hk
  have hn1 : nd ≤ 36 := hld.n36
  have hn2 : nc ≤ 36 := hlc.n36
  have hn3 : nu ≤ 36 := hU.1.n36
  have hn4 : ns ≤ 36 := hlt0.n36
  refine lv_iconst (v := 0) hx hb dX1_darkest_0 (by decide) ?_
  refine lv_istore_n (lv' := [(1, .int 0), (0, .ref x)]) hx hb dX1_darkest_1 rfl hl (by decide) rfl (fun ls hl => ?_)
  refine lv_iconst (v := 1) hx hb dX1_darkest_2 (by decide) ?_
  refine lv_istore_n (lv' := [(2, .int 1), (1, .int 0), (0, .ref x)]) hx hb dX1_darkest_3 rfl hl (by decide) rfl (fun ls hl => ?_)
  refine g_loop1 (A1 := Nat) (fun j H locs ls => j ≤ 11 ∧ Inv E G H ∧ va_S (eA E) s.heap H locs ∧ lv_has ls 3 [(0, .ref x), (1, .int (dkS dm nd j)), (2, .int (nI (j + 1)))]) (fun j => 0) (fun j => 0) (fun j => 11 - j) ?_ 0 _ _ _ ⟨Nat.zero_le _, hI, hS, lv_sub hl [2, 1, 0] rfl⟩
  intro j ih1 H locs ls hst
  obtain ⟨hj, hI, hS, hl⟩ := hst
  refine lv_iload_n hx hb dX1_darkest_4 rfl (lv_at hl 2 rfl) ?_
  refine lv_bipush (v := 12) hx hb dX1_darkest_5 (by decide) ?_
  refine lv_icmp_ge (tgt := 37) hx hb dX1_darkest_7 (by decide) (fun c1 => ?_) (fun c1 => ?_)
  · have ej : j = 11 := (Nat.lt_or_ge j 11).elim (fun z => absurd c1 (nI_ge (b := 12) (by omega) (by omega))) (fun z => by omega)
    refine lv_iload_n hx hb dX1_darkest_37 rfl (lv_at hl 1 rfl) ?_
    exact g_iret hx hb hr hlk hI hS dX1_darkest_38 (Nat.le_of_ble_eq_true rfl) (Nat.le_of_ble_eq_true rfl) (⟨by rw [ej], rfl⟩)
  · have hlt : j < 11 := (Nat.lt_or_ge j 11).elim id (fun z => absurd (nI_le (a := 12) (b := j + 1) (by omega) (by omega)) c1)
    have hn1 : dkS dm nd (j + 1) = if glS dm (dkS dm nd j) nd ≤ glS dm (nI (j + 1)) nd then dkS dm nd j else nI (j + 1) := rfl
    refine lv_aload_n hx hb dX1_darkest_10 rfl (lv_at hl 0 rfl) ?_
    refine g_get (C := RX1) (T := TX1) (N := 3) (v := .ref con) hx hb hts in_X1 hown hE hI hX0 rfl 2 (by decide) q145 (fun _ h9 => h9) rfl dX1_darkest_11 ?_
    refine lv_iload_n hx hb dX1_darkest_14 rfl (lv_at hl 2 rfl) ?_
    refine g_ci0 (G := G) (v := glS dm (nI (j + 1)) nd) hS (va_runV (As := [.int (nI (j + 1))]) (rest := []) ⟨hx, hb, hml, hown, hts⟩ (m_glare l E G 1 (con, ld, lc, dA, kA) ((tk, ck, rn, an, sp, ln, lf), (nd, dm), (nc, km)) hR (nI (j + 1))) (cwV 1 hts (lw_V q188 q189 q190 q35 q191) rfl rfl rfl (by decide +kernel) ⟨Nat.le_of_ble_eq_true rfl, Nat.le_of_ble_eq_true rfl⟩) (g_preV hE hI (g_recv hE hI hcon rfl)) rfl rfl hl.1 rfl (lv_room (Nat.le_of_ble_eq_true rfl)) dX1_darkest_15 ⟨Nat.le_of_ble_eq_true rfl, Nat.le_of_ble_eq_true rfl⟩) (fun H locs hI hS => ?_)
    refine lv_aload_n hx hb dX1_darkest_18 rfl (lv_at hl 0 rfl) ?_
    refine g_get (C := RX1) (T := TX1) (N := 3) (v := .ref con) hx hb hts in_X1 hown hE hI hX0 rfl 2 (by decide) q145 (fun _ h9 => h9) rfl dX1_darkest_19 ?_
    refine lv_iload_n hx hb dX1_darkest_22 rfl (lv_at hl 1 rfl) ?_
    refine g_ci0 (G := G) (v := glS dm (dkS dm nd j) nd) hS (va_runV (As := [.int (dkS dm nd j)]) (rest := [.int (glS dm (nI (j + 1)) nd)]) ⟨hx, hb, hml, hown, hts⟩ (m_glare l E G 1 (con, ld, lc, dA, kA) ((tk, ck, rn, an, sp, ln, lf), (nd, dm), (nc, km)) hR (dkS dm nd j)) (cwV 1 hts (lw_V q188 q189 q190 q35 q191) rfl rfl rfl (by decide +kernel) ⟨Nat.le_of_ble_eq_true rfl, Nat.le_of_ble_eq_true rfl⟩) (g_preV hE hI (g_recv hE hI hcon rfl)) rfl rfl hl.1 rfl (lv_room (Nat.le_of_ble_eq_true rfl)) dX1_darkest_23 ⟨Nat.le_of_ble_eq_true rfl, Nat.le_of_ble_eq_true rfl⟩) (fun H locs hI hS => ?_)
    refine lv_icmp_ge (tgt := 31) hx hb dX1_darkest_26 (by decide) (fun c2 => ?_) (fun c2 => ?_)
    · rw [if_pos c2] at hn1
      refine lv_iinc (v := nI (j + 1 + 1)) (lv' := [(2, .int (nI (j + 1 + 1))), (0, .ref x), (1, .int (dkS dm nd j))]) hx hb dX1_darkest_31 hl (k := 2) rfl (nI_1 (j + 1)) (by decide) rfl (fun ls hl => ?_)
      refine lv_goto (tgt := 4) hx hb dX1_darkest_34 (by decide) ?_
      rw [← hn1] at hl
      exact ih1 (j + 1) _ _ _ (by omega) ⟨hlt, hI, hS, lv_sub hl [1, 2, 0] rfl⟩
    · rw [if_neg c2] at hn1
      refine lv_iload_n hx hb dX1_darkest_29 rfl (lv_at hl 2 rfl) ?_
      refine lv_istore_n (lv' := [(1, .int (nI (j + 1))), (0, .ref x), (2, .int (nI (j + 1)))]) hx hb dX1_darkest_30 rfl hl (by decide) rfl (fun ls hl => ?_)
      refine lv_iinc (v := nI (j + 1 + 1)) (lv' := [(2, .int (nI (j + 1 + 1))), (1, .int (nI (j + 1))), (0, .ref x)]) hx hb dX1_darkest_31 hl (k := 2) rfl (nI_1 (j + 1)) (by decide) rfl (fun ls hl => ?_)
      refine lv_goto (tgt := 4) hx hb dX1_darkest_34 (by decide) ?_
      have hl : lv_has ls 3 [(2, .int (nI (j + 1 + 1))), (1, .int (dkS dm nd (j + 1))), (0, .ref x)] := by rw [hn1]; exact hl
      exact ih1 (j + 1) _ _ _ (by omega) ⟨hlt, hI, hS, lv_sub hl [2, 1, 0] rfl⟩
