/-! CONTRACTS of the console's reading methods, of the kinds' takes. Printed by gen/p22.py -/
theorem LRep.recv {E : EnvT} {G : Gh} {H : Heap} {s : State} {tl ta : Tg} {a el n : Nat} {ad : Nat → Nat} (h : LRep E G tl ta a el n ad) (hE : Env0 E s) (hI : Inv E G H) : ∃ cell : Cell, H[a]? = some cell ∧ cell.vm.isStatics = false ∧ s.vm.findClass RJ2 = some cell.cls := by
  obtain ⟨mo, cap, f, hg, -⟩ := h
  exact g_recv hE hI hg rfl
set_option maxHeartbeats 4000000 in
set_option maxRecDepth 100000 in
theorem m_glare (l : Launch) (E : EnvT) (G : Gh) (o : Nat) (A : CA) (w : Cn) (hR : CRep E G o A w) (of : Int32) : Met l yX2_glare (ws_ yX2_glare cX2_glare 4 (some .int)) ({ frames := 3, cells := 0, slots := 0, locals := 64 } : Room) (cP E G [.ref A.1, .int of]) (cI E (fun r G' => r = glS w.2.1.2 of w.2.1.1 ∧ G' = G)) 0 0 (eA E) := by
  obtain ⟨con, ld, lc, dA, kA⟩ := A
  obtain ⟨⟨tk, ck, rn, an, sp, ln, lf⟩, ⟨nd, dm⟩, ⟨nc, km⟩⟩ := w
  refine g_met (rm := ({ frames := 3, cells := 0, slots := 0, locals := 64 } : Room)) (av := [.ref con, .int of]) (lv := [(0, .ref con), (1, .int of)]) (by decide) (Nat.le_of_ble_eq_true rfl) rfl ?_
  intro p e s m below meth c ls hx hb hr hlk hml hin hts hown hE hI hL hS hl
  have hR0 := hR
  obtain ⟨hcon, ⟨ed, hld⟩, ⟨ec, hlc⟩, hd, hk⟩ := hR0
  have hcon : G con = some ((o, 0, 0), coO tk ck rn an sp ln lf ld lc) := hcon
  have hld : LRep E G (o, 1, 0) (o, 2, 0) ld ed nd dA := hld
  have hlc : LRep E G (o, 3, 0) (o, 4, 0) lc ec nc kA := hlc
  have hd : ∀ k, k < nd → G (dA k) = some ((o, 5, k), dOt (dm k)) := hd
  have hk : ∀ k, k < nc → G (kA k) = some ((o, 6, k), kOt (km k)) := hk
  have hn1 : nd ≤ 36 := hld.n36
  have hn2 : nc ≤ 36 := hlc.n36
  refine lv_iconst (v := 0) hx hb dX2_glare_0 (by decide) ?_
  refine lv_istore_n (lv' := [(2, .int 0), (0, .ref con), (1, .int of)]) hx hb dX2_glare_1 rfl hl (by decide) rfl (fun ls hl => ?_)
  refine lv_iconst (v := 0) hx hb dX2_glare_2 (by decide) ?_
  refine lv_istore_n (lv' := [(3, .int 0), (2, .int 0), (0, .ref con), (1, .int of)]) hx hb dX2_glare_3 rfl hl (by decide) rfl (fun ls hl => ?_)
  refine g_loop2 (A1 := Nat) (A2 := Int32) (fun i z H locs ls => i ≤ nd ∧ z = glS dm of i ∧ Inv E G H ∧ va_S (eA E) s.heap H locs ∧ lv_has ls 4 [(0, .ref con), (1, .int of), (2, .int z), (3, .int (nI i))]) (fun i z => 0) (fun i z => 0) (fun i z => nd - i) ?_ 0 0 _ _ _ ⟨Nat.zero_le _, rfl, hI, hS, lv_sub hl [2, 3, 1, 0] rfl⟩
  intro i z ih1 H locs ls hst
  obtain ⟨hi, hz, hI, hS, hl⟩ := hst
  refine lv_iload_n hx hb dX2_glare_4 rfl (lv_at hl 3 rfl) ?_
  refine lv_aload_n hx hb dX2_glare_5 rfl (lv_at hl 0 rfl) ?_
  refine g_get (C := RX2) (T := TX2) (N := 9) (v := .ref ld) hx hb hts in_X2 hown hE hI hcon rfl 7 (by decide) q118 (fun _ h9 => h9) rfl dX2_glare_6 ?_
  refine g_ci0 (G := G) (v := nI nd) hS (va_runV (As := []) (rest := [.int (nI i)]) ⟨hx, hb, hml, hown, hts⟩ (m_size l E G (o, 1, 0) (o, 2, 0) ld ed nd dA hld) (cwV 0 hts (lw_V q192 q162 q163 q34 q164) rfl rfl rfl (by decide +kernel) ⟨Nat.le_of_ble_eq_true rfl, Nat.le_of_ble_eq_true rfl⟩) (g_preV hE hI (hld.recv hE hI)) rfl rfl hl.1 rfl (lv_room (Nat.le_of_ble_eq_true rfl)) dX2_glare_9 ⟨Nat.le_of_ble_eq_true rfl, Nat.le_of_ble_eq_true rfl⟩) (fun H locs hI hS => ?_)
  refine lv_icmp_ge (tgt := 39) hx hb dX2_glare_12 (by decide) (fun c1 => ?_) (fun c1 => ?_)
  · have ei : i = nd := (Nat.lt_or_ge i nd).elim (fun z => absurd c1 (nI_ge z (by omega))) (fun z => by omega)
    refine lv_iload_n hx hb dX2_glare_39 rfl (lv_at hl 2 rfl) ?_
    exact g_iret hx hb hr hlk hI hS dX2_glare_40 (Nat.le_of_ble_eq_true rfl) (Nat.le_of_ble_eq_true rfl) (⟨by rw [hz, ei], rfl⟩)
  · have hlt : i < nd := (Nat.lt_or_ge i nd).elim id (fun z => absurd (nI_le z (by omega)) c1)
    refine lv_iload_n hx hb dX2_glare_15 rfl (lv_at hl 2 rfl) ?_
    refine lv_aload_n hx hb dX2_glare_16 rfl (lv_at hl 0 rfl) ?_
    refine g_get (C := RX2) (T := TX2) (N := 9) (v := .ref ld) hx hb hts in_X2 hown hE hI hcon rfl 7 (by decide) q118 (fun _ h9 => h9) rfl dX2_glare_17 ?_
    refine lv_iload_n hx hb dX2_glare_20 rfl (lv_at hl 3 rfl) ?_
    refine g_cr0 (G := G) (v := dA i) hS (va_runV (As := [.int (nI i)]) (rest := [.int z]) ⟨hx, hb, hml, hown, hts⟩ (m_get l E G (o, 1, 0) (o, 2, 0) ld ed nd dA hld i hlt) (cwV 1 hts (lw_V q193 q166 q167 q34 q168) rfl rfl rfl (by decide +kernel) ⟨Nat.le_of_ble_eq_true rfl, Nat.le_of_ble_eq_true rfl⟩) (g_preV hE hI (hld.recv hE hI)) rfl rfl hl.1 rfl (lv_room (Nat.le_of_ble_eq_true rfl)) dX2_glare_21 ⟨Nat.le_of_ble_eq_true rfl, Nat.le_of_ble_eq_true rfl⟩) (fun H locs hI hS => ?_)
    refine g_cast hx hb hts hown q194 hE hI (hd i hlt) rfl rfl dX2_glare_24 ?_
    refine lv_iload_n hx hb dX2_glare_27 rfl (lv_at hl 1 rfl) ?_
    refine g_ci0 (G := G) (v := glr (dm i).1 (dm i).2.2.1 of) hS (va_runV (As := [.int of]) (rest := [.int z]) ⟨hx, hb, hml, hown, hts⟩ (m_Dglare l E G (dA i) (o, 5, i) (dm i).1 (dm i).2.1 (dm i).2.2.1 (dm i).2.2.2.1 (dm i).2.2.2.2 (hd i hlt) of) (cwV 1 hts (lw_V q195 q196 q197 q42 q198) rfl rfl rfl (by decide +kernel) ⟨Nat.le_of_ble_eq_true rfl, Nat.le_of_ble_eq_true rfl⟩) (g_preV hE hI (g_recv hE hI (hd i hlt) rfl)) rfl rfl hl.1 rfl (lv_room (Nat.le_of_ble_eq_true rfl)) dX2_glare_28 ⟨Nat.le_of_ble_eq_true rfl, Nat.le_of_ble_eq_true rfl⟩) (fun H locs hI hS => ?_)
    refine lv_iadd hx hb dX2_glare_31 ?_
    refine lv_istore_n (lv' := [(2, .int (z + glr (dm i).1 (dm i).2.2.1 of)), (0, .ref con), (1, .int of), (3, .int (nI i))]) hx hb dX2_glare_32 rfl hl (by decide) rfl (fun ls hl => ?_)
    refine lv_iinc (v := nI (i + 1)) (lv' := [(3, .int (nI (i + 1))), (2, .int (z + glr (dm i).1 (dm i).2.2.1 of)), (0, .ref con), (1, .int of)]) hx hb dX2_glare_33 hl (k := 3) rfl (nI_1 i) (by decide) rfl (fun ls hl => ?_)
    refine lv_goto (tgt := 4) hx hb dX2_glare_36 (by decide) ?_
    exact ih1 (i + 1) (z + glr (dm i).1 (dm i).2.2.1 of) _ _ _ (by omega) ⟨hlt, by rw [hz]; rfl, hI, hS, lv_sub hl [2, 3, 1, 0] rfl⟩
set_option maxHeartbeats 4000000 in
set_option maxRecDepth 100000 in
theorem m_isSeen (l : Launch) (E : EnvT) (G : Gh) (o : Nat) (A : CA) (w : Cn) (hR : CRep E G o A w) (x lt : Int32) : Met l yX2_isSeen_2 (ws_ yX2_isSeen_2 cX2_isSeen_2 3 (some .boolean)) ({ frames := 4, cells := 0, slots := 0, locals := 87 } : Room) (cP E G [.ref A.1, .int x, .int lt]) (cI E (fun r G' => r = seenV w.2.1.2 w.2.1.1 x lt ∧ G' = G)) 0 0 (eA E) := by
  obtain ⟨con, ld, lc, dA, kA⟩ := A
  obtain ⟨⟨tk, ck, rn, an, sp, ln, lf⟩, ⟨nd, dm⟩, ⟨nc, km⟩⟩ := w
  refine g_met (rm := ({ frames := 4, cells := 0, slots := 0, locals := 87 } : Room)) (av := [.ref con, .int x, .int lt]) (lv := [(0, .ref con), (1, .int x), (2, .int lt)]) (by decide) (Nat.le_of_ble_eq_true rfl) rfl ?_
  intro p e s m below meth c ls hx hb hr hlk hml hin hts hown hE hI hL hS hl
  have hR0 := hR
  obtain ⟨hcon, ⟨ed, hld⟩, ⟨ec, hlc⟩, hd, hk⟩ := hR0
  have hcon : G con = some ((o, 0, 0), coO tk ck rn an sp ln lf ld lc) := hcon
  have hld : LRep E G (o, 1, 0) (o, 2, 0) ld ed nd dA := hld
  have hlc : LRep E G (o, 3, 0) (o, 4, 0) lc ec nc kA := hlc
  have hd : ∀ k, k < nd → G (dA k) = some ((o, 5, k), dOt (dm k)) := hd
  have hk : ∀ k, k < nc → G (kA k) = some ((o, 6, k), kOt (km k)) := hk
  have hn1 : nd ≤ 36 := hld.n36
  have hn2 : nc ≤ 36 := hlc.n36
  refine lv_bipush (v := 10) hx hb dX2_isSeen_2_0 (by decide) ?_
  refine lv_iload_n hx hb dX2_isSeen_2_2 rfl (lv_at hl 2 rfl) ?_
  refine lv_imul hx hb dX2_isSeen_2_3 ?_
  refine lv_aload_n hx hb dX2_isSeen_2_4 rfl (lv_at hl 0 rfl) ?_
  refine lv_iload_n hx hb dX2_isSeen_2_5 rfl (lv_at hl 1 rfl) ?_
  refine lv_bipush (v := 30) hx hb dX2_isSeen_2_6 (by decide) ?_
  refine lv_idiv hx hb dX2_isSeen_2_8 (by decide) ?_
  refine g_ci0 (G := G) (v := glS dm (x / 30) nd) hS (va_runV (As := [.int (x / 30)]) (rest := [.int (10 * lt)]) ⟨hx, hb, hml, hown, hts⟩ (m_glare l E G o (con, ld, lc, dA, kA) ((tk, ck, rn, an, sp, ln, lf), (nd, dm), (nc, km)) hR (x / 30)) (cwV 1 hts (lw_V q242 q189 q190 q35 q191) rfl rfl rfl (by decide +kernel) ⟨Nat.le_of_ble_eq_true rfl, Nat.le_of_ble_eq_true rfl⟩) (g_preV hE hI (g_recv hE hI hcon rfl)) rfl rfl hl.1 rfl (lv_room (Nat.le_of_ble_eq_true rfl)) dX2_isSeen_2_9 ⟨Nat.le_of_ble_eq_true rfl, Nat.le_of_ble_eq_true rfl⟩) (fun H locs hI hS => ?_)
  refine lv_icmp_le (tgt := 19) hx hb dX2_isSeen_2_12 (by decide) (fun c1 => ?_) (fun c1 => ?_)
  · refine lv_iconst (v := 0) hx hb dX2_isSeen_2_19 (by decide) ?_
    exact g_zret hx hb hr hlk hI hS dX2_isSeen_2_20 (Nat.le_of_ble_eq_true rfl) (Nat.le_of_ble_eq_true rfl) rfl (⟨(if_pos c1).symm, rfl⟩)
  · refine lv_iconst (v := 1) hx hb dX2_isSeen_2_15 (by decide) ?_
    refine lv_goto (tgt := 20) hx hb dX2_isSeen_2_16 (by decide) ?_
    exact g_zret hx hb hr hlk hI hS dX2_isSeen_2_20 (Nat.le_of_ble_eq_true rfl) (Nat.le_of_ble_eq_true rfl) rfl (⟨(if_neg c1).symm, rfl⟩)
set_option maxHeartbeats 4000000 in
set_option maxRecDepth 100000 in
theorem m_placeOf (l : Launch) (E : EnvT) (G : Gh) (o : Nat) (A : CA) (w : Cn) (hR : CRep E G o A w) (h : Nat) (t : Tg) (st : Sm) (hs : G h = some (t, sOt st)) : Met l yX2_placeOf (ws_ yX2_placeOf cX2_placeOf 2 (some .int)) ({ frames := 1, cells := 0, slots := 0, locals := 20 } : Room) (cP E G [.ref A.1, .ref h]) (cI E (fun r G' => r = rnd (st.1 + w.1.2.2.2.1) ∧ G' = G)) 0 0 (eA E) := by
  obtain ⟨con, ld, lc, dA, kA⟩ := A
  obtain ⟨⟨tk, ck, rn, an, sp, ln, lf⟩, ⟨nd, dm⟩, ⟨nc, km⟩⟩ := w
  refine g_met (rm := ({ frames := 1, cells := 0, slots := 0, locals := 20 } : Room)) (av := [.ref con, .ref h]) (lv := [(0, .ref con), (1, .ref h)]) (by decide) (Nat.le_of_ble_eq_true rfl) rfl ?_
  intro p e s m below meth c ls hx hb hr hlk hml hin hts hown hE hI hL hS hl
  have hR0 := hR
  obtain ⟨hcon, ⟨ed, hld⟩, ⟨ec, hlc⟩, hd, hk⟩ := hR0
  have hcon : G con = some ((o, 0, 0), coO tk ck rn an sp ln lf ld lc) := hcon
  have hld : LRep E G (o, 1, 0) (o, 2, 0) ld ed nd dA := hld
  have hlc : LRep E G (o, 3, 0) (o, 4, 0) lc ec nc kA := hlc
  have hd : ∀ k, k < nd → G (dA k) = some ((o, 5, k), dOt (dm k)) := hd
  have hk : ∀ k, k < nc → G (kA k) = some ((o, 6, k), kOt (km k)) := hk
  have hn1 : nd ≤ 36 := hld.n36
  have hn2 : nc ≤ 36 := hlc.n36
  refine lv_aload_n hx hb dX2_placeOf_0 rfl (lv_at hl 1 rfl) ?_
  refine g_ci0 (G := G) (v := st.1) hS (va_runV (As := []) (rest := []) ⟨hx, hb, hml, hown, hts⟩ (m_degree l E G h t st.1 st.2 hs) (cwV 0 hts (lw_V q227 q228 q229 q53 q230) rfl rfl rfl (by decide +kernel) ⟨Nat.le_of_ble_eq_true rfl, Nat.le_of_ble_eq_true rfl⟩) (g_preV hE hI (g_recv hE hI hs rfl)) rfl rfl hl.1 rfl (lv_room (Nat.le_of_ble_eq_true rfl)) dX2_placeOf_1 ⟨Nat.le_of_ble_eq_true rfl, Nat.le_of_ble_eq_true rfl⟩) (fun H locs hI hS => ?_)
  refine lv_aload_n hx hb dX2_placeOf_4 rfl (lv_at hl 0 rfl) ?_
  refine g_get (C := RX2) (T := TX2) (N := 9) (v := .int an) hx hb hts in_X2 hown hE hI hcon rfl 3 (by decide) q107 (fun _ h9 => h9) rfl dX2_placeOf_5 ?_
  refine lv_iadd hx hb dX2_placeOf_8 ?_
  refine g_ci0 (G := G) (v := rnd (st.1 + an)) hS (va_runSN (As := [.int (st.1 + an)]) (rest := []) ⟨hx, hb, hml, hown, hts⟩ (m_round l E G (st.1 + an)) ⟨va_cnB 1 hts (lw_meth q233) rfl rfl rfl (hE.nw q231 rfl) (hts _ q31) (by decide +kernel) ⟨Nat.le_of_ble_eq_true rfl, Nat.le_of_ble_eq_true rfl⟩, hts _ q232, trivial⟩ (g_preS hE hI) rfl rfl hl.1 rfl (lv_room (Nat.le_of_ble_eq_true rfl)) dX2_placeOf_9 ⟨Nat.le_of_ble_eq_true rfl, Nat.le_of_ble_eq_true rfl⟩) (fun H locs hI hS => ?_)
  exact g_iret hx hb hr hlk hI hS dX2_placeOf_12 (Nat.le_of_ble_eq_true rfl) (Nat.le_of_ble_eq_true rfl) (⟨rfl, rfl⟩)
set_option maxHeartbeats 4000000 in
set_option maxRecDepth 100000 in
theorem m_isSeenS (l : Launch) (E : EnvT) (G : Gh) (o : Nat) (A : CA) (w : Cn) (hR : CRep E G o A w) (h : Nat) (t : Tg) (st : Sm) (hs : G h = some (t, sOt st)) : Met l yX2_isSeen (ws_ yX2_isSeen cX2_isSeen 2 (some .boolean)) ({ frames := 5, cells := 0, slots := 0, locals := 109 } : Room) (cP E G [.ref A.1, .ref h]) (cI E (fun r G' => r = starV w.2.1.2 w.2.1.1 w.1.2.2.2.1 st ∧ G' = G)) 0 0 (eA E) := by
  obtain ⟨con, ld, lc, dA, kA⟩ := A
  obtain ⟨⟨tk, ck, rn, an, sp, ln, lf⟩, ⟨nd, dm⟩, ⟨nc, km⟩⟩ := w
  refine g_met (rm := ({ frames := 5, cells := 0, slots := 0, locals := 109 } : Room)) (av := [.ref con, .ref h]) (lv := [(0, .ref con), (1, .ref h)]) (by decide) (Nat.le_of_ble_eq_true rfl) rfl ?_
  intro p e s m below meth c ls hx hb hr hlk hml hin hts hown hE hI hL hS hl
  have hR0 := hR
  obtain ⟨hcon, ⟨ed, hld⟩, ⟨ec, hlc⟩, hd, hk⟩ := hR0
  have hcon : G con = some ((o, 0, 0), coO tk ck rn an sp ln lf ld lc) := hcon
  have hld : LRep E G (o, 1, 0) (o, 2, 0) ld ed nd dA := hld
  have hlc : LRep E G (o, 3, 0) (o, 4, 0) lc ec nc kA := hlc
  have hd : ∀ k, k < nd → G (dA k) = some ((o, 5, k), dOt (dm k)) := hd
  have hk : ∀ k, k < nc → G (kA k) = some ((o, 6, k), kOt (km k)) := hk
  have hn1 : nd ≤ 36 := hld.n36
  have hn2 : nc ≤ 36 := hlc.n36
  refine lv_aload_n hx hb dX2_isSeen_0 rfl (lv_at hl 0 rfl) ?_
  refine lv_aload_n hx hb dX2_isSeen_1 rfl (lv_at hl 0 rfl) ?_
  refine lv_aload_n hx hb dX2_isSeen_2 rfl (lv_at hl 1 rfl) ?_
  refine g_ci0 (G := G) (v := rnd (st.1 + an)) hS (va_runV (As := [.ref h]) (rest := [.ref con]) ⟨hx, hb, hml, hown, hts⟩ (m_placeOf l E G o (con, ld, lc, dA, kA) ((tk, ck, rn, an, sp, ln, lf), (nd, dm), (nc, km)) hR h t st hs) (cwV 1 hts (lw_V q223 q224 q225 q35 q226) rfl rfl rfl (by decide +kernel) ⟨Nat.le_of_ble_eq_true rfl, Nat.le_of_ble_eq_true rfl⟩) (g_preV hE hI (g_recv hE hI hcon rfl)) rfl rfl hl.1 rfl (lv_room (Nat.le_of_ble_eq_true rfl)) dX2_isSeen_3 ⟨Nat.le_of_ble_eq_true rfl, Nat.le_of_ble_eq_true rfl⟩) (fun H locs hI hS => ?_)
  refine lv_aload_n hx hb dX2_isSeen_6 rfl (lv_at hl 1 rfl) ?_
  refine g_ci0 (G := G) (v := st.2) hS (va_runV (As := []) (rest := [.int (rnd (st.1 + an)), .ref con]) ⟨hx, hb, hml, hown, hts⟩ (m_light l E G h t st.1 st.2 hs) (cwV 0 hts (lw_V q234 q235 q236 q53 q237) rfl rfl rfl (by decide +kernel) ⟨Nat.le_of_ble_eq_true rfl, Nat.le_of_ble_eq_true rfl⟩) (g_preV hE hI (g_recv hE hI hs rfl)) rfl rfl hl.1 rfl (lv_room (Nat.le_of_ble_eq_true rfl)) dX2_isSeen_7 ⟨Nat.le_of_ble_eq_true rfl, Nat.le_of_ble_eq_true rfl⟩) (fun H locs hI hS => ?_)
  refine g_ci0 (G := G) (v := seenV dm nd (rnd (st.1 + an)) st.2) hS (va_runV (As := [.int (rnd (st.1 + an)), .int st.2]) (rest := []) ⟨hx, hb, hml, hown, hts⟩ (m_isSeen l E G o (con, ld, lc, dA, kA) ((tk, ck, rn, an, sp, ln, lf), (nd, dm), (nc, km)) hR (rnd (st.1 + an)) st.2) (cwV 2 hts (lw_V q238 q239 q240 q35 q241) rfl rfl rfl (by decide +kernel) ⟨Nat.le_of_ble_eq_true rfl, Nat.le_of_ble_eq_true rfl⟩) (g_preV hE hI (g_recv hE hI hcon rfl)) rfl rfl hl.1 rfl (lv_room (Nat.le_of_ble_eq_true rfl)) dX2_isSeen_10 ⟨Nat.le_of_ble_eq_true rfl, Nat.le_of_ble_eq_true rfl⟩) (fun H locs hI hS => ?_)
  have hz : ∀ a b, narrow .boolean (.int (seenV dm nd a b)) = .int (seenV dm nd a b) := fun a b => by unfold seenV; split <;> rfl
  exact g_zret hx hb hr hlk hI hS dX2_isSeen_13 (Nat.le_of_ble_eq_true rfl) (Nat.le_of_ble_eq_true rfl) (hz _ _) (⟨rfl, rfl⟩)
set_option maxHeartbeats 4000000 in
set_option maxRecDepth 100000 in
theorem m_isSeenK (l : Launch) (E : EnvT) (G : Gh) (o : Nat) (A : CA) (w : Cn) (hR : CRep E G o A w) (h : Nat) (t : Tg) (kt : Km) (hs : G h = some (t, kOt kt)) : Met l yX2_isSeen_3 (ws_ yX2_isSeen_3 cX2_isSeen_3 2 (some .boolean)) ({ frames := 5, cells := 0, slots := 0, locals := 109 } : Room) (cP E G [.ref A.1, .ref h]) (cI E (fun r G' => r = comeV w.2.1.2 w.2.1.1 kt ∧ G' = G)) 0 0 (eA E) := by
  obtain ⟨con, ld, lc, dA, kA⟩ := A
  obtain ⟨⟨tk, ck, rn, an, sp, ln, lf⟩, ⟨nd, dm⟩, ⟨nc, km⟩⟩ := w
  refine g_met (rm := ({ frames := 5, cells := 0, slots := 0, locals := 109 } : Room)) (av := [.ref con, .ref h]) (lv := [(0, .ref con), (1, .ref h)]) (by decide) (Nat.le_of_ble_eq_true rfl) rfl ?_
  intro p e s m below meth c ls hx hb hr hlk hml hin hts hown hE hI hL hS hl
  have hR0 := hR
  obtain ⟨hcon, ⟨ed, hld⟩, ⟨ec, hlc⟩, hd, hk⟩ := hR0
  have hcon : G con = some ((o, 0, 0), coO tk ck rn an sp ln lf ld lc) := hcon
  have hld : LRep E G (o, 1, 0) (o, 2, 0) ld ed nd dA := hld
  have hlc : LRep E G (o, 3, 0) (o, 4, 0) lc ec nc kA := hlc
  have hd : ∀ k, k < nd → G (dA k) = some ((o, 5, k), dOt (dm k)) := hd
  have hk : ∀ k, k < nc → G (kA k) = some ((o, 6, k), kOt (km k)) := hk
  have hn1 : nd ≤ 36 := hld.n36
  have hn2 : nc ≤ 36 := hlc.n36
  refine lv_aload_n hx hb dX2_isSeen_3_0 rfl (lv_at hl 1 rfl) ?_
  refine g_ci0 (G := G) (v := goneV kt.2.2) hS (va_runV (As := []) (rest := []) ⟨hx, hb, hml, hown, hts⟩ (m_isGone l E G h t kt.1 kt.2.1 kt.2.2 hs) (cwV 0 hts (lw_V q251 q252 q253 q57 q254) rfl rfl rfl (by decide +kernel) ⟨Nat.le_of_ble_eq_true rfl, Nat.le_of_ble_eq_true rfl⟩) (g_preV hE hI (g_recv hE hI hs rfl)) rfl rfl hl.1 rfl (lv_room (Nat.le_of_ble_eq_true rfl)) dX2_isSeen_3_1 ⟨Nat.le_of_ble_eq_true rfl, Nat.le_of_ble_eq_true rfl⟩) (fun H locs hI hS => ?_)
  refine lv_if_ne (tgt := 24) hx hb dX2_isSeen_3_4 (by decide) (fun c1 => ?_) (fun c1 => ?_)
  · refine lv_iconst (v := 0) hx hb dX2_isSeen_3_24 (by decide) ?_
    exact g_zret hx hb hr hlk hI hS dX2_isSeen_3_25 (Nat.le_of_ble_eq_true rfl) (Nat.le_of_ble_eq_true rfl) rfl (⟨(if_neg c1).symm, rfl⟩)
  · refine lv_aload_n hx hb dX2_isSeen_3_7 rfl (lv_at hl 0 rfl) ?_
    refine lv_aload_n hx hb dX2_isSeen_3_8 rfl (lv_at hl 1 rfl) ?_
    refine g_getN (C := RX8) (T := TX8) (N := 3) (v := .int kt.2.1) hx hb hts in_X8 hown hE hI hs rfl 1 (by decide) q717 (fun _ h9 => h9) rfl dX2_isSeen_3_9 ?_
    refine lv_bipush (v := 6) hx hb dX2_isSeen_3_12 (by decide) ?_
    refine g_ci0 (G := G) (v := seenV dm nd kt.2.1 6) hS (va_runV (As := [.int kt.2.1, .int 6]) (rest := []) ⟨hx, hb, hml, hown, hts⟩ (m_isSeen l E G o (con, ld, lc, dA, kA) ((tk, ck, rn, an, sp, ln, lf), (nd, dm), (nc, km)) hR kt.2.1 6) (cwV 2 hts (lw_V q238 q239 q240 q35 q241) rfl rfl rfl (by decide +kernel) ⟨Nat.le_of_ble_eq_true rfl, Nat.le_of_ble_eq_true rfl⟩) (g_preV hE hI (g_recv hE hI hcon rfl)) rfl rfl hl.1 rfl (lv_room (Nat.le_of_ble_eq_true rfl)) dX2_isSeen_3_14 ⟨Nat.le_of_ble_eq_true rfl, Nat.le_of_ble_eq_true rfl⟩) (fun H locs hI hS => ?_)
    refine lv_if_eq (tgt := 24) hx hb dX2_isSeen_3_17 (by decide) (fun c2 => ?_) (fun c2 => ?_)
    · refine lv_iconst (v := 0) hx hb dX2_isSeen_3_24 (by decide) ?_
      exact g_zret hx hb hr hlk hI hS dX2_isSeen_3_25 (Nat.le_of_ble_eq_true rfl) (Nat.le_of_ble_eq_true rfl) rfl (⟨((if_pos c1).trans (if_pos c2)).symm, rfl⟩)
    · refine lv_iconst (v := 1) hx hb dX2_isSeen_3_20 (by decide) ?_
      refine lv_goto (tgt := 25) hx hb dX2_isSeen_3_21 (by decide) ?_
      exact g_zret hx hb hr hlk hI hS dX2_isSeen_3_25 (Nat.le_of_ble_eq_true rfl) (Nat.le_of_ble_eq_true rfl) rfl (⟨((if_pos c1).trans (if_neg c2)).symm, rfl⟩)
/-- whether a kind of cue takes two numbers -/
def takesV (nd : Nat) (k : Nat) (a b : Int32) : Int32 := match k with
  | 0 => if isInV a 0 (nI nd - 1) = 0 then 0 else if isInV b 0 100 = 0 then 0 else 1
  | 1 => if a = 0 then (if isInV b (-30) 30 = 0 then 0 else 1) else 0
  | 2 => if isInV a 0 359 = 0 then 0 else if isInV b (-20) 20 = 0 then 0 else 1
  | 3 => if isInV a 0 99 = 0 then 0 else if isInV b 1 60 = 0 then 0 else 1
  | _ => if a = 0 then (if b = 0 then 1 else 0) else 0
set_option maxHeartbeats 4000000 in
set_option maxRecDepth 100000 in
theorem m_takes0 (l : Launch) (E : EnvT) (G : Gh) (o : Nat) (A : CA) (w : Cn) (hR : CRep E G o A w) (h0 : Nat) (a b : Int32) : MetU l yX12_takes (ws_ yX12_takes cX12_takes 4 (some .boolean)) ({ frames := 1, cells := 0, slots := 0, locals := 22 } : Room) (cP E G [.ref h0, .ref A.1, .int a, .int b]) (cI E (fun r G' => r = takesV w.2.1.1 0 a b ∧ G' = G)) 0 0 (eA E) := by
  obtain ⟨con, ld, lc, dA, kA⟩ := A
  obtain ⟨⟨tk, ck, rn, an, sp, ln, lf⟩, ⟨nd, dm⟩, ⟨nc, km⟩⟩ := w
  refine g_umet (rm := ({ frames := 1, cells := 0, slots := 0, locals := 22 } : Room)) (av := [.ref h0, .ref con, .int a, .int b]) (lv := [(0, .ref h0), (1, .ref con), (2, .int a), (3, .int b)]) (by decide) (Nat.le_of_ble_eq_true rfl) rfl ?_
  intro p e s m below meth c ls hx hb hr hlk hml hin hts hown hE hI hL hS hl
  have hR0 := hR
  obtain ⟨hcon, ⟨ed, hld⟩, ⟨ec, hlc⟩, hd, hk⟩ := hR0
  have hcon : G con = some ((o, 0, 0), coO tk ck rn an sp ln lf ld lc) := hcon
  have hld : LRep E G (o, 1, 0) (o, 2, 0) ld ed nd dA := hld
  have hlc : LRep E G (o, 3, 0) (o, 4, 0) lc ec nc kA := hlc
  have hd : ∀ k, k < nd → G (dA k) = some ((o, 5, k), dOt (dm k)) := hd
  have hk : ∀ k, k < nc → G (kA k) = some ((o, 6, k), kOt (km k)) := hk
  have hn1 : nd ≤ 36 := hld.n36
  have hn2 : nc ≤ 36 := hlc.n36
  refine lv_iload_n hx hb dX12_takes_0 rfl (lv_at hl 2 rfl) ?_
  refine lv_iconst (v := 0) hx hb dX12_takes_1 (by decide) ?_
  refine lv_aload_n hx hb dX12_takes_2 rfl (lv_at hl 1 rfl) ?_
  refine g_getN (C := RX2) (T := TX2) (N := 9) (v := .ref ld) hx hb hts in_X2 hown hE hI hcon rfl 7 (by decide) q119 (fun _ h9 => h9) rfl dX12_takes_3 ?_
  refine g_ci0 (G := G) (v := nI nd) hS (va_runV (As := []) (rest := [.int 0, .int a]) ⟨hx, hb, hml, hown, hts⟩ (m_size l E G (o, 1, 0) (o, 2, 0) ld ed nd dA hld) (cwV 0 hts (lw_V q616 q162 q163 q34 q164) rfl rfl rfl (by decide +kernel) ⟨Nat.le_of_ble_eq_true rfl, Nat.le_of_ble_eq_true rfl⟩) (g_preV hE hI (hld.recv hE hI)) rfl rfl hl.1 rfl (lv_room (Nat.le_of_ble_eq_true rfl)) dX12_takes_6 ⟨Nat.le_of_ble_eq_true rfl, Nat.le_of_ble_eq_true rfl⟩) (fun H locs hI hS => ?_)
  refine lv_iconst (v := 1) hx hb dX12_takes_9 (by decide) ?_
  refine lv_isub hx hb dX12_takes_10 ?_
  refine g_ci0 (G := G) (v := isInV a 0 (nI nd - 1)) hS (va_runSN (As := [.int a, .int 0, .int (nI nd - 1)]) (rest := []) ⟨hx, hb, hml, hown, hts⟩ (m_isIn l E G a 0 (nI nd - 1)) ⟨va_cnB 3 hts (lw_meth q306) rfl rfl rfl (hE.nw q617 rfl) (hts _ q31) (by decide +kernel) ⟨Nat.le_of_ble_eq_true rfl, Nat.le_of_ble_eq_true rfl⟩, hts _ q305, trivial⟩ (g_preS hE hI) rfl rfl hl.1 rfl (lv_room (Nat.le_of_ble_eq_true rfl)) dX12_takes_11 ⟨Nat.le_of_ble_eq_true rfl, Nat.le_of_ble_eq_true rfl⟩) (fun H locs hI hS => ?_)
  refine lv_if_eq (tgt := 31) hx hb dX12_takes_14 (by decide) (fun c1 => ?_) (fun c1 => ?_)
  · refine lv_iconst (v := 0) hx hb dX12_takes_31 (by decide) ?_
    exact g_zret hx hb hr hlk hI hS dX12_takes_32 (Nat.le_of_ble_eq_true rfl) (Nat.le_of_ble_eq_true rfl) rfl (⟨(if_pos c1).symm, rfl⟩)
  · refine lv_iload_n hx hb dX12_takes_17 rfl (lv_at hl 3 rfl) ?_
    refine lv_iconst (v := 0) hx hb dX12_takes_18 (by decide) ?_
    refine lv_bipush (v := 100) hx hb dX12_takes_19 (by decide) ?_
    refine g_ci0 (G := G) (v := isInV b 0 100) hS (va_runSN (As := [.int b, .int 0, .int 100]) (rest := []) ⟨hx, hb, hml, hown, hts⟩ (m_isIn l E G b 0 100) ⟨va_cnB 3 hts (lw_meth q306) rfl rfl rfl (hE.nw q617 rfl) (hts _ q31) (by decide +kernel) ⟨Nat.le_of_ble_eq_true rfl, Nat.le_of_ble_eq_true rfl⟩, hts _ q305, trivial⟩ (g_preS hE hI) rfl rfl hl.1 rfl (lv_room (Nat.le_of_ble_eq_true rfl)) dX12_takes_21 ⟨Nat.le_of_ble_eq_true rfl, Nat.le_of_ble_eq_true rfl⟩) (fun H locs hI hS => ?_)
    refine lv_if_eq (tgt := 31) hx hb dX12_takes_24 (by decide) (fun c2 => ?_) (fun c2 => ?_)
    · refine lv_iconst (v := 0) hx hb dX12_takes_31 (by decide) ?_
      exact g_zret hx hb hr hlk hI hS dX12_takes_32 (Nat.le_of_ble_eq_true rfl) (Nat.le_of_ble_eq_true rfl) rfl (⟨((if_neg c1).trans (if_pos c2)).symm, rfl⟩)
    · refine lv_iconst (v := 1) hx hb dX12_takes_27 (by decide) ?_
      refine lv_goto (tgt := 32) hx hb dX12_takes_28 (by decide) ?_
      exact g_zret hx hb hr hlk hI hS dX12_takes_32 (Nat.le_of_ble_eq_true rfl) (Nat.le_of_ble_eq_true rfl) rfl (⟨((if_neg c1).trans (if_neg c2)).symm, rfl⟩)
set_option maxHeartbeats 4000000 in
set_option maxRecDepth 100000 in
theorem m_takes1 (l : Launch) (E : EnvT) (G : Gh) (o : Nat) (A : CA) (w : Cn) (hR : CRep E G o A w) (h0 : Nat) (a b : Int32) : MetU l yX10_takes (ws_ yX10_takes cX10_takes 4 (some .boolean)) ({ frames := 1, cells := 0, slots := 0, locals := 22 } : Room) (cP E G [.ref h0, .ref A.1, .int a, .int b]) (cI E (fun r G' => r = takesV w.2.1.1 1 a b ∧ G' = G)) 0 0 (eA E) := by
  obtain ⟨con, ld, lc, dA, kA⟩ := A
  obtain ⟨⟨tk, ck, rn, an, sp, ln, lf⟩, ⟨nd, dm⟩, ⟨nc, km⟩⟩ := w
  refine g_umet (rm := ({ frames := 1, cells := 0, slots := 0, locals := 22 } : Room)) (av := [.ref h0, .ref con, .int a, .int b]) (lv := [(0, .ref h0), (1, .ref con), (2, .int a), (3, .int b)]) (by decide) (Nat.le_of_ble_eq_true rfl) rfl ?_
  intro p e s m below meth c ls hx hb hr hlk hml hin hts hown hE hI hL hS hl
  have hR0 := hR
  obtain ⟨hcon, ⟨ed, hld⟩, ⟨ec, hlc⟩, hd, hk⟩ := hR0
  have hcon : G con = some ((o, 0, 0), coO tk ck rn an sp ln lf ld lc) := hcon
  have hld : LRep E G (o, 1, 0) (o, 2, 0) ld ed nd dA := hld
  have hlc : LRep E G (o, 3, 0) (o, 4, 0) lc ec nc kA := hlc
  have hd : ∀ k, k < nd → G (dA k) = some ((o, 5, k), dOt (dm k)) := hd
  have hk : ∀ k, k < nc → G (kA k) = some ((o, 6, k), kOt (km k)) := hk
  have hn1 : nd ≤ 36 := hld.n36
  have hn2 : nc ≤ 36 := hlc.n36
  refine lv_iload_n hx hb dX10_takes_0 rfl (lv_at hl 2 rfl) ?_
  refine lv_if_ne (tgt := 19) hx hb dX10_takes_1 (by decide) (fun c1 => ?_) (fun c1 => ?_)
  · refine lv_iconst (v := 0) hx hb dX10_takes_19 (by decide) ?_
    exact g_zret hx hb hr hlk hI hS dX10_takes_20 (Nat.le_of_ble_eq_true rfl) (Nat.le_of_ble_eq_true rfl) rfl (⟨(if_neg c1).symm, rfl⟩)
  · refine lv_iload_n hx hb dX10_takes_4 rfl (lv_at hl 3 rfl) ?_
    refine lv_bipush (v := -30) hx hb dX10_takes_5 (by decide) ?_
    refine lv_bipush (v := 30) hx hb dX10_takes_7 (by decide) ?_
    refine g_ci0 (G := G) (v := isInV b (-30) 30) hS (va_runSN (As := [.int b, .int (-30), .int 30]) (rest := []) ⟨hx, hb, hml, hown, hts⟩ (m_isIn l E G b (-30) 30) ⟨va_cnB 3 hts (lw_meth q306) rfl rfl rfl (hE.nw q621 rfl) (hts _ q31) (by decide +kernel) ⟨Nat.le_of_ble_eq_true rfl, Nat.le_of_ble_eq_true rfl⟩, hts _ q305, trivial⟩ (g_preS hE hI) rfl rfl hl.1 rfl (lv_room (Nat.le_of_ble_eq_true rfl)) dX10_takes_9 ⟨Nat.le_of_ble_eq_true rfl, Nat.le_of_ble_eq_true rfl⟩) (fun H locs hI hS => ?_)
    refine lv_if_eq (tgt := 19) hx hb dX10_takes_12 (by decide) (fun c2 => ?_) (fun c2 => ?_)
    · refine lv_iconst (v := 0) hx hb dX10_takes_19 (by decide) ?_
      exact g_zret hx hb hr hlk hI hS dX10_takes_20 (Nat.le_of_ble_eq_true rfl) (Nat.le_of_ble_eq_true rfl) rfl (⟨((if_pos c1).trans (if_pos c2)).symm, rfl⟩)
    · refine lv_iconst (v := 1) hx hb dX10_takes_15 (by decide) ?_
      refine lv_goto (tgt := 20) hx hb dX10_takes_16 (by decide) ?_
      exact g_zret hx hb hr hlk hI hS dX10_takes_20 (Nat.le_of_ble_eq_true rfl) (Nat.le_of_ble_eq_true rfl) rfl (⟨((if_pos c1).trans (if_neg c2)).symm, rfl⟩)
set_option maxHeartbeats 4000000 in
set_option maxRecDepth 100000 in
theorem m_takes2 (l : Launch) (E : EnvT) (G : Gh) (o : Nat) (A : CA) (w : Cn) (hR : CRep E G o A w) (h0 : Nat) (a b : Int32) : MetU l yX13_takes (ws_ yX13_takes cX13_takes 4 (some .boolean)) ({ frames := 1, cells := 0, slots := 0, locals := 22 } : Room) (cP E G [.ref h0, .ref A.1, .int a, .int b]) (cI E (fun r G' => r = takesV w.2.1.1 2 a b ∧ G' = G)) 0 0 (eA E) := by
  obtain ⟨con, ld, lc, dA, kA⟩ := A
  obtain ⟨⟨tk, ck, rn, an, sp, ln, lf⟩, ⟨nd, dm⟩, ⟨nc, km⟩⟩ := w
  refine g_umet (rm := ({ frames := 1, cells := 0, slots := 0, locals := 22 } : Room)) (av := [.ref h0, .ref con, .int a, .int b]) (lv := [(0, .ref h0), (1, .ref con), (2, .int a), (3, .int b)]) (by decide) (Nat.le_of_ble_eq_true rfl) rfl ?_
  intro p e s m below meth c ls hx hb hr hlk hml hin hts hown hE hI hL hS hl
  have hR0 := hR
  obtain ⟨hcon, ⟨ed, hld⟩, ⟨ec, hlc⟩, hd, hk⟩ := hR0
  have hcon : G con = some ((o, 0, 0), coO tk ck rn an sp ln lf ld lc) := hcon
  have hld : LRep E G (o, 1, 0) (o, 2, 0) ld ed nd dA := hld
  have hlc : LRep E G (o, 3, 0) (o, 4, 0) lc ec nc kA := hlc
  have hd : ∀ k, k < nd → G (dA k) = some ((o, 5, k), dOt (dm k)) := hd
  have hk : ∀ k, k < nc → G (kA k) = some ((o, 6, k), kOt (km k)) := hk
  have hn1 : nd ≤ 36 := hld.n36
  have hn2 : nc ≤ 36 := hlc.n36
  refine lv_iload_n hx hb dX13_takes_0 rfl (lv_at hl 2 rfl) ?_
  refine lv_iconst (v := 0) hx hb dX13_takes_1 (by decide) ?_
  refine lv_sipush (v := 359) hx hb dX13_takes_2 (by decide) ?_
  refine g_ci0 (G := G) (v := isInV a 0 359) hS (va_runSN (As := [.int a, .int 0, .int 359]) (rest := []) ⟨hx, hb, hml, hown, hts⟩ (m_isIn l E G a 0 359) ⟨va_cnB 3 hts (lw_meth q306) rfl rfl rfl (hE.nw q625 rfl) (hts _ q31) (by decide +kernel) ⟨Nat.le_of_ble_eq_true rfl, Nat.le_of_ble_eq_true rfl⟩, hts _ q305, trivial⟩ (g_preS hE hI) rfl rfl hl.1 rfl (lv_room (Nat.le_of_ble_eq_true rfl)) dX13_takes_5 ⟨Nat.le_of_ble_eq_true rfl, Nat.le_of_ble_eq_true rfl⟩) (fun H locs hI hS => ?_)
  refine lv_if_eq (tgt := 26) hx hb dX13_takes_8 (by decide) (fun c1 => ?_) (fun c1 => ?_)
  · refine lv_iconst (v := 0) hx hb dX13_takes_26 (by decide) ?_
    exact g_zret hx hb hr hlk hI hS dX13_takes_27 (Nat.le_of_ble_eq_true rfl) (Nat.le_of_ble_eq_true rfl) rfl (⟨(if_pos c1).symm, rfl⟩)
  · refine lv_iload_n hx hb dX13_takes_11 rfl (lv_at hl 3 rfl) ?_
    refine lv_bipush (v := -20) hx hb dX13_takes_12 (by decide) ?_
    refine lv_bipush (v := 20) hx hb dX13_takes_14 (by decide) ?_
    refine g_ci0 (G := G) (v := isInV b (-20) 20) hS (va_runSN (As := [.int b, .int (-20), .int 20]) (rest := []) ⟨hx, hb, hml, hown, hts⟩ (m_isIn l E G b (-20) 20) ⟨va_cnB 3 hts (lw_meth q306) rfl rfl rfl (hE.nw q625 rfl) (hts _ q31) (by decide +kernel) ⟨Nat.le_of_ble_eq_true rfl, Nat.le_of_ble_eq_true rfl⟩, hts _ q305, trivial⟩ (g_preS hE hI) rfl rfl hl.1 rfl (lv_room (Nat.le_of_ble_eq_true rfl)) dX13_takes_16 ⟨Nat.le_of_ble_eq_true rfl, Nat.le_of_ble_eq_true rfl⟩) (fun H locs hI hS => ?_)
    refine lv_if_eq (tgt := 26) hx hb dX13_takes_19 (by decide) (fun c2 => ?_) (fun c2 => ?_)
    · refine lv_iconst (v := 0) hx hb dX13_takes_26 (by decide) ?_
      exact g_zret hx hb hr hlk hI hS dX13_takes_27 (Nat.le_of_ble_eq_true rfl) (Nat.le_of_ble_eq_true rfl) rfl (⟨((if_neg c1).trans (if_pos c2)).symm, rfl⟩)
    · refine lv_iconst (v := 1) hx hb dX13_takes_22 (by decide) ?_
      refine lv_goto (tgt := 27) hx hb dX13_takes_23 (by decide) ?_
      exact g_zret hx hb hr hlk hI hS dX13_takes_27 (Nat.le_of_ble_eq_true rfl) (Nat.le_of_ble_eq_true rfl) rfl (⟨((if_neg c1).trans (if_neg c2)).symm, rfl⟩)
set_option maxHeartbeats 4000000 in
set_option maxRecDepth 100000 in
theorem m_takes3 (l : Launch) (E : EnvT) (G : Gh) (o : Nat) (A : CA) (w : Cn) (hR : CRep E G o A w) (h0 : Nat) (a b : Int32) : MetU l yX11_takes (ws_ yX11_takes cX11_takes 4 (some .boolean)) ({ frames := 1, cells := 0, slots := 0, locals := 22 } : Room) (cP E G [.ref h0, .ref A.1, .int a, .int b]) (cI E (fun r G' => r = takesV w.2.1.1 3 a b ∧ G' = G)) 0 0 (eA E) := by
  obtain ⟨con, ld, lc, dA, kA⟩ := A
  obtain ⟨⟨tk, ck, rn, an, sp, ln, lf⟩, ⟨nd, dm⟩, ⟨nc, km⟩⟩ := w
  refine g_umet (rm := ({ frames := 1, cells := 0, slots := 0, locals := 22 } : Room)) (av := [.ref h0, .ref con, .int a, .int b]) (lv := [(0, .ref h0), (1, .ref con), (2, .int a), (3, .int b)]) (by decide) (Nat.le_of_ble_eq_true rfl) rfl ?_
  intro p e s m below meth c ls hx hb hr hlk hml hin hts hown hE hI hL hS hl
  have hR0 := hR
  obtain ⟨hcon, ⟨ed, hld⟩, ⟨ec, hlc⟩, hd, hk⟩ := hR0
  have hcon : G con = some ((o, 0, 0), coO tk ck rn an sp ln lf ld lc) := hcon
  have hld : LRep E G (o, 1, 0) (o, 2, 0) ld ed nd dA := hld
  have hlc : LRep E G (o, 3, 0) (o, 4, 0) lc ec nc kA := hlc
  have hd : ∀ k, k < nd → G (dA k) = some ((o, 5, k), dOt (dm k)) := hd
  have hk : ∀ k, k < nc → G (kA k) = some ((o, 6, k), kOt (km k)) := hk
  have hn1 : nd ≤ 36 := hld.n36
  have hn2 : nc ≤ 36 := hlc.n36
  refine lv_iload_n hx hb dX11_takes_0 rfl (lv_at hl 2 rfl) ?_
  refine lv_iconst (v := 0) hx hb dX11_takes_1 (by decide) ?_
  refine lv_bipush (v := 99) hx hb dX11_takes_2 (by decide) ?_
  refine g_ci0 (G := G) (v := isInV a 0 99) hS (va_runSN (As := [.int a, .int 0, .int 99]) (rest := []) ⟨hx, hb, hml, hown, hts⟩ (m_isIn l E G a 0 99) ⟨va_cnB 3 hts (lw_meth q306) rfl rfl rfl (hE.nw q629 rfl) (hts _ q31) (by decide +kernel) ⟨Nat.le_of_ble_eq_true rfl, Nat.le_of_ble_eq_true rfl⟩, hts _ q305, trivial⟩ (g_preS hE hI) rfl rfl hl.1 rfl (lv_room (Nat.le_of_ble_eq_true rfl)) dX11_takes_4 ⟨Nat.le_of_ble_eq_true rfl, Nat.le_of_ble_eq_true rfl⟩) (fun H locs hI hS => ?_)
  refine lv_if_eq (tgt := 24) hx hb dX11_takes_7 (by decide) (fun c1 => ?_) (fun c1 => ?_)
  · refine lv_iconst (v := 0) hx hb dX11_takes_24 (by decide) ?_
    exact g_zret hx hb hr hlk hI hS dX11_takes_25 (Nat.le_of_ble_eq_true rfl) (Nat.le_of_ble_eq_true rfl) rfl (⟨(if_pos c1).symm, rfl⟩)
  · refine lv_iload_n hx hb dX11_takes_10 rfl (lv_at hl 3 rfl) ?_
    refine lv_iconst (v := 1) hx hb dX11_takes_11 (by decide) ?_
    refine lv_bipush (v := 60) hx hb dX11_takes_12 (by decide) ?_
    refine g_ci0 (G := G) (v := isInV b 1 60) hS (va_runSN (As := [.int b, .int 1, .int 60]) (rest := []) ⟨hx, hb, hml, hown, hts⟩ (m_isIn l E G b 1 60) ⟨va_cnB 3 hts (lw_meth q306) rfl rfl rfl (hE.nw q629 rfl) (hts _ q31) (by decide +kernel) ⟨Nat.le_of_ble_eq_true rfl, Nat.le_of_ble_eq_true rfl⟩, hts _ q305, trivial⟩ (g_preS hE hI) rfl rfl hl.1 rfl (lv_room (Nat.le_of_ble_eq_true rfl)) dX11_takes_14 ⟨Nat.le_of_ble_eq_true rfl, Nat.le_of_ble_eq_true rfl⟩) (fun H locs hI hS => ?_)
    refine lv_if_eq (tgt := 24) hx hb dX11_takes_17 (by decide) (fun c2 => ?_) (fun c2 => ?_)
    · refine lv_iconst (v := 0) hx hb dX11_takes_24 (by decide) ?_
      exact g_zret hx hb hr hlk hI hS dX11_takes_25 (Nat.le_of_ble_eq_true rfl) (Nat.le_of_ble_eq_true rfl) rfl (⟨((if_neg c1).trans (if_pos c2)).symm, rfl⟩)
    · refine lv_iconst (v := 1) hx hb dX11_takes_20 (by decide) ?_
      refine lv_goto (tgt := 25) hx hb dX11_takes_21 (by decide) ?_
      exact g_zret hx hb hr hlk hI hS dX11_takes_25 (Nat.le_of_ble_eq_true rfl) (Nat.le_of_ble_eq_true rfl) rfl (⟨((if_neg c1).trans (if_neg c2)).symm, rfl⟩)
set_option maxHeartbeats 4000000 in
set_option maxRecDepth 100000 in
theorem m_takes4 (l : Launch) (E : EnvT) (G : Gh) (o : Nat) (A : CA) (w : Cn) (hR : CRep E G o A w) (h0 : Nat) (a b : Int32) : MetU l yX9_takes (ws_ yX9_takes cX9_takes 4 (some .boolean)) ({ frames := 0, cells := 0, slots := 0, locals := 0 } : Room) (cP E G [.ref h0, .ref A.1, .int a, .int b]) (cI E (fun r G' => r = takesV w.2.1.1 4 a b ∧ G' = G)) 0 0 (eA E) := by
  obtain ⟨con, ld, lc, dA, kA⟩ := A
  obtain ⟨⟨tk, ck, rn, an, sp, ln, lf⟩, ⟨nd, dm⟩, ⟨nc, km⟩⟩ := w
  refine g_umet (rm := ({ frames := 0, cells := 0, slots := 0, locals := 0 } : Room)) (av := [.ref h0, .ref con, .int a, .int b]) (lv := [(0, .ref h0), (1, .ref con), (2, .int a), (3, .int b)]) (by decide) (Nat.le_of_ble_eq_true rfl) rfl ?_
  intro p e s m below meth c ls hx hb hr hlk hml hin hts hown hE hI hL hS hl
  have hR0 := hR
  obtain ⟨hcon, ⟨ed, hld⟩, ⟨ec, hlc⟩, hd, hk⟩ := hR0
  have hcon : G con = some ((o, 0, 0), coO tk ck rn an sp ln lf ld lc) := hcon
  have hld : LRep E G (o, 1, 0) (o, 2, 0) ld ed nd dA := hld
  have hlc : LRep E G (o, 3, 0) (o, 4, 0) lc ec nc kA := hlc
  have hd : ∀ k, k < nd → G (dA k) = some ((o, 5, k), dOt (dm k)) := hd
  have hk : ∀ k, k < nc → G (kA k) = some ((o, 6, k), kOt (km k)) := hk
  have hn1 : nd ≤ 36 := hld.n36
  have hn2 : nc ≤ 36 := hlc.n36
  refine lv_iload_n hx hb dX9_takes_0 rfl (lv_at hl 2 rfl) ?_
  refine lv_if_ne (tgt := 12) hx hb dX9_takes_1 (by decide) (fun c1 => ?_) (fun c1 => ?_)
  · refine lv_iconst (v := 0) hx hb dX9_takes_12 (by decide) ?_
    exact g_zret hx hb hr hlk hI hS dX9_takes_13 (Nat.le_of_ble_eq_true rfl) (Nat.le_of_ble_eq_true rfl) rfl (⟨(if_neg c1).symm, rfl⟩)
  · refine lv_iload_n hx hb dX9_takes_4 rfl (lv_at hl 3 rfl) ?_
    refine lv_if_ne (tgt := 12) hx hb dX9_takes_5 (by decide) (fun c2 => ?_) (fun c2 => ?_)
    · refine lv_iconst (v := 0) hx hb dX9_takes_12 (by decide) ?_
      exact g_zret hx hb hr hlk hI hS dX9_takes_13 (Nat.le_of_ble_eq_true rfl) (Nat.le_of_ble_eq_true rfl) rfl (⟨((if_pos c1).trans (if_neg c2)).symm, rfl⟩)
    · refine lv_iconst (v := 1) hx hb dX9_takes_8 (by decide) ?_
      refine lv_goto (tgt := 13) hx hb dX9_takes_9 (by decide) ?_
      exact g_zret hx hb hr hlk hI hS dX9_takes_13 (Nat.le_of_ble_eq_true rfl) (Nat.le_of_ble_eq_true rfl) rfl (⟨((if_pos c1).trans (if_pos c2)).symm, rfl⟩)
