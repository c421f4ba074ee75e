/-! CONTRACTS of StarConsole: isHeldBefore, when, mean, digest. Printed by gen/p33.py -/
set_option maxRecDepth 100000
set_option maxHeartbeats 4000000 in
set_option maxRecDepth 100000 in
theorem m_ordinal (l : Launch) (E : EnvT) (G : Gh) (k : Nat) (hk : k < 5) : MetU l yJ17_ordinal (ws_ yJ17_ordinal cJ17_ordinal 1 (some .int)) ({ frames := 0, cells := 0, slots := 0, locals := 0 } : Room) (cP E G [.ref (eK E k)]) (cI E (fun r G' => r = nI k ∧ G' = G)) 0 0 (eA E) := by
  refine g_umet (rm := ({ frames := 0, cells := 0, slots := 0, locals := 0 } : Room)) (av := [.ref (eK E k)]) (lv := [(0, .ref (eK E k))]) (by decide) (Nat.le_of_ble_eq_true rfl) rfl ?_
  intro p e s m below meth c ls hx hb hr hlk hml hin hts hown hE hI hL hS hl
  refine lv_aload_n hx hb dJ17_ordinal_0 rfl (lv_at hl 0 rfl) ?_
  refine vk_getf hx hb ((hE.St.2.2.1 k hk).2.kept hL.kept) hS hown (hts _ q1080) (fun _ h9 => h9) dJ17_ordinal_1 ?_
  exact g_iret hx hb hr hlk hI hS dJ17_ordinal_4 (Nat.le_of_ble_eq_true rfl) (Nat.le_of_ble_eq_true rfl) (⟨rfl, rfl⟩)
theorem ord_sel : ∀ k, k < 5 → Cond.selects (kN k) ⟨"StarConsole$Kind", "ordinal", "()I"⟩ yJ17_ordinal ∈ lw_all := fun k hk => by
  rcases (show k = 0 ∨ k = 1 ∨ k = 2 ∨ k = 3 ∨ k = 4 by omega) with rfl | rfl | rfl | rfl | rfl
  · exact q277
  · exact q278
  · exact q279
  · exact q280
  · exact q281
set_option maxHeartbeats 4000000 in
set_option maxRecDepth 100000 in
theorem m_isHeld (l : Launch) (E : EnvT) (G : Gh) (x : Nat) (B : XA) (σ : Sy) (hXR : XRep E G x B σ) (hk5 : ∀ i, i < σ.2.1.1 → (σ.2.1.2 i).2.1 < 5) (tm : Int32) : Met l yX1_isHeldBefore (ws_ yX1_isHeldBefore cX1_isHeldBefore 4 (some .boolean)) ({ frames := 3, cells := 0, slots := 0, locals := 64 } : Room) (cP E G [.ref x, .int tm]) (cI E (fun r G' => r = hbS σ.1.1.2.2.1 σ.2.1.2 σ.1.1.2.1 tm σ.2.1.1 ∧ G' = G)) 0 0 (eA E) := by
  obtain ⟨⟨con, ld, lc, dA, kA⟩, ⟨lu, uA⟩, ⟨lt, sA⟩⟩ := B
  obtain ⟨⟨⟨tk, ck, rn, an, sp, ln, lf⟩, ⟨nd, dm⟩, ⟨nc, km⟩⟩, ⟨nu, uq⟩, ⟨ns, st⟩⟩ := σ
  refine g_met (rm := ({ frames := 3, cells := 0, slots := 0, locals := 64 } : Room)) (av := [.ref x, .int tm]) (lv := [(0, .ref x), (1, .int tm)]) (by decide) (Nat.le_of_ble_eq_true rfl) rfl ?_
  intro p e s m below meth c ls hx hb hr hlk hml hin hts hown hE hI hL hS hl
  have hXR0 := hXR
  obtain ⟨hX0, hR, ⟨eu, hU⟩, ⟨et, hlt0⟩, hst0⟩ := hXR0
  have hX0 : G x = some ((3, 0, 0), xO lu lt con) := hX0
  have hR : CRep E G 1 (con, ld, lc, dA, kA) ((tk, ck, rn, an, sp, ln, lf), (nd, dm), (nc, km)) := hR
  have hU : URep E G 3 lu eu nu uA uq := hU
  have hlt0 : LRep E G (3, 3, 0) (3, 4, 0) lt et ns sA := hlt0
  have hst0 : ∀ k, k < ns → G (sA k) = some ((3, 6, k), sOt (st k)) := hst0
  have hR0 := hR
  obtain ⟨hcon, ⟨ed, hld⟩, ⟨ec, hlc⟩, hd, hk⟩ := hR0
  have hcon : G con = some ((1, 0, 0), coO tk ck rn an sp ln lf ld lc) := hcon
  have hld : LRep E G (1, 1, 0) (1, 2, 0) ld ed nd dA := hld
  have hlc : LRep E G (1, 3, 0) (1, 4, 0) lc ec nc kA := hlc
  have hd : ∀ k, k < nd → G (dA k) = some ((1, 5, k), dOt (dm k)) := hd
  have hk : ∀ k, k < nc → G (kA k) = some ((1, 6, k), kOt (km k)) := hk
  have hn1 : nd ≤ 36 := hld.n36
  have hn2 : nc ≤ 36 := hlc.n36
  have hn3 : nu ≤ 36 := hU.1.n36
  have hn4 : ns ≤ 36 := hlt0.n36
  have hk5 : ∀ i, i < nu → (uq i).2.1 < 5 := hk5
  refine lv_aload_n hx hb dX1_isHeldBefore_0 rfl (lv_at hl 0 rfl) ?_
  refine g_get (C := RX1) (T := TX1) (N := 3) (v := .ref con) hx hb hts in_X1 hown hE hI hX0 rfl 2 (by decide) q145 (fun _ h9 => h9) rfl dX1_isHeldBefore_1 ?_
  refine g_getN (C := RX2) (T := TX2) (N := 9) (v := .int rn) hx hb hts in_X2 hown hE hI hcon rfl 2 (by decide) q106 (fun _ h9 => h9) rfl dX1_isHeldBefore_4 ?_
  refine lv_if_ne (tgt := 14) hx hb dX1_isHeldBefore_7 (by decide) (fun c0 => ?_) (fun c0 => ?_)
  · refine lv_iconst (v := 0) hx hb dX1_isHeldBefore_14 (by decide) ?_
    refine lv_istore_n (lv' := [(2, .int 0), (0, .ref x), (1, .int tm)]) hx hb dX1_isHeldBefore_15 rfl hl (by decide) rfl (fun ls hl => ?_)
    refine lv_iconst (v := 0) hx hb dX1_isHeldBefore_16 (by decide) ?_
    refine lv_istore_n (lv' := [(3, .int 0), (2, .int 0), (0, .ref x), (1, .int tm)]) hx hb dX1_isHeldBefore_17 rfl hl (by decide) rfl (fun ls hl => ?_)
    refine g_loop2 (A1 := Nat) (A2 := Int32) (fun i z H locs ls => i ≤ nu ∧ z = hbS rn uq ck tm i ∧ Inv E G H ∧ va_S (eA E) s.heap H locs ∧ lv_has ls 4 [(0, .ref x), (1, .int tm), (2, .int z), (3, .int (nI i))]) (fun i z => 0) (fun i z => 0) (fun i z => nu - i) ?_ 0 0 _ _ _ ⟨Nat.zero_le _, (if_neg c0).symm, hI, hS, lv_sub hl [2, 3, 1, 0] rfl⟩
    intro i z ih1 H locs ls hst
    obtain ⟨hi, hz, hI, hS, hl⟩ := hst
    refine lv_iload_n hx hb dX1_isHeldBefore_18 rfl (lv_at hl 3 rfl) ?_
    refine lv_aload_n hx hb dX1_isHeldBefore_19 rfl (lv_at hl 0 rfl) ?_
    refine g_get (C := RX1) (T := TX1) (N := 3) (v := .ref lu) hx hb hts in_X1 hown hE hI hX0 rfl 0 (by decide) q143 (fun _ h9 => h9) rfl dX1_isHeldBefore_20 ?_
    refine g_ci0 (G := G) (v := nI nu) hS (va_runV (As := []) (rest := [.int (nI i)]) ⟨hx, hb, hml, hown, hts⟩ (m_size l E G (3, 1, 0) (3, 2, 0) lu eu nu uA hU.1) (cwV 0 hts (lw_V q161 q162 q163 q34 q164) rfl rfl rfl (by decide +kernel) ⟨Nat.le_of_ble_eq_true rfl, Nat.le_of_ble_eq_true rfl⟩) (g_preV hE hI (hU.1.recv hE hI)) rfl rfl hl.1 rfl (lv_room (Nat.le_of_ble_eq_true rfl)) dX1_isHeldBefore_23 ⟨Nat.le_of_ble_eq_true rfl, Nat.le_of_ble_eq_true rfl⟩) (fun H locs hI hS => ?_)
    refine lv_icmp_ge (tgt := 93) hx hb dX1_isHeldBefore_26 (by decide) (fun c1 => ?_) (fun c1 => ?_)
    · have ei : i = nu := (Nat.lt_or_ge i nu).elim (fun z => absurd c1 (nI_ge z (by omega))) (fun z => by omega)
      subst hz
      refine lv_iload_n hx hb dX1_isHeldBefore_93 rfl (lv_at hl 2 rfl) ?_
      exact g_zret hx hb hr hlk hI hS dX1_isHeldBefore_94 (Nat.le_of_ble_eq_true rfl) (Nat.le_of_ble_eq_true rfl) (by rcases hbS_01 rn uq ck tm i with h | h <;> rw [h] <;> rfl) (⟨by rw [ei], rfl⟩)
    · have hlt : i < nu := (Nat.lt_or_ge i nu).elim id (fun z => absurd (nI_le z (by omega)) c1)
      refine lv_iload_n hx hb dX1_isHeldBefore_29 rfl (lv_at hl 2 rfl) ?_
      refine lv_aload_n hx hb dX1_isHeldBefore_30 rfl (lv_at hl 0 rfl) ?_
      refine g_get (C := RX1) (T := TX1) (N := 3) (v := .ref lu) hx hb hts in_X1 hown hE hI hX0 rfl 0 (by decide) q143 (fun _ h9 => h9) rfl dX1_isHeldBefore_31 ?_
      refine lv_iload_n hx hb dX1_isHeldBefore_34 rfl (lv_at hl 3 rfl) ?_
      refine g_cr0 (G := G) (v := uA i) hS (va_runV (As := [.int (nI i)]) (rest := [.int z]) ⟨hx, hb, hml, hown, hts⟩ (m_get l E G (3, 1, 0) (3, 2, 0) lu eu nu uA hU.1 i hlt) (cwV 1 hts (lw_V q165 q166 q167 q34 q168) rfl rfl rfl (by decide +kernel) ⟨Nat.le_of_ble_eq_true rfl, Nat.le_of_ble_eq_true rfl⟩) (g_preV hE hI (hU.1.recv hE hI)) rfl rfl hl.1 rfl (lv_room (Nat.le_of_ble_eq_true rfl)) dX1_isHeldBefore_35 ⟨Nat.le_of_ble_eq_true rfl, Nat.le_of_ble_eq_true rfl⟩) (fun H locs hI hS => ?_)
      refine g_cast hx hb hts hown q179 hE hI (hU.2 i hlt) rfl rfl dX1_isHeldBefore_38 ?_
      refine g_cr0 (G := G) (v := eK E (uq i).2.1) hS (va_runV (As := []) (rest := [.int z]) ⟨hx, hb, hml, hown, hts⟩ (m_Ukind l E G (uA i) (3, 5, i) (uq i).1 (eK E (uq i).2.1) (uq i).2.2.1 (uq i).2.2.2 (hU.2 i hlt)) (cwV 0 hts (lw_V q270 q271 q272 q56 q273) rfl rfl rfl (by decide +kernel) ⟨Nat.le_of_ble_eq_true rfl, Nat.le_of_ble_eq_true rfl⟩) (g_preV hE hI (g_recv hE hI (hU.2 i hlt) rfl)) rfl rfl hl.1 rfl (lv_room (Nat.le_of_ble_eq_true rfl)) dX1_isHeldBefore_41 ⟨Nat.le_of_ble_eq_true rfl, Nat.le_of_ble_eq_true rfl⟩) (fun H locs hI hS => ?_)
      refine g_gets (C := "StarConsole$Kind") hx hb hts hE.St.2.2.2.1 hL hS hown q799 (fun _ h9 => h9) dX1_isHeldBefore_44 ?_
      refine lv_acmp_ne (rx := some (eK E (uq i).2.1)) (ry := some (eK E 4)) (tgt := 84) hx hb dX1_isHeldBefore_47 (by decide) (fun c2 => ?_) (fun c2 => ?_)
      · have hn4 : ¬ (uq i).2.1 = 4 := fun z => c2 (by rw [z])
        refine lv_iconst (v := 0) hx hb dX1_isHeldBefore_84 (by decide) ?_
        refine lv_ior hx hb dX1_isHeldBefore_85 ?_
        refine lv_istore_n (lv' := [(2, .int (z ||| 0)), (0, .ref x), (1, .int tm), (3, .int (nI i))]) hx hb dX1_isHeldBefore_86 rfl hl (by decide) rfl (fun ls hl => ?_)
        refine lv_iinc (v := nI (i + 1)) (lv' := [(3, .int (nI (i + 1))), (2, .int (z ||| 0)), (0, .ref x), (1, .int tm)]) hx hb dX1_isHeldBefore_87 hl (k := 3) rfl (nI_1 (i)) (by decide) rfl (fun ls hl => ?_)
        refine lv_goto (tgt := 18) hx hb dX1_isHeldBefore_90 (by decide) ?_
        exact ih1 (i + 1) (z ||| 0) _ _ _ (by omega) ⟨hlt, by rw [hz, hbS, if_neg hn4], hI, hS, lv_sub hl [2, 3, 1, 0] rfl⟩
      · have hn4 : (uq i).2.1 = 4 := hE.inj _ _ (hk5 i hlt) (by decide) (Option.some.inj c2)
        refine lv_aload_n hx hb dX1_isHeldBefore_50 rfl (lv_at hl 0 rfl) ?_
        refine g_get (C := RX1) (T := TX1) (N := 3) (v := .ref lu) hx hb hts in_X1 hown hE hI hX0 rfl 0 (by decide) q143 (fun _ h9 => h9) rfl dX1_isHeldBefore_51 ?_
        refine lv_iload_n hx hb dX1_isHeldBefore_54 rfl (lv_at hl 3 rfl) ?_
        refine g_cr0 (G := G) (v := uA i) hS (va_runV (As := [.int (nI i)]) (rest := [.int z]) ⟨hx, hb, hml, hown, hts⟩ (m_get l E G (3, 1, 0) (3, 2, 0) lu eu nu uA hU.1 i hlt) (cwV 1 hts (lw_V q165 q166 q167 q34 q168) rfl rfl rfl (by decide +kernel) ⟨Nat.le_of_ble_eq_true rfl, Nat.le_of_ble_eq_true rfl⟩) (g_preV hE hI (hU.1.recv hE hI)) rfl rfl hl.1 rfl (lv_room (Nat.le_of_ble_eq_true rfl)) dX1_isHeldBefore_55 ⟨Nat.le_of_ble_eq_true rfl, Nat.le_of_ble_eq_true rfl⟩) (fun H locs hI hS => ?_)
        refine g_cast hx hb hts hown q179 hE hI (hU.2 i hlt) rfl rfl dX1_isHeldBefore_58 ?_
        refine g_ci0 (G := G) (v := (uq i).1) hS (va_runV (As := []) (rest := [.int z]) ⟨hx, hb, hml, hown, hts⟩ (m_Utime l E G (uA i) (3, 5, i) (uq i).1 (eK E (uq i).2.1) (uq i).2.2.1 (uq i).2.2.2 (hU.2 i hlt)) (cwV 0 hts (lw_V q180 q181 q182 q56 q183) rfl rfl rfl (by decide +kernel) ⟨Nat.le_of_ble_eq_true rfl, Nat.le_of_ble_eq_true rfl⟩) (g_preV hE hI (g_recv hE hI (hU.2 i hlt) rfl)) rfl rfl hl.1 rfl (lv_room (Nat.le_of_ble_eq_true rfl)) dX1_isHeldBefore_61 ⟨Nat.le_of_ble_eq_true rfl, Nat.le_of_ble_eq_true rfl⟩) (fun H locs hI hS => ?_)
        refine lv_aload_n hx hb dX1_isHeldBefore_64 rfl (lv_at hl 0 rfl) ?_
        refine g_get (C := RX1) (T := TX1) (N := 3) (v := .ref con) hx hb hts in_X1 hown hE hI hX0 rfl 2 (by decide) q145 (fun _ h9 => h9) rfl dX1_isHeldBefore_65 ?_
        refine g_getN (C := RX2) (T := TX2) (N := 9) (v := .int ck) hx hb hts in_X2 hown hE hI hcon rfl 1 (by decide) q103 (fun _ h9 => h9) rfl dX1_isHeldBefore_68 ?_
        refine lv_iload_n hx hb dX1_isHeldBefore_71 rfl (lv_at hl 1 rfl) ?_
        refine lv_iconst (v := 1) hx hb dX1_isHeldBefore_72 (by decide) ?_
        refine lv_isub hx hb dX1_isHeldBefore_73 ?_
        refine g_ci0 (G := G) (v := isInV (uq i).1 ck (tm - 1)) hS (va_runS (As := [.int ((uq i).1), .int ck, .int (tm - 1)]) (rest := [.int z]) ⟨hx, hb, hml, hown, hts⟩ (m_isIn l E G (uq i).1 ck (tm - 1)) (va_cwS 3 hts (lw_S q304 q305 q31 q306) rfl rfl rfl (by decide +kernel) ⟨Nat.le_of_ble_eq_true rfl, Nat.le_of_ble_eq_true rfl⟩) (g_preS hE hI) rfl rfl hl.1 rfl (lv_room (Nat.le_of_ble_eq_true rfl)) dX1_isHeldBefore_74 ⟨Nat.le_of_ble_eq_true rfl, Nat.le_of_ble_eq_true rfl⟩) (fun H locs hI hS => ?_)
        refine lv_if_eq (tgt := 84) hx hb dX1_isHeldBefore_77 (by decide) (fun c3 => ?_) (fun c3 => ?_)
        · refine lv_iconst (v := 0) hx hb dX1_isHeldBefore_84 (by decide) ?_
          refine lv_ior hx hb dX1_isHeldBefore_85 ?_
          refine lv_istore_n (lv' := [(2, .int (z ||| 0)), (0, .ref x), (1, .int tm), (3, .int (nI i))]) hx hb dX1_isHeldBefore_86 rfl hl (by decide) rfl (fun ls hl => ?_)
          refine lv_iinc (v := nI (i + 1)) (lv' := [(3, .int (nI (i + 1))), (2, .int (z ||| 0)), (0, .ref x), (1, .int tm)]) hx hb dX1_isHeldBefore_87 hl (k := 3) rfl (nI_1 (i)) (by decide) rfl (fun ls hl => ?_)
          refine lv_goto (tgt := 18) hx hb dX1_isHeldBefore_90 (by decide) ?_
          exact ih1 (i + 1) (z ||| 0) _ _ _ (by omega) ⟨hlt, by rw [hz, hbS, if_pos hn4, if_pos c3], hI, hS, lv_sub hl [2, 3, 1, 0] rfl⟩
        · refine lv_iconst (v := 1) hx hb dX1_isHeldBefore_80 (by decide) ?_
          refine lv_goto (tgt := 85) hx hb dX1_isHeldBefore_81 (by decide) ?_
          refine lv_ior hx hb dX1_isHeldBefore_85 ?_
          refine lv_istore_n (lv' := [(2, .int (z ||| 1)), (0, .ref x), (1, .int tm), (3, .int (nI i))]) hx hb dX1_isHeldBefore_86 rfl hl (by decide) rfl (fun ls hl => ?_)
          refine lv_iinc (v := nI (i + 1)) (lv' := [(3, .int (nI (i + 1))), (2, .int (z ||| 1)), (0, .ref x), (1, .int tm)]) hx hb dX1_isHeldBefore_87 hl (k := 3) rfl (nI_1 (i)) (by decide) rfl (fun ls hl => ?_)
          refine lv_goto (tgt := 18) hx hb dX1_isHeldBefore_90 (by decide) ?_
          exact ih1 (i + 1) (z ||| 1) _ _ _ (by omega) ⟨hlt, by rw [hz, hbS, if_pos hn4, if_neg c3], hI, hS, lv_sub hl [2, 3, 1, 0] rfl⟩
  · refine lv_iconst (v := 1) hx hb dX1_isHeldBefore_10 (by decide) ?_
    refine lv_goto (tgt := 15) hx hb dX1_isHeldBefore_11 (by decide) ?_
    refine lv_istore_n (lv' := [(2, .int 1), (0, .ref x), (1, .int tm)]) hx hb dX1_isHeldBefore_15 rfl hl (by decide) rfl (fun ls hl => ?_)
    refine lv_iconst (v := 0) hx hb dX1_isHeldBefore_16 (by decide) ?_
    refine lv_istore_n (lv' := [(3, .int 0), (2, .int 1), (0, .ref x), (1, .int tm)]) hx hb dX1_isHeldBefore_17 rfl hl (by decide) rfl (fun ls hl => ?_)
    refine g_loop2 (A1 := Nat) (A2 := Int32) (fun i z H locs ls => i ≤ nu ∧ z = hbS rn uq ck tm i ∧ Inv E G H ∧ va_S (eA E) s.heap H locs ∧ lv_has ls 4 [(0, .ref x), (1, .int tm), (2, .int z), (3, .int (nI i))]) (fun i z => 0) (fun i z => 0) (fun i z => nu - i) ?_ 0 1 _ _ _ ⟨Nat.zero_le _, (if_pos c0).symm, hI, hS, lv_sub hl [2, 3, 1, 0] rfl⟩
    intro i z ih2 H locs ls hst
    obtain ⟨hi, hz, hI, hS, hl⟩ := hst
    refine lv_iload_n hx hb dX1_isHeldBefore_18 rfl (lv_at hl 3 rfl) ?_
    refine lv_aload_n hx hb dX1_isHeldBefore_19 rfl (lv_at hl 0 rfl) ?_
    refine g_get (C := RX1) (T := TX1) (N := 3) (v := .ref lu) hx hb hts in_X1 hown hE hI hX0 rfl 0 (by decide) q143 (fun _ h9 => h9) rfl dX1_isHeldBefore_20 ?_
    refine g_ci0 (G := G) (v := nI nu) hS (va_runV (As := []) (rest := [.int (nI i)]) ⟨hx, hb, hml, hown, hts⟩ (m_size l E G (3, 1, 0) (3, 2, 0) lu eu nu uA hU.1) (cwV 0 hts (lw_V q161 q162 q163 q34 q164) rfl rfl rfl (by decide +kernel) ⟨Nat.le_of_ble_eq_true rfl, Nat.le_of_ble_eq_true rfl⟩) (g_preV hE hI (hU.1.recv hE hI)) rfl rfl hl.1 rfl (lv_room (Nat.le_of_ble_eq_true rfl)) dX1_isHeldBefore_23 ⟨Nat.le_of_ble_eq_true rfl, Nat.le_of_ble_eq_true rfl⟩) (fun H locs hI hS => ?_)
    refine lv_icmp_ge (tgt := 93) hx hb dX1_isHeldBefore_26 (by decide) (fun c1 => ?_) (fun c1 => ?_)
    · have ei : i = nu := (Nat.lt_or_ge i nu).elim (fun z => absurd c1 (nI_ge z (by omega))) (fun z => by omega)
      subst hz
      refine lv_iload_n hx hb dX1_isHeldBefore_93 rfl (lv_at hl 2 rfl) ?_
      exact g_zret hx hb hr hlk hI hS dX1_isHeldBefore_94 (Nat.le_of_ble_eq_true rfl) (Nat.le_of_ble_eq_true rfl) (by rcases hbS_01 rn uq ck tm i with h | h <;> rw [h] <;> rfl) (⟨by rw [ei], rfl⟩)
    · have hlt : i < nu := (Nat.lt_or_ge i nu).elim id (fun z => absurd (nI_le z (by omega)) c1)
      refine lv_iload_n hx hb dX1_isHeldBefore_29 rfl (lv_at hl 2 rfl) ?_
      refine lv_aload_n hx hb dX1_isHeldBefore_30 rfl (lv_at hl 0 rfl) ?_
      refine g_get (C := RX1) (T := TX1) (N := 3) (v := .ref lu) hx hb hts in_X1 hown hE hI hX0 rfl 0 (by decide) q143 (fun _ h9 => h9) rfl dX1_isHeldBefore_31 ?_
      refine lv_iload_n hx hb dX1_isHeldBefore_34 rfl (lv_at hl 3 rfl) ?_
      refine g_cr0 (G := G) (v := uA i) hS (va_runV (As := [.int (nI i)]) (rest := [.int z]) ⟨hx, hb, hml, hown, hts⟩ (m_get l E G (3, 1, 0) (3, 2, 0) lu eu nu uA hU.1 i hlt) (cwV 1 hts (lw_V q165 q166 q167 q34 q168) rfl rfl rfl (by decide +kernel) ⟨Nat.le_of_ble_eq_true rfl, Nat.le_of_ble_eq_true rfl⟩) (g_preV hE hI (hU.1.recv hE hI)) rfl rfl hl.1 rfl (lv_room (Nat.le_of_ble_eq_true rfl)) dX1_isHeldBefore_35 ⟨Nat.le_of_ble_eq_true rfl, Nat.le_of_ble_eq_true rfl⟩) (fun H locs hI hS => ?_)
      refine g_cast hx hb hts hown q179 hE hI (hU.2 i hlt) rfl rfl dX1_isHeldBefore_38 ?_
      refine g_cr0 (G := G) (v := eK E (uq i).2.1) hS (va_runV (As := []) (rest := [.int z]) ⟨hx, hb, hml, hown, hts⟩ (m_Ukind l E G (uA i) (3, 5, i) (uq i).1 (eK E (uq i).2.1) (uq i).2.2.1 (uq i).2.2.2 (hU.2 i hlt)) (cwV 0 hts (lw_V q270 q271 q272 q56 q273) rfl rfl rfl (by decide +kernel) ⟨Nat.le_of_ble_eq_true rfl, Nat.le_of_ble_eq_true rfl⟩) (g_preV hE hI (g_recv hE hI (hU.2 i hlt) rfl)) rfl rfl hl.1 rfl (lv_room (Nat.le_of_ble_eq_true rfl)) dX1_isHeldBefore_41 ⟨Nat.le_of_ble_eq_true rfl, Nat.le_of_ble_eq_true rfl⟩) (fun H locs hI hS => ?_)
      refine g_gets (C := "StarConsole$Kind") hx hb hts hE.St.2.2.2.1 hL hS hown q799 (fun _ h9 => h9) dX1_isHeldBefore_44 ?_
      refine lv_acmp_ne (rx := some (eK E (uq i).2.1)) (ry := some (eK E 4)) (tgt := 84) hx hb dX1_isHeldBefore_47 (by decide) (fun c2 => ?_) (fun c2 => ?_)
      · have hn4 : ¬ (uq i).2.1 = 4 := fun z => c2 (by rw [z])
        refine lv_iconst (v := 0) hx hb dX1_isHeldBefore_84 (by decide) ?_
        refine lv_ior hx hb dX1_isHeldBefore_85 ?_
        refine lv_istore_n (lv' := [(2, .int (z ||| 0)), (0, .ref x), (1, .int tm), (3, .int (nI i))]) hx hb dX1_isHeldBefore_86 rfl hl (by decide) rfl (fun ls hl => ?_)
        refine lv_iinc (v := nI (i + 1)) (lv' := [(3, .int (nI (i + 1))), (2, .int (z ||| 0)), (0, .ref x), (1, .int tm)]) hx hb dX1_isHeldBefore_87 hl (k := 3) rfl (nI_1 (i)) (by decide) rfl (fun ls hl => ?_)
        refine lv_goto (tgt := 18) hx hb dX1_isHeldBefore_90 (by decide) ?_
        exact ih2 (i + 1) (z ||| 0) _ _ _ (by omega) ⟨hlt, by rw [hz, hbS, if_neg hn4], hI, hS, lv_sub hl [2, 3, 1, 0] rfl⟩
      · have hn4 : (uq i).2.1 = 4 := hE.inj _ _ (hk5 i hlt) (by decide) (Option.some.inj c2)
        refine lv_aload_n hx hb dX1_isHeldBefore_50 rfl (lv_at hl 0 rfl) ?_
        refine g_get (C := RX1) (T := TX1) (N := 3) (v := .ref lu) hx hb hts in_X1 hown hE hI hX0 rfl 0 (by decide) q143 (fun _ h9 => h9) rfl dX1_isHeldBefore_51 ?_
        refine lv_iload_n hx hb dX1_isHeldBefore_54 rfl (lv_at hl 3 rfl) ?_
        refine g_cr0 (G := G) (v := uA i) hS (va_runV (As := [.int (nI i)]) (rest := [.int z]) ⟨hx, hb, hml, hown, hts⟩ (m_get l E G (3, 1, 0) (3, 2, 0) lu eu nu uA hU.1 i hlt) (cwV 1 hts (lw_V q165 q166 q167 q34 q168) rfl rfl rfl (by decide +kernel) ⟨Nat.le_of_ble_eq_true rfl, Nat.le_of_ble_eq_true rfl⟩) (g_preV hE hI (hU.1.recv hE hI)) rfl rfl hl.1 rfl (lv_room (Nat.le_of_ble_eq_true rfl)) dX1_isHeldBefore_55 ⟨Nat.le_of_ble_eq_true rfl, Nat.le_of_ble_eq_true rfl⟩) (fun H locs hI hS => ?_)
        refine g_cast hx hb hts hown q179 hE hI (hU.2 i hlt) rfl rfl dX1_isHeldBefore_58 ?_
        refine g_ci0 (G := G) (v := (uq i).1) hS (va_runV (As := []) (rest := [.int z]) ⟨hx, hb, hml, hown, hts⟩ (m_Utime l E G (uA i) (3, 5, i) (uq i).1 (eK E (uq i).2.1) (uq i).2.2.1 (uq i).2.2.2 (hU.2 i hlt)) (cwV 0 hts (lw_V q180 q181 q182 q56 q183) rfl rfl rfl (by decide +kernel) ⟨Nat.le_of_ble_eq_true rfl, Nat.le_of_ble_eq_true rfl⟩) (g_preV hE hI (g_recv hE hI (hU.2 i hlt) rfl)) rfl rfl hl.1 rfl (lv_room (Nat.le_of_ble_eq_true rfl)) dX1_isHeldBefore_61 ⟨Nat.le_of_ble_eq_true rfl, Nat.le_of_ble_eq_true rfl⟩) (fun H locs hI hS => ?_)
        refine lv_aload_n hx hb dX1_isHeldBefore_64 rfl (lv_at hl 0 rfl) ?_
        refine g_get (C := RX1) (T := TX1) (N := 3) (v := .ref con) hx hb hts in_X1 hown hE hI hX0 rfl 2 (by decide) q145 (fun _ h9 => h9) rfl dX1_isHeldBefore_65 ?_
        refine g_getN (C := RX2) (T := TX2) (N := 9) (v := .int ck) hx hb hts in_X2 hown hE hI hcon rfl 1 (by decide) q103 (fun _ h9 => h9) rfl dX1_isHeldBefore_68 ?_
        refine lv_iload_n hx hb dX1_isHeldBefore_71 rfl (lv_at hl 1 rfl) ?_
        refine lv_iconst (v := 1) hx hb dX1_isHeldBefore_72 (by decide) ?_
        refine lv_isub hx hb dX1_isHeldBefore_73 ?_
        refine g_ci0 (G := G) (v := isInV (uq i).1 ck (tm - 1)) hS (va_runS (As := [.int ((uq i).1), .int ck, .int (tm - 1)]) (rest := [.int z]) ⟨hx, hb, hml, hown, hts⟩ (m_isIn l E G (uq i).1 ck (tm - 1)) (va_cwS 3 hts (lw_S q304 q305 q31 q306) rfl rfl rfl (by decide +kernel) ⟨Nat.le_of_ble_eq_true rfl, Nat.le_of_ble_eq_true rfl⟩) (g_preS hE hI) rfl rfl hl.1 rfl (lv_room (Nat.le_of_ble_eq_true rfl)) dX1_isHeldBefore_74 ⟨Nat.le_of_ble_eq_true rfl, Nat.le_of_ble_eq_true rfl⟩) (fun H locs hI hS => ?_)
        refine lv_if_eq (tgt := 84) hx hb dX1_isHeldBefore_77 (by decide) (fun c3 => ?_) (fun c3 => ?_)
        · refine lv_iconst (v := 0) hx hb dX1_isHeldBefore_84 (by decide) ?_
          refine lv_ior hx hb dX1_isHeldBefore_85 ?_
          refine lv_istore_n (lv' := [(2, .int (z ||| 0)), (0, .ref x), (1, .int tm), (3, .int (nI i))]) hx hb dX1_isHeldBefore_86 rfl hl (by decide) rfl (fun ls hl => ?_)
          refine lv_iinc (v := nI (i + 1)) (lv' := [(3, .int (nI (i + 1))), (2, .int (z ||| 0)), (0, .ref x), (1, .int tm)]) hx hb dX1_isHeldBefore_87 hl (k := 3) rfl (nI_1 (i)) (by decide) rfl (fun ls hl => ?_)
          refine lv_goto (tgt := 18) hx hb dX1_isHeldBefore_90 (by decide) ?_
          exact ih2 (i + 1) (z ||| 0) _ _ _ (by omega) ⟨hlt, by rw [hz, hbS, if_pos hn4, if_pos c3], hI, hS, lv_sub hl [2, 3, 1, 0] rfl⟩
        · refine lv_iconst (v := 1) hx hb dX1_isHeldBefore_80 (by decide) ?_
          refine lv_goto (tgt := 85) hx hb dX1_isHeldBefore_81 (by decide) ?_
          refine lv_ior hx hb dX1_isHeldBefore_85 ?_
          refine lv_istore_n (lv' := [(2, .int (z ||| 1)), (0, .ref x), (1, .int tm), (3, .int (nI i))]) hx hb dX1_isHeldBefore_86 rfl hl (by decide) rfl (fun ls hl => ?_)
          refine lv_iinc (v := nI (i + 1)) (lv' := [(3, .int (nI (i + 1))), (2, .int (z ||| 1)), (0, .ref x), (1, .int tm)]) hx hb dX1_isHeldBefore_87 hl (k := 3) rfl (nI_1 (i)) (by decide) rfl (fun ls hl => ?_)
          refine lv_goto (tgt := 18) hx hb dX1_isHeldBefore_90 (by decide) ?_
          exact ih2 (i + 1) (z ||| 1) _ _ _ (by omega) ⟨hlt, by rw [hz, hbS, if_pos hn4, if_neg c3], hI, hS, lv_sub hl [2, 3, 1, 0] rfl⟩
set_option maxHeartbeats 4000000 in
set_option maxRecDepth 100000 in
theorem m_Xwhen (l : Launch) (E : EnvT) (G : Gh) (hst : l.stackTraces = false) (x : Nat) (B : XA) (σ : Sy) (hXR : XRep E G x B σ) (hk5 : ∀ i, i < σ.2.1.1 → (σ.2.1.2 i).2.1 < 5) (i : Int32) : vx_Met l yX1_when (ws_ yX1_when cX1_when 3 (some .int)) ({ frames := 8, cells := 1, slots := 6, locals := 123 } : Room) (cP E G [.ref x, .int i]) (cI E (fun r G' => oneR σ.2.1.1 i = 0 ∧ r = whenV σ.1.1.2.2.1 σ.2.1.2 σ.2.1.1 σ.1.1.2.1 (σ.2.1.2 i.toNatClampNeg).1 ∧ G' = G)) (cX E (fun X G' => X = xIOB ∧ oneR σ.2.1.1 i = 1 ∧ G' = G)) 1 6 (eA E) := by
  obtain ⟨⟨con, ld, lc, dA, kA⟩, ⟨lu, uA⟩, ⟨lt, sA⟩⟩ := B
  obtain ⟨⟨⟨tk, ck, rn, an, sp, ln, lf⟩, ⟨nd, dm⟩, ⟨nc, km⟩⟩, ⟨nu, uq⟩, ⟨ns, st⟩⟩ := σ
  refine g_xmet (rm := ({ frames := 8, cells := 1, slots := 6, locals := 123 } : Room)) (av := [.ref x, .int i]) (lv := [(0, .ref x), (1, .int i)]) (by decide) (Nat.le_of_ble_eq_true rfl) rfl ?_
  intro p e s m below meth c ls hx hb hr hlk hml hno hts hown hE hI hL hS hl
  have hXR0 := hXR
  obtain ⟨hX0, hR, ⟨eu, hU⟩, ⟨et, hlt0⟩, hst0⟩ := hXR0
  have hX0 : G x = some ((3, 0, 0), xO lu lt con) := hX0
  have hR : CRep E G 1 (con, ld, lc, dA, kA) ((tk, ck, rn, an, sp, ln, lf), (nd, dm), (nc, km)) := hR
  have hU : URep E G 3 lu eu nu uA uq := hU
  have hlt0 : LRep E G (3, 3, 0) (3, 4, 0) lt et ns sA := hlt0
  have hst0 : ∀ k, k < ns → G (sA k) = some ((3, 6, k), sOt (st k)) := hst0
  have hR0 := hR
  obtain ⟨hcon, ⟨ed, hld⟩, ⟨ec, hlc⟩, hd, hk⟩ := hR0
  have hcon : G con = some ((1, 0, 0), coO tk ck rn an sp ln lf ld lc) := hcon
  have hld : LRep E G (1, 1, 0) (1, 2, 0) ld ed nd dA := hld
  have hlc : LRep E G (1, 3, 0) (1, 4, 0) lc ec nc kA := hlc
  have hd : ∀ k, k < nd → G (dA k) = some ((1, 5, k), dOt (dm k)) := hd
  have hk : ∀ k, k < nc → G (kA k) = some ((1, 6, k), kOt (km k)) := hk
  have hn1 : nd ≤ 36 := hld.n36
  have hn2 : nc ≤ 36 := hlc.n36
  have hn3 : nu ≤ 36 := hU.1.n36
  have hn4 : ns ≤ 36 := hlt0.n36
  refine lv_aload_n hx hb dX1_when_0 rfl (lv_at hl 0 rfl) ?_
  refine g_get (C := RX1) (T := TX1) (N := 3) (v := .ref lu) hx hb hts in_X1 hown hE hI hX0 rfl 0 (by decide) q143 (fun _ h9 => h9) rfl dX1_when_1 ?_
  refine lv_iload_n hx hb dX1_when_4 rfl (lv_at hl 1 rfl) ?_
  refine g_xr hS (vx_runS (As := [.ref lu, .int i]) (rest := []) ⟨hx, hb, hml, hown, hts⟩ (m_known l E G hst (3, 1, 0) (3, 2, 0) lu eu nu uA hU.1 i) (va_cwS 2 hts (lw_S q524 q525 q31 q526) rfl rfl rfl (by decide +kernel) ⟨Nat.le_of_ble_eq_true rfl, Nat.le_of_ble_eq_true rfl⟩) (g_preS hE hI) rfl rfl hl.1 rfl (lv_room (Nat.le_of_ble_eq_true rfl)) dX1_when_5 ⟨Nat.le_of_ble_eq_true rfl, Nat.le_of_ble_eq_true rfl⟩) (fun X ce q9 G1 H locs hp hI hS k1 k2 k3 => ?_) (fun r G1 H locs hp hI hS => ?_)
  · obtain ⟨rfl, hc, hG1⟩ := hp
    exact g_xout hno hlk hI hS k1 k2 k3 (Nat.le_of_ble_eq_true rfl) (Nat.le_of_ble_eq_true rfl) (⟨rfl, if_pos hc, hG1⟩)
  · obtain ⟨k, hkn, hik, rfl, hG1⟩ := hp
    rw [hG1] at hI
    have hno1 : ¬ outI i nu := by rw [hik]; exact fun z => z.elim (nI_pos (by omega)) (nI_ge hkn (by omega))
    have hcl : i.toNatClampNeg = k := by rw [hik]; exact nI_clamp (by omega)
    refine g_cast hx hb hts hown q179 hE hI (hU.2 k hkn) rfl rfl dX1_when_8 ?_
    refine lv_astore_n (lv' := [(2, .ref (uA k)), (0, .ref x), (1, .int i)]) hx hb dX1_when_11 rfl hl (by decide) rfl (fun ls hl => ?_)
    refine lv_aload_n hx hb dX1_when_12 rfl (lv_at hl 0 rfl) ?_
    refine g_ci0 (G := G) (v := (uq k).1) hS (va_runV (As := []) (rest := []) ⟨hx, hb, hml, hown, hts⟩ (m_Utime l E G (uA k) (3, 5, k) (uq k).1 (eK E (uq k).2.1) (uq k).2.2.1 (uq k).2.2.2 (hU.2 k hkn)) (cwV 0 hts (lw_V q180 q181 q182 q56 q183) rfl rfl rfl (by decide +kernel) ⟨Nat.le_of_ble_eq_true rfl, Nat.le_of_ble_eq_true rfl⟩) (g_preV hE hI (g_recv hE hI (hU.2 k hkn) rfl)) rfl rfl hl.1 rfl (lv_room (Nat.le_of_ble_eq_true rfl)) dX1_when_13 ⟨Nat.le_of_ble_eq_true rfl, Nat.le_of_ble_eq_true rfl⟩) (fun H locs hI hS => ?_)
    refine lv_aload_n hx hb dX1_when_16 rfl (lv_at hl 1 rfl) ?_
    refine g_get (C := RX1) (T := TX1) (N := 3) (v := .ref con) hx hb hts in_X1 hown hE hI hX0 rfl 2 (by decide) q145 (fun _ h9 => h9) rfl dX1_when_17 ?_
    refine g_getN (C := RX2) (T := TX2) (N := 9) (v := .int ck) hx hb hts in_X2 hown hE hI hcon rfl 1 (by decide) q103 (fun _ h9 => h9) rfl dX1_when_20 ?_
    refine lv_icmp_lt (tgt := 37) hx hb dX1_when_23 (by decide) (fun c1 => ?_) (fun c1 => ?_)
    · refine lv_iconst (v := -1) hx hb dX1_when_37 (by decide) ?_
      refine vx_ret ?_
      exact g_iret hx hb hr hlk hI hS dX1_when_38 (Nat.le_of_ble_eq_true rfl) (Nat.le_of_ble_eq_true rfl) (⟨if_neg hno1, by rw [hcl]; exact (if_pos c1).symm, rfl⟩)
    · refine lv_aload_n hx hb dX1_when_26 rfl (lv_at hl 1 rfl) ?_
      refine lv_aload_n hx hb dX1_when_27 rfl (lv_at hl 0 rfl) ?_
      refine g_ci0 (G := G) (v := (uq k).1) hS (va_runV (As := []) (rest := [.ref x]) ⟨hx, hb, hml, hown, hts⟩ (m_Utime l E G (uA k) (3, 5, k) (uq k).1 (eK E (uq k).2.1) (uq k).2.2.1 (uq k).2.2.2 (hU.2 k hkn)) (cwV 0 hts (lw_V q180 q181 q182 q56 q183) rfl rfl rfl (by decide +kernel) ⟨Nat.le_of_ble_eq_true rfl, Nat.le_of_ble_eq_true rfl⟩) (g_preV hE hI (g_recv hE hI (hU.2 k hkn) rfl)) rfl rfl hl.1 rfl (lv_room (Nat.le_of_ble_eq_true rfl)) dX1_when_28 ⟨Nat.le_of_ble_eq_true rfl, Nat.le_of_ble_eq_true rfl⟩) (fun H locs hI hS => ?_)
      refine g_ci0 (G := G) (v := hbS rn uq ck (uq k).1 nu) hS (va_runV (As := [.int ((uq k).1)]) (rest := []) ⟨hx, hb, hml, hown, hts⟩ (m_isHeld l E G x ((con, ld, lc, dA, kA), (lu, uA), (lt, sA)) ((((tk, ck, rn, an, sp, ln, lf), (nd, dm), (nc, km)), (nu, uq), (ns, st)) : Sy) hXR hk5 (uq k).1) (cwV 1 hts (lw_V q795 q797 qs12 q31 q798) rfl rfl rfl (by decide +kernel) ⟨Nat.le_of_ble_eq_true rfl, Nat.le_of_ble_eq_true rfl⟩) (g_preV hE hI (g_recv hE hI hX0 rfl)) rfl rfl hl.1 rfl (lv_room (Nat.le_of_ble_eq_true rfl)) dX1_when_31 ⟨Nat.le_of_ble_eq_true rfl, Nat.le_of_ble_eq_true rfl⟩) (fun H locs hI hS => ?_)
      refine lv_if_eq (tgt := 39) hx hb dX1_when_34 (by decide) (fun c2 => ?_) (fun c2 => ?_)
      · refine lv_aload_n hx hb dX1_when_39 rfl (lv_at hl 0 rfl) ?_
        refine g_ci0 (G := G) (v := (uq k).1) hS (va_runV (As := []) (rest := []) ⟨hx, hb, hml, hown, hts⟩ (m_Utime l E G (uA k) (3, 5, k) (uq k).1 (eK E (uq k).2.1) (uq k).2.2.1 (uq k).2.2.2 (hU.2 k hkn)) (cwV 0 hts (lw_V q180 q181 q182 q56 q183) rfl rfl rfl (by decide +kernel) ⟨Nat.le_of_ble_eq_true rfl, Nat.le_of_ble_eq_true rfl⟩) (g_preV hE hI (g_recv hE hI (hU.2 k hkn) rfl)) rfl rfl hl.1 rfl (lv_room (Nat.le_of_ble_eq_true rfl)) dX1_when_40 ⟨Nat.le_of_ble_eq_true rfl, Nat.le_of_ble_eq_true rfl⟩) (fun H locs hI hS => ?_)
        refine lv_aload_n hx hb dX1_when_43 rfl (lv_at hl 1 rfl) ?_
        refine g_get (C := RX1) (T := TX1) (N := 3) (v := .ref con) hx hb hts in_X1 hown hE hI hX0 rfl 2 (by decide) q145 (fun _ h9 => h9) rfl dX1_when_44 ?_
        refine g_getN (C := RX2) (T := TX2) (N := 9) (v := .int ck) hx hb hts in_X2 hown hE hI hcon rfl 1 (by decide) q103 (fun _ h9 => h9) rfl dX1_when_47 ?_
        refine lv_isub hx hb dX1_when_50 ?_
        refine lv_iconst (v := 1) hx hb dX1_when_51 (by decide) ?_
        refine lv_iadd hx hb dX1_when_52 ?_
        refine vx_ret ?_
        exact g_iret hx hb hr hlk hI hS dX1_when_53 (Nat.le_of_ble_eq_true rfl) (Nat.le_of_ble_eq_true rfl) (⟨if_neg hno1, by rw [hcl]; exact ((if_neg c1).trans (if_pos c2)).symm, rfl⟩)
      · refine lv_iconst (v := -1) hx hb dX1_when_37 (by decide) ?_
        refine vx_ret ?_
        exact g_iret hx hb hr hlk hI hS dX1_when_38 (Nat.le_of_ble_eq_true rfl) (Nat.le_of_ble_eq_true rfl) (⟨if_neg hno1, by rw [hcl]; exact ((if_neg c1).trans (if_neg c2)).symm, rfl⟩)
set_option maxHeartbeats 4000000 in
set_option maxRecDepth 100000 in
theorem m_Xmean (l : Launch) (E : EnvT) (G : Gh) (x : Nat) (B : XA) (σ : Sy) (hXR : XRep E G x B σ) (hm : vf_n64 (FP.ddiv (FP.i2d (mnS σ.1.2.1.2 σ.1.2.1.1 12)) 4622945017495814144)) : Met l yX1_mean (ws_ yX1_mean cX1_mean 3 (some .double)) ({ frames := 4, cells := 0, slots := 0, locals := 87 } : Room) (cP E G [.ref x]) (cF E (fun r G' => r = FP.ddiv (FP.i2d (mnS σ.1.2.1.2 σ.1.2.1.1 12)) 4622945017495814144 ∧ G' = G)) 0 0 (eA E) := by
  obtain ⟨⟨con, ld, lc, dA, kA⟩, ⟨lu, uA⟩, ⟨lt, sA⟩⟩ := B
  obtain ⟨⟨⟨tk, ck, rn, an, sp, ln, lf⟩, ⟨nd, dm⟩, ⟨nc, km⟩⟩, ⟨nu, uq⟩, ⟨ns, st⟩⟩ := σ
  refine g_met (rm := ({ frames := 4, cells := 0, slots := 0, locals := 87 } : Room)) (av := [.ref x]) (lv := [(0, .ref x)]) (by decide) (Nat.le_of_ble_eq_true rfl) rfl ?_
  intro p e s m below meth c ls hx hb hr hlk hml hin hts hown hE hI hL hS hl
  have hXR0 := hXR
  obtain ⟨hX0, hR, ⟨eu, hU⟩, ⟨et, hlt0⟩, hst0⟩ := hXR0
  have hX0 : G x = some ((3, 0, 0), xO lu lt con) := hX0
  have hR : CRep E G 1 (con, ld, lc, dA, kA) ((tk, ck, rn, an, sp, ln, lf), (nd, dm), (nc, km)) := hR
  have hU : URep E G 3 lu eu nu uA uq := hU
  have hlt0 : LRep E G (3, 3, 0) (3, 4, 0) lt et ns sA := hlt0
  have hst0 : ∀ k, k < ns → G (sA k) = some ((3, 6, k), sOt (st k)) := hst0
  have hR0 := hR
  obtain ⟨hcon, ⟨ed, hld⟩, ⟨ec, hlc⟩, hd, hk⟩ := hR0
  have hcon : G con = some ((1, 0, 0), coO tk ck rn an sp ln lf ld lc) := hcon
  have hld : LRep E G (1, 1, 0) (1, 2, 0) ld ed nd dA := hld
  have hlc : LRep E G (1, 3, 0) (1, 4, 0) lc ec nc kA := hlc
  have hd : ∀ k, k < nd → G (dA k) = some ((1, 5, k), dOt (dm k)) := hd
  have hk : ∀ k, k < nc → G (kA k) = some ((1, 6, k), kOt (km k)) := hk
  have hn1 : nd ≤ 36 := hld.n36
  have hn2 : nc ≤ 36 := hlc.n36
  have hn3 : nu ≤ 36 := hU.1.n36
  have hn4 : ns ≤ 36 := hlt0.n36
  have hm : vf_n64 (FP.ddiv (FP.i2d (mnS dm nd 12)) 4622945017495814144) := hm
  refine lv_iconst (v := 0) hx hb dX1_mean_0 (by decide) ?_
  refine lv_istore_n (lv' := [(1, .int 0), (0, .ref x)]) hx hb dX1_mean_1 rfl hl (by decide) rfl (fun ls hl => ?_)
  refine lv_iconst (v := 0) hx hb dX1_mean_2 (by decide) ?_
  refine lv_istore_n (lv' := [(2, .int 0), (1, .int 0), (0, .ref x)]) hx hb dX1_mean_3 rfl hl (by decide) rfl (fun ls hl => ?_)
  refine g_loop2 (A1 := Nat) (A2 := Int32) (fun i z H locs ls => i ≤ 12 ∧ z = mnS dm nd i ∧ Inv E G H ∧ va_S (eA E) s.heap H locs ∧ lv_has ls 3 [(0, .ref x), (1, .int z), (2, .int (nI i))]) (fun i z => 0) (fun i z => 0) (fun i z => 12 - i) ?_ 0 0 _ _ _ ⟨Nat.zero_le _, rfl, hI, hS, lv_sub hl [2, 1, 0] rfl⟩
  intro i z ih1 H locs ls hst
  obtain ⟨hi, hz, hI, hS, hl⟩ := hst
  refine lv_iload_n hx hb dX1_mean_4 rfl (lv_at hl 2 rfl) ?_
  refine lv_bipush (v := 12) hx hb dX1_mean_5 (by decide) ?_
  refine lv_icmp_ge (tgt := 27) hx hb dX1_mean_7 (by decide) (fun c1 => ?_) (fun c1 => ?_)
  · have ei : i = 12 := (Nat.lt_or_ge i 12).elim (fun z => absurd c1 (nI_ge (b := 12) (by omega) (by omega))) (fun z => by omega)
    subst hz; subst ei
    refine lv_iload_n hx hb dX1_mean_27 rfl (lv_at hl 1 rfl) ?_
    refine lv_i2d hx hb dX1_mean_28 ?_
    refine lv_ldc2d hx hb hown (hts _ q203) dX1_mean_29 ?_
    refine lv_ddiv hx hb dX1_mean_32 hm ?_
    exact g_dret hx hb hr hlk hI hS dX1_mean_33 (Nat.le_of_ble_eq_true rfl) (Nat.le_of_ble_eq_true rfl) (⟨rfl, rfl⟩)
  · have hlt : i < 12 := (Nat.lt_or_ge i 12).elim id (fun z => absurd (nI_le (a := 12) (b := i) (by omega) (by omega)) c1)
    refine lv_iload_n hx hb dX1_mean_10 rfl (lv_at hl 1 rfl) ?_
    refine lv_aload_n hx hb dX1_mean_11 rfl (lv_at hl 0 rfl) ?_
    refine g_get (C := RX1) (T := TX1) (N := 3) (v := .ref con) hx hb hts in_X1 hown hE hI hX0 rfl 2 (by decide) q145 (fun _ h9 => h9) rfl dX1_mean_12 ?_
    refine lv_iload_n hx hb dX1_mean_15 rfl (lv_at hl 2 rfl) ?_
    refine g_ci0 (G := G) (v := glS dm (nI i) nd) hS (va_runV (As := [.int (nI i)]) (rest := [.int z]) ⟨hx, hb, hml, hown, hts⟩ (m_glare l E G 1 (con, ld, lc, dA, kA) ((tk, ck, rn, an, sp, ln, lf), (nd, dm), (nc, km)) hR (nI i)) (cwV 1 hts (lw_V q188 q189 q190 q35 q191) rfl rfl rfl (by decide +kernel) ⟨Nat.le_of_ble_eq_true rfl, Nat.le_of_ble_eq_true rfl⟩) (g_preV hE hI (g_recv hE hI hcon rfl)) rfl rfl hl.1 rfl (lv_room (Nat.le_of_ble_eq_true rfl)) dX1_mean_16 ⟨Nat.le_of_ble_eq_true rfl, Nat.le_of_ble_eq_true rfl⟩) (fun H locs hI hS => ?_)
    refine lv_iadd hx hb dX1_mean_19 ?_
    refine lv_istore_n (lv' := [(1, .int (z + glS dm (nI i) nd)), (0, .ref x), (2, .int (nI i))]) hx hb dX1_mean_20 rfl hl (by decide) rfl (fun ls hl => ?_)
    refine lv_iinc (v := nI (i + 1)) (lv' := [(2, .int (nI (i + 1))), (1, .int (z + glS dm (nI i) nd)), (0, .ref x)]) hx hb dX1_mean_21 hl (k := 2) rfl (nI_1 (i)) (by decide) rfl (fun ls hl => ?_)
    refine lv_goto (tgt := 4) hx hb dX1_mean_24 (by decide) ?_
    exact ih1 (i + 1) (z + glS dm (nI i) nd) _ _ _ (by omega) ⟨hlt, by rw [hz, mnS], hI, hS, lv_sub hl [2, 1, 0] rfl⟩
set_option maxHeartbeats 4000000 in
set_option maxRecDepth 100000 in
theorem m_Xdigest (l : Launch) (E : EnvT) (G : Gh) (x : Nat) (B : XA) (σ : Sy) (hXR : XRep E G x B σ) (hk5 : ∀ i, i < σ.2.1.1 → (σ.2.1.2 i).2.1 < 5) : Met l yX1_digest (ws_ yX1_digest cX1_digest 5 (some .long)) ({ frames := 8, cells := 0, slots := 0, locals := 175 } : Room) (cP E G [.ref x]) (cL E (fun r G' => r = dgV σ ∧ G' = G)) 0 0 (eA E) := by
  obtain ⟨⟨con, ld, lc, dA, kA⟩, ⟨lu, uA⟩, ⟨lt, sA⟩⟩ := B
  obtain ⟨⟨⟨tk, ck, rn, an, sp, ln, lf⟩, ⟨nd, dm⟩, ⟨nc, km⟩⟩, ⟨nu, uq⟩, ⟨ns, st⟩⟩ := σ
  refine g_met (rm := ({ frames := 8, cells := 0, slots := 0, locals := 175 } : Room)) (av := [.ref x]) (lv := [(0, .ref x)]) (by decide) (Nat.le_of_ble_eq_true rfl) rfl ?_
  intro p e s m below meth c ls hx hb hr hlk hml hin hts hown hE hI hL hS hl
  have hXR0 := hXR
  obtain ⟨hX0, hR, ⟨eu, hU⟩, ⟨et, hlt0⟩, hst0⟩ := hXR0
  have hX0 : G x = some ((3, 0, 0), xO lu lt con) := hX0
  have hR : CRep E G 1 (con, ld, lc, dA, kA) ((tk, ck, rn, an, sp, ln, lf), (nd, dm), (nc, km)) := hR
  have hU : URep E G 3 lu eu nu uA uq := hU
  have hlt0 : LRep E G (3, 3, 0) (3, 4, 0) lt et ns sA := hlt0
  have hst0 : ∀ k, k < ns → G (sA k) = some ((3, 6, k), sOt (st k)) := hst0
  have hR0 := hR
  obtain ⟨hcon, ⟨ed, hld⟩, ⟨ec, hlc⟩, hd, hk⟩ := hR0
  have hcon : G con = some ((1, 0, 0), coO tk ck rn an sp ln lf ld lc) := hcon
  have hld : LRep E G (1, 1, 0) (1, 2, 0) ld ed nd dA := hld
  have hlc : LRep E G (1, 3, 0) (1, 4, 0) lc ec nc kA := hlc
  have hd : ∀ k, k < nd → G (dA k) = some ((1, 5, k), dOt (dm k)) := hd
  have hk : ∀ k, k < nc → G (kA k) = some ((1, 6, k), kOt (km k)) := hk
  have hn1 : nd ≤ 36 := hld.n36
  have hn2 : nc ≤ 36 := hlc.n36
  have hn3 : nu ≤ 36 := hU.1.n36
  have hn4 : ns ≤ 36 := hlt0.n36
  have hk5 : ∀ i, i < nu → (uq i).2.1 < 5 := hk5
  refine lv_ldc2 hx hb hown (hts _ q208) dX1_digest_0 ?_
  refine lv_lstore_n (lv' := [(1, .long 1109), (0, .ref x)]) hx hb dX1_digest_3 rfl hl (by decide) rfl (fun ls hl => ?_)
  refine lv_iconst (v := 0) hx hb dX1_digest_4 (by decide) ?_
  refine lv_istore_n (lv' := [(3, .int 0), (1, .long 1109), (0, .ref x)]) hx hb dX1_digest_5 rfl hl (by decide) rfl (fun ls hl => ?_)
  refine g_loop2 (A1 := Nat) (A2 := Int64) (fun i d1 H locs ls => i ≤ 13 ∧ d1 = dgF 1109 (fun k => cntV ((tk, ck, rn, an, sp, ln, lf), (nd, dm), (nc, km)) nu ns st (nI k)) i ∧ Inv E G H ∧ va_S (eA E) s.heap H locs ∧ lv_has ls 5 [(0, .ref x), (1, .long d1), (3, .int (nI i))]) (fun i d1 => 0) (fun i d1 => 0) (fun i d1 => 13 - i) ?_ 0 1109 _ _ _ ⟨Nat.zero_le _, rfl, hI, hS, lv_sub hl [2, 1, 0] rfl⟩
  intro i d1 ih1 H locs ls hst
  obtain ⟨hi, hz1, hI, hS, hl⟩ := hst
  refine lv_iload_n hx hb dX1_digest_6 rfl (lv_at hl 2 rfl) ?_
  refine lv_bipush (v := 13) hx hb dX1_digest_7 (by decide) ?_
  refine lv_icmp_ge (tgt := 35) hx hb dX1_digest_9 (by decide) (fun c1 => ?_) (fun c1 => ?_)
  · have ei : i = 13 := (Nat.lt_or_ge i 13).elim (fun z => absurd c1 (nI_ge (b := 13) (by omega) (by omega))) (fun z => by omega)
    subst ei
    refine lv_iconst (v := 0) hx hb dX1_digest_35 (by decide) ?_
    refine lv_istore_n (lv' := [(3, .int 0), (0, .ref x), (1, .long d1)]) hx hb dX1_digest_36 rfl hl (by decide) rfl (fun ls hl => ?_)
    refine g_loop2 (A1 := Nat) (A2 := Int64) (fun i d2 H locs ls => i ≤ 12 ∧ d2 = dgF d1 (fun k => glS dm (nI k) nd) i ∧ Inv E G H ∧ va_S (eA E) s.heap H locs ∧ lv_has ls 5 [(0, .ref x), (1, .long d2), (3, .int (nI i))]) (fun i d2 => 0) (fun i d2 => 0) (fun i d2 => 12 - i) ?_ 0 d1 _ _ _ ⟨Nat.zero_le _, rfl, hI, hS, lv_sub hl [1, 2, 0] rfl⟩
    intro i d2 ih2 H locs ls hst
    obtain ⟨hi, hz2, hI, hS, hl⟩ := hst
    refine lv_iload_n hx hb dX1_digest_37 rfl (lv_at hl 2 rfl) ?_
    refine lv_bipush (v := 12) hx hb dX1_digest_38 (by decide) ?_
    refine lv_icmp_ge (tgt := 65) hx hb dX1_digest_40 (by decide) (fun c1 => ?_) (fun c1 => ?_)
    · have ei : i = 12 := (Nat.lt_or_ge i 12).elim (fun z => absurd c1 (nI_ge (b := 12) (by omega) (by omega))) (fun z => by omega)
      subst ei
      refine lv_iconst (v := 0) hx hb dX1_digest_65 (by decide) ?_
      refine lv_istore_n (lv' := [(3, .int 0), (0, .ref x), (1, .long d2)]) hx hb dX1_digest_66 rfl hl (by decide) rfl (fun ls hl => ?_)
      refine g_loop2 (A1 := Nat) (A2 := Int64) (fun k d3 H locs ls => k ≤ nd ∧ d3 = dgG d2 (fun k j => toldV (dm k) (nI j)) 5 k ∧ Inv E G H ∧ va_S (eA E) s.heap H locs ∧ lv_has ls 5 [(0, .ref x), (1, .long d3), (3, .int (nI k))]) (fun k d3 => 0) (fun k d3 => 0) (fun k d3 => nd - k) ?_ 0 d2 _ _ _ ⟨Nat.zero_le _, rfl, hI, hS, lv_sub hl [1, 2, 0] rfl⟩
      intro k d3 ih3 H locs ls hst
      obtain ⟨hi, hz3, hI, hS, hl⟩ := hst
      refine lv_iload_n hx hb dX1_digest_67 rfl (lv_at hl 2 rfl) ?_
      refine lv_aload_n hx hb dX1_digest_68 rfl (lv_at hl 0 rfl) ?_
      refine g_get (C := RX1) (T := TX1) (N := 3) (v := .ref con) hx hb hts in_X1 hown hE hI hX0 rfl 2 (by decide) q145 (fun _ h9 => h9) rfl dX1_digest_69 ?_
      refine g_getN (C := RX2) (T := TX2) (N := 9) (v := .ref ld) hx hb hts in_X2 hown hE hI hcon rfl 7 (by decide) q120 (fun _ h9 => h9) rfl dX1_digest_72 ?_
      refine g_ci0 (G := G) (v := nI nd) hS (va_runV (As := []) (rest := [.int (nI k)]) ⟨hx, hb, hml, hown, hts⟩ (m_size l E G (1, 1, 0) (1, 2, 0) ld ed nd dA hld) (cwV 0 hts (lw_V q161 q162 q163 q34 q164) rfl rfl rfl (by decide +kernel) ⟨Nat.le_of_ble_eq_true rfl, Nat.le_of_ble_eq_true rfl⟩) (g_preV hE hI (hld.recv hE hI)) rfl rfl hl.1 rfl (lv_room (Nat.le_of_ble_eq_true rfl)) dX1_digest_75 ⟨Nat.le_of_ble_eq_true rfl, Nat.le_of_ble_eq_true rfl⟩) (fun H locs hI hS => ?_)
      refine lv_icmp_ge (tgt := 129) hx hb dX1_digest_78 (by decide) (fun c1 => ?_) (fun c1 => ?_)
      · have ek0 : k = nd := (Nat.lt_or_ge k nd).elim (fun z => absurd c1 (nI_ge z (by omega))) (fun z => by omega)
        rw [ek0] at hz3
        refine lv_iconst (v := 0) hx hb dX1_digest_129 (by decide) ?_
        refine lv_istore_n (lv' := [(3, .int 0), (0, .ref x), (1, .long d3)]) hx hb dX1_digest_130 rfl hl (by decide) rfl (fun ls hl => ?_)
        refine g_loop2 (A1 := Nat) (A2 := Int64) (fun k d4 H locs ls => k ≤ ns ∧ d4 = dgG d3 (fun k j => sTold dm nd an (st k) (nI j)) 4 k ∧ Inv E G H ∧ va_S (eA E) s.heap H locs ∧ lv_has ls 5 [(0, .ref x), (1, .long d4), (3, .int (nI k))]) (fun k d4 => 0) (fun k d4 => 0) (fun k d4 => ns - k) ?_ 0 d3 _ _ _ ⟨Nat.zero_le _, rfl, hI, hS, lv_sub hl [1, 2, 0] rfl⟩
        intro k d4 ih5 H locs ls hst
        obtain ⟨hi, hz4, hI, hS, hl⟩ := hst
        refine lv_iload_n hx hb dX1_digest_131 rfl (lv_at hl 2 rfl) ?_
        refine lv_aload_n hx hb dX1_digest_132 rfl (lv_at hl 0 rfl) ?_
        refine g_get (C := RX1) (T := TX1) (N := 3) (v := .ref lt) hx hb hts in_X1 hown hE hI hX0 rfl 1 (by decide) q144 (fun _ h9 => h9) rfl dX1_digest_133 ?_
        refine g_ci0 (G := G) (v := nI ns) hS (va_runV (As := []) (rest := [.int (nI k)]) ⟨hx, hb, hml, hown, hts⟩ (m_size l E G (3, 3, 0) (3, 4, 0) lt et ns sA hlt0) (cwV 0 hts (lw_V q161 q162 q163 q34 q164) rfl rfl rfl (by decide +kernel) ⟨Nat.le_of_ble_eq_true rfl, Nat.le_of_ble_eq_true rfl⟩) (g_preV hE hI (hlt0.recv hE hI)) rfl rfl hl.1 rfl (lv_room (Nat.le_of_ble_eq_true rfl)) dX1_digest_136 ⟨Nat.le_of_ble_eq_true rfl, Nat.le_of_ble_eq_true rfl⟩) (fun H locs hI hS => ?_)
        refine lv_icmp_ge (tgt := 188) hx hb dX1_digest_139 (by decide) (fun c1 => ?_) (fun c1 => ?_)
        · have ek1 : k = ns := (Nat.lt_or_ge k ns).elim (fun z => absurd c1 (nI_ge z (by omega))) (fun z => by omega)
          rw [ek1] at hz4
          refine lv_iconst (v := 0) hx hb dX1_digest_188 (by decide) ?_
          refine lv_istore_n (lv' := [(3, .int 0), (0, .ref x), (1, .long d4)]) hx hb dX1_digest_189 rfl hl (by decide) rfl (fun ls hl => ?_)
          refine g_loop2 (A1 := Nat) (A2 := Int64) (fun k d5 H locs ls => k ≤ nc ∧ d5 = dgG d4 (fun k j => kTold dm nd (km k) (nI j)) 4 k ∧ Inv E G H ∧ va_S (eA E) s.heap H locs ∧ lv_has ls 5 [(0, .ref x), (1, .long d5), (3, .int (nI k))]) (fun k d5 => 0) (fun k d5 => 0) (fun k d5 => nc - k) ?_ 0 d4 _ _ _ ⟨Nat.zero_le _, rfl, hI, hS, lv_sub hl [1, 2, 0] rfl⟩
          intro k d5 ih7 H locs ls hst
          obtain ⟨hi, hz5, hI, hS, hl⟩ := hst
          refine lv_iload_n hx hb dX1_digest_190 rfl (lv_at hl 2 rfl) ?_
          refine lv_aload_n hx hb dX1_digest_191 rfl (lv_at hl 0 rfl) ?_
          refine g_get (C := RX1) (T := TX1) (N := 3) (v := .ref con) hx hb hts in_X1 hown hE hI hX0 rfl 2 (by decide) q145 (fun _ h9 => h9) rfl dX1_digest_192 ?_
          refine g_getN (C := RX2) (T := TX2) (N := 9) (v := .ref lc) hx hb hts in_X2 hown hE hI hcon rfl 8 (by decide) q123 (fun _ h9 => h9) rfl dX1_digest_195 ?_
          refine g_ci0 (G := G) (v := nI nc) hS (va_runV (As := []) (rest := [.int (nI k)]) ⟨hx, hb, hml, hown, hts⟩ (m_size l E G (1, 3, 0) (1, 4, 0) lc ec nc kA hlc) (cwV 0 hts (lw_V q161 q162 q163 q34 q164) rfl rfl rfl (by decide +kernel) ⟨Nat.le_of_ble_eq_true rfl, Nat.le_of_ble_eq_true rfl⟩) (g_preV hE hI (hlc.recv hE hI)) rfl rfl hl.1 rfl (lv_room (Nat.le_of_ble_eq_true rfl)) dX1_digest_198 ⟨Nat.le_of_ble_eq_true rfl, Nat.le_of_ble_eq_true rfl⟩) (fun H locs hI hS => ?_)
          refine lv_icmp_ge (tgt := 253) hx hb dX1_digest_201 (by decide) (fun c1 => ?_) (fun c1 => ?_)
          · have ek2 : k = nc := (Nat.lt_or_ge k nc).elim (fun z => absurd c1 (nI_ge z (by omega))) (fun z => by omega)
            rw [ek2] at hz5
            refine lv_iconst (v := 0) hx hb dX1_digest_253 (by decide) ?_
            refine lv_istore_n (lv' := [(3, .int 0), (0, .ref x), (1, .long d5)]) hx hb dX1_digest_254 rfl hl (by decide) rfl (fun ls hl => ?_)
            refine g_loop2 (A1 := Nat) (A2 := Int64) (fun k d6 H locs ls => k ≤ nu ∧ d6 = dgG d5 (fun k j => uTold (uq k) j) 4 k ∧ Inv E G H ∧ va_S (eA E) s.heap H locs ∧ lv_has ls 5 [(0, .ref x), (1, .long d6), (3, .int (nI k))]) (fun k d6 => 0) (fun k d6 => 0) (fun k d6 => nu - k) ?_ 0 d5 _ _ _ ⟨Nat.zero_le _, rfl, hI, hS, lv_sub hl [1, 2, 0] rfl⟩
            intro k d6 ih9 H locs ls hst
            obtain ⟨hi, hz6, hI, hS, hl⟩ := hst
            refine lv_iload_n hx hb dX1_digest_255 rfl (lv_at hl 2 rfl) ?_
            refine lv_aload_n hx hb dX1_digest_256 rfl (lv_at hl 0 rfl) ?_
            refine g_get (C := RX1) (T := TX1) (N := 3) (v := .ref lu) hx hb hts in_X1 hown hE hI hX0 rfl 0 (by decide) q143 (fun _ h9 => h9) rfl dX1_digest_257 ?_
            refine g_ci0 (G := G) (v := nI nu) hS (va_runV (As := []) (rest := [.int (nI k)]) ⟨hx, hb, hml, hown, hts⟩ (m_size l E G (3, 1, 0) (3, 2, 0) lu eu nu uA hU.1) (cwV 0 hts (lw_V q161 q162 q163 q34 q164) rfl rfl rfl (by decide +kernel) ⟨Nat.le_of_ble_eq_true rfl, Nat.le_of_ble_eq_true rfl⟩) (g_preV hE hI (hU.1.recv hE hI)) rfl rfl hl.1 rfl (lv_room (Nat.le_of_ble_eq_true rfl)) dX1_digest_260 ⟨Nat.le_of_ble_eq_true rfl, Nat.le_of_ble_eq_true rfl⟩) (fun H locs hI hS => ?_)
            refine lv_icmp_ge (tgt := 334) hx hb dX1_digest_263 (by decide) (fun c1 => ?_) (fun c1 => ?_)
            · have ek : k = nu := (Nat.lt_or_ge k nu).elim (fun z => absurd c1 (nI_ge z (by omega))) (fun z => by omega)
              rw [ek] at hz6
              refine lv_lload_n hx hb dX1_digest_334 rfl (lv_at hl 1 rfl) ?_
              exact g_lret hx hb hr hlk hI hS dX1_digest_335 (Nat.le_of_ble_eq_true rfl) (Nat.le_of_ble_eq_true rfl) (⟨by rw [hz6, hz5, hz4, hz3, hz2, hz1]; rfl, rfl⟩)
            · have hlk1 : k < nu := (Nat.lt_or_ge k nu).elim id (fun z => absurd (nI_le z (by omega)) c1)
              refine lv_aload_n hx hb dX1_digest_266 rfl (lv_at hl 0 rfl) ?_
              refine g_get (C := RX1) (T := TX1) (N := 3) (v := .ref lu) hx hb hts in_X1 hown hE hI hX0 rfl 0 (by decide) q143 (fun _ h9 => h9) rfl dX1_digest_267 ?_
              refine lv_iload_n hx hb dX1_digest_270 rfl (lv_at hl 2 rfl) ?_
              refine g_cr0 (G := G) (v := uA k) hS (va_runV (As := [.int (nI k)]) (rest := []) ⟨hx, hb, hml, hown, hts⟩ (m_get l E G (3, 1, 0) (3, 2, 0) lu eu nu uA hU.1 k hlk1) (cwV 1 hts (lw_V q165 q166 q167 q34 q168) rfl rfl rfl (by decide +kernel) ⟨Nat.le_of_ble_eq_true rfl, Nat.le_of_ble_eq_true rfl⟩) (g_preV hE hI (hU.1.recv hE hI)) rfl rfl hl.1 rfl (lv_room (Nat.le_of_ble_eq_true rfl)) dX1_digest_271 ⟨Nat.le_of_ble_eq_true rfl, Nat.le_of_ble_eq_true rfl⟩) (fun H locs hI hS => ?_)
              refine g_cast hx hb hts hown q179 hE hI (hU.2 k hlk1) rfl rfl dX1_digest_274 ?_
              refine lv_astore (lv' := [(4, .ref (uA k)), (0, .ref x), (1, .long d6), (3, .int (nI k))]) hx hb dX1_digest_277 hl (by decide) rfl (fun ls hl => ?_)
              refine lv_lload_n hx hb dX1_digest_279 rfl (lv_at hl 2 rfl) ?_
              refine lv_ldc2 hx hb hown (hts _ q209) dX1_digest_280 ?_
              refine lv_lmul hx hb dX1_digest_283 ?_
              refine lv_aload hx hb dX1_digest_284 (lv_at hl 0 rfl) ?_
              refine g_ci0 (G := G) (v := (uq k).1) hS (va_runV (As := []) (rest := [.long (d6 * 31)]) ⟨hx, hb, hml, hown, hts⟩ (m_Utime l E G (uA k) (3, 5, k) (uq k).1 (eK E (uq k).2.1) (uq k).2.2.1 (uq k).2.2.2 (hU.2 k hlk1)) (cwV 0 hts (lw_V q180 q181 q182 q56 q183) rfl rfl rfl (by decide +kernel) ⟨Nat.le_of_ble_eq_true rfl, Nat.le_of_ble_eq_true rfl⟩) (g_preV hE hI (g_recv hE hI (hU.2 k hlk1) rfl)) rfl rfl hl.1 rfl (lv_room (Nat.le_of_ble_eq_true rfl)) dX1_digest_286 ⟨Nat.le_of_ble_eq_true rfl, Nat.le_of_ble_eq_true rfl⟩) (fun H locs hI hS => ?_)
              refine lv_i2l (v := ((uq k).1).toInt64) hx hb dX1_digest_289 rfl ?_
              refine lv_ladd hx hb dX1_digest_290 ?_
              refine lv_ldc2 hx hb hown (hts _ q209) dX1_digest_291 ?_
              refine lv_lmul hx hb dX1_digest_294 ?_
              refine lv_aload hx hb dX1_digest_295 (lv_at hl 0 rfl) ?_
              refine g_cr0 (G := G) (v := eK E (uq k).2.1) hS (va_runV (As := []) (rest := [.long (((d6 * 31) + ((uq k).1).toInt64) * 31)]) ⟨hx, hb, hml, hown, hts⟩ (m_Ukind l E G (uA k) (3, 5, k) (uq k).1 (eK E (uq k).2.1) (uq k).2.2.1 (uq k).2.2.2 (hU.2 k hlk1)) (cwV 0 hts (lw_V q270 q271 q272 q56 q273) rfl rfl rfl (by decide +kernel) ⟨Nat.le_of_ble_eq_true rfl, Nat.le_of_ble_eq_true rfl⟩) (g_preV hE hI (g_recv hE hI (hU.2 k hlk1) rfl)) rfl rfl hl.1 rfl (lv_room (Nat.le_of_ble_eq_true rfl)) dX1_digest_297 ⟨Nat.le_of_ble_eq_true rfl, Nat.le_of_ble_eq_true rfl⟩) (fun H locs hI hS => ?_)
              refine g_ci0 (G := G) (v := nI ((uq k).2.1)) hS (g_runU (n := 0) (C := kN ((uq k).2.1)) (owner := "java/lang/Enum") (x := ⟨"StarConsole$Kind", "ordinal", "()I"⟩) (As := []) (rest := [.long (((d6 * 31) + ((uq k).1).toInt64) * 31)]) hx hb hml hown hts (m_ordinal l E G ((uq k).2.1) (hk5 k hlk1)) rfl rfl (Nat.le_of_ble_eq_true rfl) (Nat.le_of_ble_eq_true rfl) q274 q275 (hE.nw q276 rfl) (ord_sel _ (hk5 k hlk1)) q282 q283 (by decide +kernel) (g_preV hE hI (kRecv hE hI (hk5 k hlk1))) rfl rfl hl.1 rfl (lv_room (Nat.le_of_ble_eq_true rfl)) dX1_digest_300 ⟨Nat.le_of_ble_eq_true rfl, Nat.le_of_ble_eq_true rfl⟩) (fun H locs hI hS => ?_)
              refine lv_i2l (v := (nI ((uq k).2.1)).toInt64) hx hb dX1_digest_303 rfl ?_
              refine lv_ladd hx hb dX1_digest_304 ?_
              refine lv_ldc2 hx hb hown (hts _ q209) dX1_digest_305 ?_
              refine lv_lmul hx hb dX1_digest_308 ?_
              refine lv_aload hx hb dX1_digest_309 (lv_at hl 0 rfl) ?_
              refine g_ci0 (G := G) (v := (uq k).2.2.1) hS (va_runV (As := []) (rest := [.long (((((d6 * 31) + ((uq k).1).toInt64) * 31) + (nI ((uq k).2.1)).toInt64) * 31)]) ⟨hx, hb, hml, hown, hts⟩ (m_Ua l E G (uA k) (3, 5, k) (uq k).1 (eK E (uq k).2.1) (uq k).2.2.1 (uq k).2.2.2 (hU.2 k hlk1)) (cwV 0 hts (lw_V q284 q285 q286 q56 q287) rfl rfl rfl (by decide +kernel) ⟨Nat.le_of_ble_eq_true rfl, Nat.le_of_ble_eq_true rfl⟩) (g_preV hE hI (g_recv hE hI (hU.2 k hlk1) rfl)) rfl rfl hl.1 rfl (lv_room (Nat.le_of_ble_eq_true rfl)) dX1_digest_311 ⟨Nat.le_of_ble_eq_true rfl, Nat.le_of_ble_eq_true rfl⟩) (fun H locs hI hS => ?_)
              refine lv_i2l (v := ((uq k).2.2.1).toInt64) hx hb dX1_digest_314 rfl ?_
              refine lv_ladd hx hb dX1_digest_315 ?_
              refine lv_ldc2 hx hb hown (hts _ q209) dX1_digest_316 ?_
              refine lv_lmul hx hb dX1_digest_319 ?_
              refine lv_aload hx hb dX1_digest_320 (lv_at hl 0 rfl) ?_
              refine g_ci0 (G := G) (v := (uq k).2.2.2) hS (va_runV (As := []) (rest := [.long (((((((d6 * 31) + ((uq k).1).toInt64) * 31) + (nI ((uq k).2.1)).toInt64) * 31) + ((uq k).2.2.1).toInt64) * 31)]) ⟨hx, hb, hml, hown, hts⟩ (m_Ub l E G (uA k) (3, 5, k) (uq k).1 (eK E (uq k).2.1) (uq k).2.2.1 (uq k).2.2.2 (hU.2 k hlk1)) (cwV 0 hts (lw_V q288 q289 q290 q56 q291) rfl rfl rfl (by decide +kernel) ⟨Nat.le_of_ble_eq_true rfl, Nat.le_of_ble_eq_true rfl⟩) (g_preV hE hI (g_recv hE hI (hU.2 k hlk1) rfl)) rfl rfl hl.1 rfl (lv_room (Nat.le_of_ble_eq_true rfl)) dX1_digest_322 ⟨Nat.le_of_ble_eq_true rfl, Nat.le_of_ble_eq_true rfl⟩) (fun H locs hI hS => ?_)
              refine lv_i2l (v := ((uq k).2.2.2).toInt64) hx hb dX1_digest_325 rfl ?_
              refine lv_ladd hx hb dX1_digest_326 ?_
              refine lv_lstore_n (lv' := [(1, .long ((((((((d6 * 31) + ((uq k).1).toInt64) * 31) + (nI ((uq k).2.1)).toInt64) * 31) + ((uq k).2.2.1).toInt64) * 31) + ((uq k).2.2.2).toInt64)), (4, .ref (uA k)), (0, .ref x), (3, .int (nI k))]) hx hb dX1_digest_327 rfl hl (by decide) rfl (fun ls hl => ?_)
              refine lv_iinc (v := nI (k + 1)) (lv' := [(3, .int (nI (k + 1))), (1, .long ((((((((d6 * 31) + ((uq k).1).toInt64) * 31) + (nI ((uq k).2.1)).toInt64) * 31) + ((uq k).2.2.1).toInt64) * 31) + ((uq k).2.2.2).toInt64)), (4, .ref (uA k)), (0, .ref x)]) hx hb dX1_digest_328 hl (k := 3) rfl (nI_1 (k)) (by decide) rfl (fun ls hl => ?_)
              refine lv_goto (tgt := 255) hx hb dX1_digest_331 (by decide) ?_
              exact ih9 (k + 1) ((((d6 * 31 + ((uq k).1).toInt64) * 31 + (nI (uq k).2.1).toInt64) * 31 + ((uq k).2.2.1).toInt64) * 31 + ((uq k).2.2.2).toInt64) _ _ _ (by omega) ⟨hlk1, by rw [hz6]; rfl, hI, hS, lv_sub hl [3, 1, 0] rfl⟩
          · have hlk1 : k < nc := (Nat.lt_or_ge k nc).elim id (fun z => absurd (nI_le z (by omega)) c1)
            refine lv_iconst (v := 0) hx hb dX1_digest_204 (by decide) ?_
            refine lv_istore (lv' := [(4, .int 0), (0, .ref x), (1, .long d5), (3, .int (nI k))]) hx hb dX1_digest_205 hl (by decide) rfl (fun ls hl => ?_)
            refine g_loop2 (A1 := Nat) (A2 := Int64) (fun j e5 H locs ls => j ≤ 4 ∧ e5 = dgF d5 ((fun k j => kTold dm nd (km k) (nI j)) k) j ∧ Inv E G H ∧ va_S (eA E) s.heap H locs ∧ lv_has ls 5 [(0, .ref x), (1, .long e5), (3, .int (nI k)), (4, .int (nI j))]) (fun j e5 => 0) (fun j e5 => 0) (fun j e5 => 4 - j) ?_ 0 d5 _ _ _ ⟨Nat.zero_le _, rfl, hI, hS, lv_sub hl [1, 2, 3, 0] rfl⟩
            intro j e5 ih8 H locs ls hst
            obtain ⟨hj, hy5, hI, hS, hl⟩ := hst
            refine lv_iload hx hb dX1_digest_207 (lv_at hl 3 rfl) ?_
            refine lv_iconst (v := 4) hx hb dX1_digest_209 (by decide) ?_
            refine lv_icmp_ge (tgt := 247) hx hb dX1_digest_210 (by decide) (fun c2 => ?_) (fun c2 => ?_)
            · have ej : j = 4 := (Nat.lt_or_ge j 4).elim (fun z => absurd c2 (nI_ge (b := 4) (by omega) (by omega))) (fun z => by omega)
              rw [ej] at hy5
              refine lv_iinc (v := nI (k + 1)) (lv' := [(3, .int (nI (k + 1))), (0, .ref x), (1, .long e5), (4, .int (nI j))]) hx hb dX1_digest_247 hl (k := 2) rfl (nI_1 (k)) (by decide) rfl (fun ls hl => ?_)
              refine lv_goto (tgt := 190) hx hb dX1_digest_250 (by decide) ?_
              exact ih7 (k + 1) e5 _ _ _ (by omega) ⟨hlk1, by rw [hy5, hz5]; rfl, hI, hS, lv_sub hl [1, 2, 0] rfl⟩
            · have hlt : j < 4 := (Nat.lt_or_ge j 4).elim id (fun z => absurd (nI_le (a := 4) (b := j) (by omega) (by omega)) c2)
              refine lv_lload_n hx hb dX1_digest_213 rfl (lv_at hl 1 rfl) ?_
              refine lv_ldc2 hx hb hown (hts _ q209) dX1_digest_214 ?_
              refine lv_lmul hx hb dX1_digest_217 ?_
              refine lv_aload_n hx hb dX1_digest_218 rfl (lv_at hl 0 rfl) ?_
              refine lv_aload_n hx hb dX1_digest_219 rfl (lv_at hl 0 rfl) ?_
              refine g_get (C := RX1) (T := TX1) (N := 3) (v := .ref con) hx hb hts in_X1 hown hE hI hX0 rfl 2 (by decide) q145 (fun _ h9 => h9) rfl dX1_digest_220 ?_
              refine g_getN (C := RX2) (T := TX2) (N := 9) (v := .ref lc) hx hb hts in_X2 hown hE hI hcon rfl 8 (by decide) q123 (fun _ h9 => h9) rfl dX1_digest_223 ?_
              refine lv_iload_n hx hb dX1_digest_226 rfl (lv_at hl 2 rfl) ?_
              refine g_cr0 (G := G) (v := kA k) hS (va_runV (As := [.int (nI k)]) (rest := [.ref x, .long (e5 * 31)]) ⟨hx, hb, hml, hown, hts⟩ (m_get l E G (1, 3, 0) (1, 4, 0) lc ec nc kA hlc k hlk1) (cwV 1 hts (lw_V q165 q166 q167 q34 q168) rfl rfl rfl (by decide +kernel) ⟨Nat.le_of_ble_eq_true rfl, Nat.le_of_ble_eq_true rfl⟩) (g_preV hE hI (hlc.recv hE hI)) rfl rfl hl.1 rfl (lv_room (Nat.le_of_ble_eq_true rfl)) dX1_digest_227 ⟨Nat.le_of_ble_eq_true rfl, Nat.le_of_ble_eq_true rfl⟩) (fun H locs hI hS => ?_)
              refine g_cast hx hb hts hown q246 hE hI (hk k hlk1) rfl rfl dX1_digest_230 ?_
              refine lv_iload hx hb dX1_digest_233 (lv_at hl 3 rfl) ?_
              refine g_ci0 (G := G) (v := kTold dm nd (km k) (nI j)) hS (va_runV (As := [.ref (kA k), .int (nI j)]) (rest := [.long (e5 * 31)]) ⟨hx, hb, hml, hown, hts⟩ (m_kTold l E G x ((con, ld, lc, dA, kA), (lu, uA), (lt, sA)) ((((tk, ck, rn, an, sp, ln, lf), (nd, dm), (nc, km)), (nu, uq), (ns, st)) : Sy) hXR (kA k) (1, 6, k) (km k) (hk k hlk1) (nI j)) (cwV 2 hts (lw_V q266 q268 qs3 q31 q269) rfl rfl rfl (by decide +kernel) ⟨Nat.le_of_ble_eq_true rfl, Nat.le_of_ble_eq_true rfl⟩) (g_preV hE hI (g_recv hE hI hX0 rfl)) rfl rfl hl.1 rfl (lv_room (Nat.le_of_ble_eq_true rfl)) dX1_digest_235 ⟨Nat.le_of_ble_eq_true rfl, Nat.le_of_ble_eq_true rfl⟩) (fun H locs hI hS => ?_)
              refine lv_i2l (v := (kTold dm nd (km k) (nI j)).toInt64) hx hb dX1_digest_238 rfl ?_
              refine lv_ladd hx hb dX1_digest_239 ?_
              refine lv_lstore_n (lv' := [(1, .long ((e5 * 31) + (kTold dm nd (km k) (nI j)).toInt64)), (0, .ref x), (3, .int (nI k)), (4, .int (nI j))]) hx hb dX1_digest_240 rfl hl (by decide) rfl (fun ls hl => ?_)
              refine lv_iinc (v := nI (j + 1)) (lv' := [(4, .int (nI (j + 1))), (1, .long ((e5 * 31) + (kTold dm nd (km k) (nI j)).toInt64)), (0, .ref x), (3, .int (nI k))]) hx hb dX1_digest_241 hl (k := 3) rfl (nI_1 (j)) (by decide) rfl (fun ls hl => ?_)
              refine lv_goto (tgt := 207) hx hb dX1_digest_244 (by decide) ?_
              exact ih8 (j + 1) (e5 * 31 + (kTold dm nd (km k) (nI j)).toInt64) _ _ _ (by omega) ⟨hlt, by rw [hy5, dgF], hI, hS, lv_sub hl [2, 1, 3, 0] rfl⟩
        · have hlk1 : k < ns := (Nat.lt_or_ge k ns).elim id (fun z => absurd (nI_le z (by omega)) c1)
          refine lv_iconst (v := 0) hx hb dX1_digest_142 (by decide) ?_
          refine lv_istore (lv' := [(4, .int 0), (0, .ref x), (1, .long d4), (3, .int (nI k))]) hx hb dX1_digest_143 hl (by decide) rfl (fun ls hl => ?_)
          refine g_loop2 (A1 := Nat) (A2 := Int64) (fun j e4 H locs ls => j ≤ 4 ∧ e4 = dgF d4 ((fun k j => sTold dm nd an (st k) (nI j)) k) j ∧ Inv E G H ∧ va_S (eA E) s.heap H locs ∧ lv_has ls 5 [(0, .ref x), (1, .long e4), (3, .int (nI k)), (4, .int (nI j))]) (fun j e4 => 0) (fun j e4 => 0) (fun j e4 => 4 - j) ?_ 0 d4 _ _ _ ⟨Nat.zero_le _, rfl, hI, hS, lv_sub hl [1, 2, 3, 0] rfl⟩
          intro j e4 ih6 H locs ls hst
          obtain ⟨hj, hy4, hI, hS, hl⟩ := hst
          refine lv_iload hx hb dX1_digest_145 (lv_at hl 3 rfl) ?_
          refine lv_iconst (v := 4) hx hb dX1_digest_147 (by decide) ?_
          refine lv_icmp_ge (tgt := 182) hx hb dX1_digest_148 (by decide) (fun c2 => ?_) (fun c2 => ?_)
          · have ej : j = 4 := (Nat.lt_or_ge j 4).elim (fun z => absurd c2 (nI_ge (b := 4) (by omega) (by omega))) (fun z => by omega)
            rw [ej] at hy4
            refine lv_iinc (v := nI (k + 1)) (lv' := [(3, .int (nI (k + 1))), (0, .ref x), (1, .long e4), (4, .int (nI j))]) hx hb dX1_digest_182 hl (k := 2) rfl (nI_1 (k)) (by decide) rfl (fun ls hl => ?_)
            refine lv_goto (tgt := 131) hx hb dX1_digest_185 (by decide) ?_
            exact ih5 (k + 1) e4 _ _ _ (by omega) ⟨hlk1, by rw [hy4, hz4]; rfl, hI, hS, lv_sub hl [1, 2, 0] rfl⟩
          · have hlt : j < 4 := (Nat.lt_or_ge j 4).elim id (fun z => absurd (nI_le (a := 4) (b := j) (by omega) (by omega)) c2)
            refine lv_lload_n hx hb dX1_digest_151 rfl (lv_at hl 1 rfl) ?_
            refine lv_ldc2 hx hb hown (hts _ q209) dX1_digest_152 ?_
            refine lv_lmul hx hb dX1_digest_155 ?_
            refine lv_aload_n hx hb dX1_digest_156 rfl (lv_at hl 0 rfl) ?_
            refine lv_aload_n hx hb dX1_digest_157 rfl (lv_at hl 0 rfl) ?_
            refine g_get (C := RX1) (T := TX1) (N := 3) (v := .ref lt) hx hb hts in_X1 hown hE hI hX0 rfl 1 (by decide) q144 (fun _ h9 => h9) rfl dX1_digest_158 ?_
            refine lv_iload_n hx hb dX1_digest_161 rfl (lv_at hl 2 rfl) ?_
            refine g_cr0 (G := G) (v := sA k) hS (va_runV (As := [.int (nI k)]) (rest := [.ref x, .long (e4 * 31)]) ⟨hx, hb, hml, hown, hts⟩ (m_get l E G (3, 3, 0) (3, 4, 0) lt et ns sA hlt0 k hlk1) (cwV 1 hts (lw_V q165 q166 q167 q34 q168) rfl rfl rfl (by decide +kernel) ⟨Nat.le_of_ble_eq_true rfl, Nat.le_of_ble_eq_true rfl⟩) (g_preV hE hI (hlt0.recv hE hI)) rfl rfl hl.1 rfl (lv_room (Nat.le_of_ble_eq_true rfl)) dX1_digest_162 ⟨Nat.le_of_ble_eq_true rfl, Nat.le_of_ble_eq_true rfl⟩) (fun H locs hI hS => ?_)
            refine g_cast hx hb hts hown q218 hE hI (hst0 k hlk1) rfl rfl dX1_digest_165 ?_
            refine lv_iload hx hb dX1_digest_168 (lv_at hl 3 rfl) ?_
            refine g_ci0 (G := G) (v := sTold dm nd an (st k) (nI j)) hS (va_runV (As := [.ref (sA k), .int (nI j)]) (rest := [.long (e4 * 31)]) ⟨hx, hb, hml, hown, hts⟩ (m_sTold l E G x ((con, ld, lc, dA, kA), (lu, uA), (lt, sA)) ((((tk, ck, rn, an, sp, ln, lf), (nd, dm), (nc, km)), (nu, uq), (ns, st)) : Sy) hXR (sA k) (3, 6, k) (st k) (hst0 k hlk1) (nI j)) (cwV 2 hts (lw_V q259 q261 qs2 q31 q262) rfl rfl rfl (by decide +kernel) ⟨Nat.le_of_ble_eq_true rfl, Nat.le_of_ble_eq_true rfl⟩) (g_preV hE hI (g_recv hE hI hX0 rfl)) rfl rfl hl.1 rfl (lv_room (Nat.le_of_ble_eq_true rfl)) dX1_digest_170 ⟨Nat.le_of_ble_eq_true rfl, Nat.le_of_ble_eq_true rfl⟩) (fun H locs hI hS => ?_)
            refine lv_i2l (v := (sTold dm nd an (st k) (nI j)).toInt64) hx hb dX1_digest_173 rfl ?_
            refine lv_ladd hx hb dX1_digest_174 ?_
            refine lv_lstore_n (lv' := [(1, .long ((e4 * 31) + (sTold dm nd an (st k) (nI j)).toInt64)), (0, .ref x), (3, .int (nI k)), (4, .int (nI j))]) hx hb dX1_digest_175 rfl hl (by decide) rfl (fun ls hl => ?_)
            refine lv_iinc (v := nI (j + 1)) (lv' := [(4, .int (nI (j + 1))), (1, .long ((e4 * 31) + (sTold dm nd an (st k) (nI j)).toInt64)), (0, .ref x), (3, .int (nI k))]) hx hb dX1_digest_176 hl (k := 3) rfl (nI_1 (j)) (by decide) rfl (fun ls hl => ?_)
            refine lv_goto (tgt := 145) hx hb dX1_digest_179 (by decide) ?_
            exact ih6 (j + 1) (e4 * 31 + (sTold dm nd an (st k) (nI j)).toInt64) _ _ _ (by omega) ⟨hlt, by rw [hy4, dgF], hI, hS, lv_sub hl [2, 1, 3, 0] rfl⟩
      · have hlk1 : k < nd := (Nat.lt_or_ge k nd).elim id (fun z => absurd (nI_le z (by omega)) c1)
        refine lv_iconst (v := 0) hx hb dX1_digest_81 (by decide) ?_
        refine lv_istore (lv' := [(4, .int 0), (0, .ref x), (1, .long d3), (3, .int (nI k))]) hx hb dX1_digest_82 hl (by decide) rfl (fun ls hl => ?_)
        refine g_loop2 (A1 := Nat) (A2 := Int64) (fun j e3 H locs ls => j ≤ 5 ∧ e3 = dgF d3 ((fun k j => toldV (dm k) (nI j)) k) j ∧ Inv E G H ∧ va_S (eA E) s.heap H locs ∧ lv_has ls 5 [(0, .ref x), (1, .long e3), (3, .int (nI k)), (4, .int (nI j))]) (fun j e3 => 0) (fun j e3 => 0) (fun j e3 => 5 - j) ?_ 0 d3 _ _ _ ⟨Nat.zero_le _, rfl, hI, hS, lv_sub hl [1, 2, 3, 0] rfl⟩
        intro j e3 ih4 H locs ls hst
        obtain ⟨hj, hy3, hI, hS, hl⟩ := hst
        refine lv_iload hx hb dX1_digest_84 (lv_at hl 3 rfl) ?_
        refine lv_iconst (v := 5) hx hb dX1_digest_86 (by decide) ?_
        refine lv_icmp_ge (tgt := 123) hx hb dX1_digest_87 (by decide) (fun c2 => ?_) (fun c2 => ?_)
        · have ej : j = 5 := (Nat.lt_or_ge j 5).elim (fun z => absurd c2 (nI_ge (b := 5) (by omega) (by omega))) (fun z => by omega)
          rw [ej] at hy3
          refine lv_iinc (v := nI (k + 1)) (lv' := [(3, .int (nI (k + 1))), (0, .ref x), (1, .long e3), (4, .int (nI j))]) hx hb dX1_digest_123 hl (k := 2) rfl (nI_1 (k)) (by decide) rfl (fun ls hl => ?_)
          refine lv_goto (tgt := 67) hx hb dX1_digest_126 (by decide) ?_
          exact ih3 (k + 1) e3 _ _ _ (by omega) ⟨hlk1, by rw [hy3, hz3]; rfl, hI, hS, lv_sub hl [1, 2, 0] rfl⟩
        · have hlt : j < 5 := (Nat.lt_or_ge j 5).elim id (fun z => absurd (nI_le (a := 5) (b := j) (by omega) (by omega)) c2)
          refine lv_lload_n hx hb dX1_digest_90 rfl (lv_at hl 1 rfl) ?_
          refine lv_ldc2 hx hb hown (hts _ q209) dX1_digest_91 ?_
          refine lv_lmul hx hb dX1_digest_94 ?_
          refine lv_aload_n hx hb dX1_digest_95 rfl (lv_at hl 0 rfl) ?_
          refine g_get (C := RX1) (T := TX1) (N := 3) (v := .ref con) hx hb hts in_X1 hown hE hI hX0 rfl 2 (by decide) q145 (fun _ h9 => h9) rfl dX1_digest_96 ?_
          refine g_getN (C := RX2) (T := TX2) (N := 9) (v := .ref ld) hx hb hts in_X2 hown hE hI hcon rfl 7 (by decide) q120 (fun _ h9 => h9) rfl dX1_digest_99 ?_
          refine lv_iload_n hx hb dX1_digest_102 rfl (lv_at hl 2 rfl) ?_
          refine g_cr0 (G := G) (v := dA k) hS (va_runV (As := [.int (nI k)]) (rest := [.long (e3 * 31)]) ⟨hx, hb, hml, hown, hts⟩ (m_get l E G (1, 1, 0) (1, 2, 0) ld ed nd dA hld k hlk1) (cwV 1 hts (lw_V q165 q166 q167 q34 q168) rfl rfl rfl (by decide +kernel) ⟨Nat.le_of_ble_eq_true rfl, Nat.le_of_ble_eq_true rfl⟩) (g_preV hE hI (hld.recv hE hI)) rfl rfl hl.1 rfl (lv_room (Nat.le_of_ble_eq_true rfl)) dX1_digest_103 ⟨Nat.le_of_ble_eq_true rfl, Nat.le_of_ble_eq_true rfl⟩) (fun H locs hI hS => ?_)
          refine g_cast hx hb hts hown q255 hE hI (hd k hlk1) rfl rfl dX1_digest_106 ?_
          refine lv_iload hx hb dX1_digest_109 (lv_at hl 3 rfl) ?_
          refine g_ci0 (G := G) (v := toldV (dm k) (nI j)) hS (va_runS (As := [.ref (dA k), .int (nI j)]) (rest := [.long (e3 * 31)]) ⟨hx, hb, hml, hown, hts⟩ (m_dTold l E G (dA k) (1, 5, k) (dm k) (hd k hlk1) (nI j)) (va_cwS 2 hts (lw_S q256 q257 q31 q258) rfl rfl rfl (by decide +kernel) ⟨Nat.le_of_ble_eq_true rfl, Nat.le_of_ble_eq_true rfl⟩) (g_preS hE hI) rfl rfl hl.1 rfl (lv_room (Nat.le_of_ble_eq_true rfl)) dX1_digest_111 ⟨Nat.le_of_ble_eq_true rfl, Nat.le_of_ble_eq_true rfl⟩) (fun H locs hI hS => ?_)
          refine lv_i2l (v := (toldV (dm k) (nI j)).toInt64) hx hb dX1_digest_114 rfl ?_
          refine lv_ladd hx hb dX1_digest_115 ?_
          refine lv_lstore_n (lv' := [(1, .long ((e3 * 31) + (toldV (dm k) (nI j)).toInt64)), (0, .ref x), (3, .int (nI k)), (4, .int (nI j))]) hx hb dX1_digest_116 rfl hl (by decide) rfl (fun ls hl => ?_)
          refine lv_iinc (v := nI (j + 1)) (lv' := [(4, .int (nI (j + 1))), (1, .long ((e3 * 31) + (toldV (dm k) (nI j)).toInt64)), (0, .ref x), (3, .int (nI k))]) hx hb dX1_digest_117 hl (k := 3) rfl (nI_1 (j)) (by decide) rfl (fun ls hl => ?_)
          refine lv_goto (tgt := 84) hx hb dX1_digest_120 (by decide) ?_
          exact ih4 (j + 1) (e3 * 31 + (toldV (dm k) (nI j)).toInt64) _ _ _ (by omega) ⟨hlt, by rw [hy3, dgF], hI, hS, lv_sub hl [2, 1, 3, 0] rfl⟩
    · have hlt : i < 12 := (Nat.lt_or_ge i 12).elim id (fun z => absurd (nI_le (a := 12) (b := i) (by omega) (by omega)) c1)
      refine lv_lload_n hx hb dX1_digest_43 rfl (lv_at hl 1 rfl) ?_
      refine lv_ldc2 hx hb hown (hts _ q209) dX1_digest_44 ?_
      refine lv_lmul hx hb dX1_digest_47 ?_
      refine lv_aload_n hx hb dX1_digest_48 rfl (lv_at hl 0 rfl) ?_
      refine g_get (C := RX1) (T := TX1) (N := 3) (v := .ref con) hx hb hts in_X1 hown hE hI hX0 rfl 2 (by decide) q145 (fun _ h9 => h9) rfl dX1_digest_49 ?_
      refine lv_iload_n hx hb dX1_digest_52 rfl (lv_at hl 2 rfl) ?_
      refine g_ci0 (G := G) (v := glS dm (nI i) nd) hS (va_runV (As := [.int (nI i)]) (rest := [.long (d2 * 31)]) ⟨hx, hb, hml, hown, hts⟩ (m_glare l E G 1 (con, ld, lc, dA, kA) ((tk, ck, rn, an, sp, ln, lf), (nd, dm), (nc, km)) hR (nI i)) (cwV 1 hts (lw_V q188 q189 q190 q35 q191) rfl rfl rfl (by decide +kernel) ⟨Nat.le_of_ble_eq_true rfl, Nat.le_of_ble_eq_true rfl⟩) (g_preV hE hI (g_recv hE hI hcon rfl)) rfl rfl hl.1 rfl (lv_room (Nat.le_of_ble_eq_true rfl)) dX1_digest_53 ⟨Nat.le_of_ble_eq_true rfl, Nat.le_of_ble_eq_true rfl⟩) (fun H locs hI hS => ?_)
      refine lv_i2l (v := (glS dm (nI i) nd).toInt64) hx hb dX1_digest_56 rfl ?_
      refine lv_ladd hx hb dX1_digest_57 ?_
      refine lv_lstore_n (lv' := [(1, .long ((d2 * 31) + (glS dm (nI i) nd).toInt64)), (0, .ref x), (3, .int (nI i))]) hx hb dX1_digest_58 rfl hl (by decide) rfl (fun ls hl => ?_)
      refine lv_iinc (v := nI (i + 1)) (lv' := [(3, .int (nI (i + 1))), (1, .long ((d2 * 31) + (glS dm (nI i) nd).toInt64)), (0, .ref x)]) hx hb dX1_digest_59 hl (k := 2) rfl (nI_1 (i)) (by decide) rfl (fun ls hl => ?_)
      refine lv_goto (tgt := 37) hx hb dX1_digest_62 (by decide) ?_
      exact ih2 (i + 1) (d2 * 31 + (glS dm (nI i) nd).toInt64) _ _ _ (by omega) ⟨hlt, by rw [hz2, dgF], hI, hS, lv_sub hl [2, 1, 0] rfl⟩
  · have hlt : i < 13 := (Nat.lt_or_ge i 13).elim id (fun z => absurd (nI_le (a := 13) (b := i) (by omega) (by omega)) c1)
    refine lv_lload_n hx hb dX1_digest_12 rfl (lv_at hl 1 rfl) ?_
    refine lv_ldc2 hx hb hown (hts _ q209) dX1_digest_13 ?_
    refine lv_lmul hx hb dX1_digest_16 ?_
    refine lv_aload_n hx hb dX1_digest_17 rfl (lv_at hl 0 rfl) ?_
    refine lv_aload_n hx hb dX1_digest_18 rfl (lv_at hl 0 rfl) ?_
    refine g_get (C := RX1) (T := TX1) (N := 3) (v := .ref con) hx hb hts in_X1 hown hE hI hX0 rfl 2 (by decide) q145 (fun _ h9 => h9) rfl dX1_digest_19 ?_
    refine lv_iload_n hx hb dX1_digest_22 rfl (lv_at hl 2 rfl) ?_
    refine g_ci0 (G := G) (v := cntV ((tk, ck, rn, an, sp, ln, lf), (nd, dm), (nc, km)) nu ns st (nI i)) hS (va_runV (As := [.ref con, .int (nI i)]) (rest := [.long (d1 * 31)]) ⟨hx, hb, hml, hown, hts⟩ (m_counted l E G x ((con, ld, lc, dA, kA), (lu, uA), (lt, sA)) ((((tk, ck, rn, an, sp, ln, lf), (nd, dm), (nc, km)), (nu, uq), (ns, st)) : Sy) hXR 1 (con, ld, lc, dA, kA) ((tk, ck, rn, an, sp, ln, lf), (nd, dm), (nc, km)) hR (nI i)) (cwV 2 hts (lw_V q210 q212 qs0 q31 q213) rfl rfl rfl (by decide +kernel) ⟨Nat.le_of_ble_eq_true rfl, Nat.le_of_ble_eq_true rfl⟩) (g_preV hE hI (g_recv hE hI hX0 rfl)) rfl rfl hl.1 rfl (lv_room (Nat.le_of_ble_eq_true rfl)) dX1_digest_23 ⟨Nat.le_of_ble_eq_true rfl, Nat.le_of_ble_eq_true rfl⟩) (fun H locs hI hS => ?_)
    refine lv_i2l (v := (cntV ((tk, ck, rn, an, sp, ln, lf), (nd, dm), (nc, km)) nu ns st (nI i)).toInt64) hx hb dX1_digest_26 rfl ?_
    refine lv_ladd hx hb dX1_digest_27 ?_
    refine lv_lstore_n (lv' := [(1, .long ((d1 * 31) + (cntV ((tk, ck, rn, an, sp, ln, lf), (nd, dm), (nc, km)) nu ns st (nI i)).toInt64)), (0, .ref x), (3, .int (nI i))]) hx hb dX1_digest_28 rfl hl (by decide) rfl (fun ls hl => ?_)
    refine lv_iinc (v := nI (i + 1)) (lv' := [(3, .int (nI (i + 1))), (1, .long ((d1 * 31) + (cntV ((tk, ck, rn, an, sp, ln, lf), (nd, dm), (nc, km)) nu ns st (nI i)).toInt64)), (0, .ref x)]) hx hb dX1_digest_29 hl (k := 2) rfl (nI_1 (i)) (by decide) rfl (fun ls hl => ?_)
    refine lv_goto (tgt := 6) hx hb dX1_digest_32 (by decide) ?_
    exact ih1 (i + 1) (d1 * 31 + (cntV ((tk, ck, rn, an, sp, ln, lf), (nd, dm), (nc, km)) nu ns st (nI i)).toInt64) _ _ _ (by omega) ⟨hlt, by rw [hz1, dgF], hI, hS, lv_sub hl [2, 1, 0] rfl⟩
