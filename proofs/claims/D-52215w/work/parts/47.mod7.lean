/-! CONTRACT of the model's carryOut. Printed by gen/p47.py -/
set_option maxRecDepth 100000
set_option maxHeartbeats 4000000 in
set_option maxRecDepth 100000 in
theorem k_carry (l : Launch) (E : EnvT) (G : Gh) (y : Nat) (M : MA) (th : Int32) (σ : Sy) (hMR : MRep E G y M th σ) (hO : OkS σ) (i : Nat) (hi : i < σ.2.1.1) : Met l yX3_carryOut (ws_ yX3_carryOut cX3_carryOut 4 none) ({ frames := 1, cells := 0, slots := 0, locals := 23 } : Room) (cP E G [.ref y, .int (nI i)]) (cV E (fun G' => MRep E G' y M th (crun σ.1 (σ.2.1.2 i).2.1 (σ.2.1.2 i).2.2.1 (σ.2.1.2 i).2.2.2, σ.2) ∧ Fr (Ow 4) G G')) 0 0 (eA E) := by
  obtain ⟨la, sk, ta, sw, nb⟩ := M
  obtain ⟨⟨⟨tk, ck, rn, an, sp, ln, lf⟩, ⟨nd, dm⟩, ⟨nc, km⟩⟩, ⟨nu, uq⟩, ⟨ns, st⟩⟩ := σ
  refine g_met (rm := ({ frames := 1, cells := 0, slots := 0, locals := 23 } : Room)) (av := [.ref y, .int (nI i)]) (lv := [(0, .ref y), (1, .int (nI i))]) (by decide) (Nat.le_of_ble_eq_true rfl) rfl ?_
  intro p e s m below meth c ls hx hb hr hlk hml hin hts hown hE hI hL hS hl
  have hMR0 := hMR
  obtain ⟨hy, hla, hsk, hta, hsw, hnb⟩ := hMR0
  have hy : G y = some ((4, 0, 0), mO th (nI nd) (nI ns) (nI nu) la sk ta sw nb) := hy
  have hla : G la = some ((4, 1, 0), iO E 40 (lampF dm)) := hla
  have hsk : G sk = some ((4, 2, 0), iO E 40 (skyF st)) := hsk
  have hta : G ta = some ((4, 3, 0), iO E 36 (tailF km)) := hta
  have hsw : G sw = some ((4, 4, 0), iO E 96 (showF uq)) := hsw
  have hnb : G nb = some ((4, 5, 0), iO E 8 (numF (tk, ck, rn, an, sp, ln, lf) nc)) := hnb
  have hFr : Fr (Ow 4) G G := Fr.rf
  have hnd : nd ≤ 8 := hO.cn.nd
  have hnc : nc ≤ 12 := hO.cn.nc
  have hnu : nu ≤ 24 := hO.nu
  have hns : ns ≤ 20 := hO.ns
  have hi : i < nu := hi
  obtain ⟨⟨hk5, hk0⟩, -⟩ := hO.uq i hi
  have hk5 : (uq i).2.1 < 5 := hk5
  refine lv_aload_n hx hb dX3_carryOut_0 rfl (lv_at hl 0 rfl) ?_
  refine g_get (C := RX3) (T := TX3) (N := 9) (v := .ref sw) hx hb hts in_X3 hown hE hI hy rfl 7 (by decide) q850 (fun _ h9 => h9) rfl dX3_carryOut_1 ?_
  refine lv_iconst (v := 4) hx hb dX3_carryOut_4 (by decide) ?_
  refine lv_iload_n hx hb dX3_carryOut_5 rfl (lv_at hl 1 rfl) ?_
  refine lv_imul hx hb dX3_carryOut_6 ?_
  refine lv_iconst (v := 2) hx hb dX3_carryOut_7 (by decide) ?_
  refine lv_iadd hx hb dX3_carryOut_8 ?_
  refine g_iald hx hb hE hI hsw (i := ((4 * nI i) + 2)) (4 * i + 2) (ix 4 i 2) (by omega) (by decide) dX3_carryOut_9 ?_
  rw [showF_2]
  refine lv_istore_n (lv' := [(2, .int ((uq i).2.2.1)), (0, .ref y), (1, .int (nI i))]) hx hb dX3_carryOut_10 rfl hl (by decide) rfl (fun ls hl => ?_)
  refine lv_aload_n hx hb dX3_carryOut_11 rfl (lv_at hl 1 rfl) ?_
  refine g_get (C := RX3) (T := TX3) (N := 9) (v := .ref sw) hx hb hts in_X3 hown hE hI hy rfl 7 (by decide) q850 (fun _ h9 => h9) rfl dX3_carryOut_12 ?_
  refine lv_iconst (v := 4) hx hb dX3_carryOut_15 (by decide) ?_
  refine lv_iload_n hx hb dX3_carryOut_16 rfl (lv_at hl 2 rfl) ?_
  refine lv_imul hx hb dX3_carryOut_17 ?_
  refine lv_iconst (v := 3) hx hb dX3_carryOut_18 (by decide) ?_
  refine lv_iadd hx hb dX3_carryOut_19 ?_
  refine g_iald hx hb hE hI hsw (i := ((4 * nI i) + 3)) (4 * i + 3) (ix 4 i 3) (by omega) (by decide) dX3_carryOut_20 ?_
  rw [showF_3]
  refine lv_istore_n (lv' := [(3, .int ((uq i).2.2.2)), (2, .int ((uq i).2.2.1)), (0, .ref y), (1, .int (nI i))]) hx hb dX3_carryOut_21 rfl hl (by decide) rfl (fun ls hl => ?_)
  refine lv_aload_n hx hb dX3_carryOut_22 rfl (lv_at hl 2 rfl) ?_
  refine g_get (C := RX3) (T := TX3) (N := 9) (v := .ref sw) hx hb hts in_X3 hown hE hI hy rfl 7 (by decide) q850 (fun _ h9 => h9) rfl dX3_carryOut_23 ?_
  refine lv_iconst (v := 4) hx hb dX3_carryOut_26 (by decide) ?_
  refine lv_iload_n hx hb dX3_carryOut_27 rfl (lv_at hl 3 rfl) ?_
  refine lv_imul hx hb dX3_carryOut_28 ?_
  refine lv_iconst (v := 1) hx hb dX3_carryOut_29 (by decide) ?_
  refine lv_iadd hx hb dX3_carryOut_30 ?_
  refine g_iald hx hb hE hI hsw (i := ((4 * nI i) + 1)) (4 * i + 1) (ix 4 i 1) (by omega) (by decide) dX3_carryOut_31 ?_
  rw [showF_1]
  rcases (show (uq i).2.1 = 0 ∨ (uq i).2.1 = 1 ∨ (uq i).2.1 = 2 ∨ (uq i).2.1 = 3 ∨ (uq i).2.1 = 4 by omega) with hv9 | hv9 | hv9 | hv9 | hv9
  · rw [show nI (uq i).2.1 = 0 by rw [hv9]; rfl]
    have ec : ∀ z : Cn, crun z (uq i).2.1 (uq i).2.2.1 (uq i).2.2.2 = crun z 0 (uq i).2.2.1 (uq i).2.2.2 := fun z => by rw [hv9]
    refine lv_tableIn (tgt := 64) hx hb dX3_carryOut_32 (by decide) (by decide) rfl (by decide) ?_
    obtain ⟨j, hj, ej⟩ := hk0 hv9
    have hj : j < nd := hj
    have ej : (uq i).2.2.1 = nI j := ej
    have hl : lv_has ls 4 [(3, .int ((uq i).2.2.2)), (2, .int (nI j)), (0, .ref y), (1, .int (nI i))] := by rw [← ej]; exact hl
    refine lv_aload_n hx hb dX3_carryOut_64 rfl (lv_at hl 2 rfl) ?_
    refine lv_iload_n hx hb dX3_carryOut_65 rfl (lv_at hl 1 rfl) ?_
    refine lv_iconst (v := 2) hx hb dX3_carryOut_66 (by decide) ?_
    refine lv_iload_n hx hb dX3_carryOut_67 rfl (lv_at hl 0 rfl) ?_
    refine g_cv hS (va_runV (As := [.int (nI j), .int 2, .int ((uq i).2.2.2)]) (rest := []) ⟨hx, hb, hml, hown, hts⟩ (k_put l E G y (la, sk, ta, sw, nb) _ ((((tk, ck, rn, an, sp, ln, lf), (nd, dm), (nc, km)), (nu, uq), (ns, st)) : Sy) hMR j 2 ((uq i).2.2.2) (by omega) (by decide)) (cwV 3 hts (lw_V q900 q902 qs16 q36 q903) rfl rfl rfl (by decide +kernel) ⟨Nat.le_of_ble_eq_true rfl, Nat.le_of_ble_eq_true rfl⟩) (g_preV hE hI (g_recv hE hI hy rfl)) rfl rfl hl.1 rfl (lv_room (Nat.le_of_ble_eq_true rfl)) dX3_carryOut_68 ⟨Nat.le_of_ble_eq_true rfl, Nat.le_of_ble_eq_true rfl⟩) (fun G2 H locs hp hI hS => ?_)
    obtain ⟨hM2, hF2⟩ := hp
    have hFr := Fr.trans hFr hF2
    have e9 : crun ((tk, ck, rn, an, sp, ln, lf), (nd, dm), (nc, km)) 0 (uq i).2.2.1 (uq i).2.2.2 = (setDm ((((tk, ck, rn, an, sp, ln, lf), (nd, dm), (nc, km)), (nu, uq), (ns, st)) : Sy) j (putD (dm j) 2 (uq i).2.2.2)).1 := by unfold crun setDm; rw [ej]; dsimp only; rw [nI_clamp (by omega)]; rfl
    exact g_vret hx hb hr hlk hI hS dX3_carryOut_71 (Nat.le_of_ble_eq_true rfl) (Nat.le_of_ble_eq_true rfl) (⟨by show MRep E _ y (la, sk, ta, sw, nb) th (crun ((tk, ck, rn, an, sp, ln, lf), (nd, dm), (nc, km)) (uq i).2.1 (uq i).2.2.1 (uq i).2.2.2, (nu, uq), (ns, st)); rw [ec]; exact (by rw [e9]; exact hM2), hFr⟩)
  · rw [show nI (uq i).2.1 = 1 by rw [hv9]; rfl]
    have ec : ∀ z : Cn, crun z (uq i).2.1 (uq i).2.2.1 (uq i).2.2.2 = crun z 1 (uq i).2.2.1 (uq i).2.2.2 := fun z => by rw [hv9]
    refine lv_tableIn (tgt := 72) hx hb dX3_carryOut_32 (by decide) (by decide) rfl (by decide) ?_
    refine lv_aload_n hx hb dX3_carryOut_72 rfl (lv_at hl 2 rfl) ?_
    refine g_get (C := RX3) (T := TX3) (N := 9) (v := .ref nb) hx hb hts in_X3 hown hE hI hy rfl 8 (by decide) q851 (fun _ h9 => h9) rfl dX3_carryOut_73 ?_
    refine lv_bipush (v := 6) hx hb dX3_carryOut_76 (by decide) ?_
    refine lv_iload_n hx hb dX3_carryOut_78 rfl (lv_at hl 0 rfl) ?_
    refine g_iast hx hb hE hI hS hL hnb (i := 6) (x := (uq i).2.2.2) 6 rfl (by decide) (by decide) dX3_carryOut_79 (fun H locs hI hS => ?_)
    have hI : Inv E (gU G nb ((4, 5, 0), .inl (eC E 0, 8, .inl (numF (tk, ck, rn, an, (uq i).2.2.2, ln, lf) nc)))) H := by have z := hI; rw [numF_up6] at z; exact z
    have hy := gU_o (x := ((4, 5, 0), .inl (eC E 0, 8, .inl (numF (tk, ck, rn, an, (uq i).2.2.2, ln, lf) nc)))) hnb hy (by simp)
    have hla := gU_o (x := ((4, 5, 0), .inl (eC E 0, 8, .inl (numF (tk, ck, rn, an, (uq i).2.2.2, ln, lf) nc)))) hnb hla (by simp)
    have hsk := gU_o (x := ((4, 5, 0), .inl (eC E 0, 8, .inl (numF (tk, ck, rn, an, (uq i).2.2.2, ln, lf) nc)))) hnb hsk (by simp)
    have hta := gU_o (x := ((4, 5, 0), .inl (eC E 0, 8, .inl (numF (tk, ck, rn, an, (uq i).2.2.2, ln, lf) nc)))) hnb hta (by simp)
    have hsw := gU_o (x := ((4, 5, 0), .inl (eC E 0, 8, .inl (numF (tk, ck, rn, an, (uq i).2.2.2, ln, lf) nc)))) hnb hsw (by simp)
    have hFr : Fr (Ow 4) G (gU G nb ((4, 5, 0), .inl (eC E 0, 8, .inl (numF (tk, ck, rn, an, (uq i).2.2.2, ln, lf) nc)))) := Fr.trans hFr (Fr.put (x := ((4, 5, 0), .inl (eC E 0, 8, .inl (numF (tk, ck, rn, an, (uq i).2.2.2, ln, lf) nc)))) hnb rfl)
    have hnb : (gU G nb ((4, 5, 0), .inl (eC E 0, 8, .inl (numF (tk, ck, rn, an, (uq i).2.2.2, ln, lf) nc)))) nb = some ((4, 5, 0), .inl (eC E 0, 8, .inl (numF (tk, ck, rn, an, (uq i).2.2.2, ln, lf) nc))) := gU_self
    exact g_vret hx hb hr hlk hI hS dX3_carryOut_80 (Nat.le_of_ble_eq_true rfl) (Nat.le_of_ble_eq_true rfl) (⟨by show MRep E _ y (la, sk, ta, sw, nb) th (crun ((tk, ck, rn, an, sp, ln, lf), (nd, dm), (nc, km)) (uq i).2.1 (uq i).2.2.1 (uq i).2.2.2, (nu, uq), (ns, st)); rw [ec]; exact ⟨hy, hla, hsk, hta, hsw, hnb⟩, hFr⟩)
  · rw [show nI (uq i).2.1 = 2 by rw [hv9]; rfl]
    have ec : ∀ z : Cn, crun z (uq i).2.1 (uq i).2.2.1 (uq i).2.2.2 = crun z 2 (uq i).2.2.1 (uq i).2.2.2 := fun z => by rw [hv9]
    refine lv_tableIn (tgt := 81) hx hb dX3_carryOut_32 (by decide) (by decide) rfl (by decide) ?_
    refine lv_aload_n hx hb dX3_carryOut_81 rfl (lv_at hl 2 rfl) ?_
    refine g_get (C := RX3) (T := TX3) (N := 9) (v := .ref nb) hx hb hts in_X3 hown hE hI hy rfl 8 (by decide) q851 (fun _ h9 => h9) rfl dX3_carryOut_82 ?_
    refine lv_bipush (v := 7) hx hb dX3_carryOut_85 (by decide) ?_
    refine g_iald hx hb hE hI hnb (i := 7) 7 rfl (by decide) (by decide) dX3_carryOut_87 ?_
    rw [show numF (tk, ck, rn, an, sp, ln, lf) nc 7 = nI nc from rfl]
    refine lv_bipush (v := 12) hx hb dX3_carryOut_88 (by decide) ?_
    refine lv_icmp_ne (tgt := 94) hx hb dX3_carryOut_90 (by decide) (fun c1 => ?_) (fun c1 => ?_)
    · have hn : nc < 12 := Nat.lt_of_le_of_ne hnc (fun z => c1 (by rw [z]; rfl))
      have e9 : crun ((tk, ck, rn, an, sp, ln, lf), (nd, dm), (nc, km)) 2 (uq i).2.2.1 (uq i).2.2.2 = ((tk, ck, rn, an, sp, ln, lf), (nd, dm), (nc + 1, va_up km nc ((uq i).2.2.2, (uq i).2.2.1, 20))) := if_pos hn
      refine lv_aload_n hx hb dX3_carryOut_94 rfl (lv_at hl 2 rfl) ?_
      refine g_get (C := RX3) (T := TX3) (N := 9) (v := .ref ta) hx hb hts in_X3 hown hE hI hy rfl 6 (by decide) q849 (fun _ h9 => h9) rfl dX3_carryOut_95 ?_
      refine lv_iconst (v := 3) hx hb dX3_carryOut_98 (by decide) ?_
      refine lv_aload_n hx hb dX3_carryOut_99 rfl (lv_at hl 2 rfl) ?_
      refine g_get (C := RX3) (T := TX3) (N := 9) (v := .ref nb) hx hb hts in_X3 hown hE hI hy rfl 8 (by decide) q851 (fun _ h9 => h9) rfl dX3_carryOut_100 ?_
      refine lv_bipush (v := 7) hx hb dX3_carryOut_103 (by decide) ?_
      refine g_iald hx hb hE hI hnb (i := 7) 7 rfl (by decide) (by decide) dX3_carryOut_105 ?_
      rw [show numF (tk, ck, rn, an, sp, ln, lf) nc 7 = nI nc from rfl]
      refine lv_imul hx hb dX3_carryOut_106 ?_
      refine lv_iconst (v := 0) hx hb dX3_carryOut_107 (by decide) ?_
      refine lv_iadd hx hb dX3_carryOut_108 ?_
      refine lv_iload_n hx hb dX3_carryOut_109 rfl (lv_at hl 1 rfl) ?_
      refine g_iast hx hb hE hI hS hL hta (i := ((3 * nI nc) + 0)) (x := (uq i).2.2.1) (3 * nc + 0) (ix 3 nc 0) (by omega) (by decide) dX3_carryOut_110 (fun H locs hI hS => ?_)
      have hI : Inv E (gU G ta ((4, 3, 0), .inl (eC E 0, 36, .inl (tailF (va_up km nc (putK (km nc) 0 ((uq i).2.2.1))))))) H := by have z := hI; rw [tailF_up _ _ _ (by decide)] at z; exact z
      have hy := gU_o (x := ((4, 3, 0), .inl (eC E 0, 36, .inl (tailF (va_up km nc (putK (km nc) 0 ((uq i).2.2.1))))))) hta hy (by simp)
      have hla := gU_o (x := ((4, 3, 0), .inl (eC E 0, 36, .inl (tailF (va_up km nc (putK (km nc) 0 ((uq i).2.2.1))))))) hta hla (by simp)
      have hsk := gU_o (x := ((4, 3, 0), .inl (eC E 0, 36, .inl (tailF (va_up km nc (putK (km nc) 0 ((uq i).2.2.1))))))) hta hsk (by simp)
      have hsw := gU_o (x := ((4, 3, 0), .inl (eC E 0, 36, .inl (tailF (va_up km nc (putK (km nc) 0 ((uq i).2.2.1))))))) hta hsw (by simp)
      have hnb := gU_o (x := ((4, 3, 0), .inl (eC E 0, 36, .inl (tailF (va_up km nc (putK (km nc) 0 ((uq i).2.2.1))))))) hta hnb (by simp)
      have hFr : Fr (Ow 4) G (gU G ta ((4, 3, 0), .inl (eC E 0, 36, .inl (tailF (va_up km nc (putK (km nc) 0 ((uq i).2.2.1))))))) := Fr.trans hFr (Fr.put (x := ((4, 3, 0), .inl (eC E 0, 36, .inl (tailF (va_up km nc (putK (km nc) 0 ((uq i).2.2.1))))))) hta rfl)
      have hta : (gU G ta ((4, 3, 0), .inl (eC E 0, 36, .inl (tailF (va_up km nc (putK (km nc) 0 ((uq i).2.2.1))))))) ta = some ((4, 3, 0), .inl (eC E 0, 36, .inl (tailF (va_up km nc (putK (km nc) 0 ((uq i).2.2.1)))))) := gU_self
      refine lv_aload_n hx hb dX3_carryOut_111 rfl (lv_at hl 2 rfl) ?_
      refine g_get (C := RX3) (T := TX3) (N := 9) (v := .ref ta) hx hb hts in_X3 hown hE hI hy rfl 6 (by decide) q849 (fun _ h9 => h9) rfl dX3_carryOut_112 ?_
      refine lv_iconst (v := 3) hx hb dX3_carryOut_115 (by decide) ?_
      refine lv_aload_n hx hb dX3_carryOut_116 rfl (lv_at hl 2 rfl) ?_
      refine g_get (C := RX3) (T := TX3) (N := 9) (v := .ref nb) hx hb hts in_X3 hown hE hI hy rfl 8 (by decide) q851 (fun _ h9 => h9) rfl dX3_carryOut_117 ?_
      refine lv_bipush (v := 7) hx hb dX3_carryOut_120 (by decide) ?_
      refine g_iald hx hb hE hI hnb (i := 7) 7 rfl (by decide) (by decide) dX3_carryOut_122 ?_
      rw [show numF (tk, ck, rn, an, sp, ln, lf) nc 7 = nI nc from rfl]
      refine lv_imul hx hb dX3_carryOut_123 ?_
      refine lv_iconst (v := 1) hx hb dX3_carryOut_124 (by decide) ?_
      refine lv_iadd hx hb dX3_carryOut_125 ?_
      refine lv_iload_n hx hb dX3_carryOut_126 rfl (lv_at hl 0 rfl) ?_
      refine g_iast hx hb hE hI hS hL hta (i := ((3 * nI nc) + 1)) (x := (uq i).2.2.2) (3 * nc + 1) (ix 3 nc 1) (by omega) (by decide) dX3_carryOut_127 (fun H locs hI hS => ?_)
      have hI : Inv E (gU (gU G ta ((4, 3, 0), .inl (eC E 0, 36, .inl (tailF (va_up km nc (putK (km nc) 0 ((uq i).2.2.1))))))) ta ((4, 3, 0), .inl (eC E 0, 36, .inl (tailF (va_up (va_up km nc (putK (km nc) 0 ((uq i).2.2.1))) nc (putK ((va_up km nc (putK (km nc) 0 ((uq i).2.2.1))) nc) 1 ((uq i).2.2.2))))))) H := by have z := hI; rw [tailF_up _ _ _ (by decide)] at z; exact z
      have hy := gU_o (x := ((4, 3, 0), .inl (eC E 0, 36, .inl (tailF (va_up (va_up km nc (putK (km nc) 0 ((uq i).2.2.1))) nc (putK ((va_up km nc (putK (km nc) 0 ((uq i).2.2.1))) nc) 1 ((uq i).2.2.2))))))) hta hy (by simp)
      have hla := gU_o (x := ((4, 3, 0), .inl (eC E 0, 36, .inl (tailF (va_up (va_up km nc (putK (km nc) 0 ((uq i).2.2.1))) nc (putK ((va_up km nc (putK (km nc) 0 ((uq i).2.2.1))) nc) 1 ((uq i).2.2.2))))))) hta hla (by simp)
      have hsk := gU_o (x := ((4, 3, 0), .inl (eC E 0, 36, .inl (tailF (va_up (va_up km nc (putK (km nc) 0 ((uq i).2.2.1))) nc (putK ((va_up km nc (putK (km nc) 0 ((uq i).2.2.1))) nc) 1 ((uq i).2.2.2))))))) hta hsk (by simp)
      have hsw := gU_o (x := ((4, 3, 0), .inl (eC E 0, 36, .inl (tailF (va_up (va_up km nc (putK (km nc) 0 ((uq i).2.2.1))) nc (putK ((va_up km nc (putK (km nc) 0 ((uq i).2.2.1))) nc) 1 ((uq i).2.2.2))))))) hta hsw (by simp)
      have hnb := gU_o (x := ((4, 3, 0), .inl (eC E 0, 36, .inl (tailF (va_up (va_up km nc (putK (km nc) 0 ((uq i).2.2.1))) nc (putK ((va_up km nc (putK (km nc) 0 ((uq i).2.2.1))) nc) 1 ((uq i).2.2.2))))))) hta hnb (by simp)
      have hFr : Fr (Ow 4) G (gU (gU G ta ((4, 3, 0), .inl (eC E 0, 36, .inl (tailF (va_up km nc (putK (km nc) 0 ((uq i).2.2.1))))))) ta ((4, 3, 0), .inl (eC E 0, 36, .inl (tailF (va_up (va_up km nc (putK (km nc) 0 ((uq i).2.2.1))) nc (putK ((va_up km nc (putK (km nc) 0 ((uq i).2.2.1))) nc) 1 ((uq i).2.2.2))))))) := Fr.trans hFr (Fr.put (x := ((4, 3, 0), .inl (eC E 0, 36, .inl (tailF (va_up (va_up km nc (putK (km nc) 0 ((uq i).2.2.1))) nc (putK ((va_up km nc (putK (km nc) 0 ((uq i).2.2.1))) nc) 1 ((uq i).2.2.2))))))) hta rfl)
      have hta : (gU (gU G ta ((4, 3, 0), .inl (eC E 0, 36, .inl (tailF (va_up km nc (putK (km nc) 0 ((uq i).2.2.1))))))) ta ((4, 3, 0), .inl (eC E 0, 36, .inl (tailF (va_up (va_up km nc (putK (km nc) 0 ((uq i).2.2.1))) nc (putK ((va_up km nc (putK (km nc) 0 ((uq i).2.2.1))) nc) 1 ((uq i).2.2.2))))))) ta = some ((4, 3, 0), .inl (eC E 0, 36, .inl (tailF (va_up (va_up km nc (putK (km nc) 0 ((uq i).2.2.1))) nc (putK ((va_up km nc (putK (km nc) 0 ((uq i).2.2.1))) nc) 1 ((uq i).2.2.2)))))) := gU_self
      refine lv_aload_n hx hb dX3_carryOut_128 rfl (lv_at hl 2 rfl) ?_
      refine g_get (C := RX3) (T := TX3) (N := 9) (v := .ref ta) hx hb hts in_X3 hown hE hI hy rfl 6 (by decide) q849 (fun _ h9 => h9) rfl dX3_carryOut_129 ?_
      refine lv_iconst (v := 3) hx hb dX3_carryOut_132 (by decide) ?_
      refine lv_aload_n hx hb dX3_carryOut_133 rfl (lv_at hl 2 rfl) ?_
      refine g_get (C := RX3) (T := TX3) (N := 9) (v := .ref nb) hx hb hts in_X3 hown hE hI hy rfl 8 (by decide) q851 (fun _ h9 => h9) rfl dX3_carryOut_134 ?_
      refine lv_bipush (v := 7) hx hb dX3_carryOut_137 (by decide) ?_
      refine g_iald hx hb hE hI hnb (i := 7) 7 rfl (by decide) (by decide) dX3_carryOut_139 ?_
      rw [show numF (tk, ck, rn, an, sp, ln, lf) nc 7 = nI nc from rfl]
      refine lv_imul hx hb dX3_carryOut_140 ?_
      refine lv_iconst (v := 2) hx hb dX3_carryOut_141 (by decide) ?_
      refine lv_iadd hx hb dX3_carryOut_142 ?_
      refine lv_bipush (v := 20) hx hb dX3_carryOut_143 (by decide) ?_
      refine g_iast hx hb hE hI hS hL hta (i := ((3 * nI nc) + 2)) (x := 20) (3 * nc + 2) (ix 3 nc 2) (by omega) (by decide) dX3_carryOut_145 (fun H locs hI hS => ?_)
      have hI : Inv E (gU (gU (gU G ta ((4, 3, 0), .inl (eC E 0, 36, .inl (tailF (va_up km nc (putK (km nc) 0 ((uq i).2.2.1))))))) ta ((4, 3, 0), .inl (eC E 0, 36, .inl (tailF (va_up (va_up km nc (putK (km nc) 0 ((uq i).2.2.1))) nc (putK ((va_up km nc (putK (km nc) 0 ((uq i).2.2.1))) nc) 1 ((uq i).2.2.2))))))) ta ((4, 3, 0), .inl (eC E 0, 36, .inl (tailF (va_up (va_up (va_up km nc (putK (km nc) 0 ((uq i).2.2.1))) nc (putK ((va_up km nc (putK (km nc) 0 ((uq i).2.2.1))) nc) 1 ((uq i).2.2.2))) nc (putK ((va_up (va_up km nc (putK (km nc) 0 ((uq i).2.2.1))) nc (putK ((va_up km nc (putK (km nc) 0 ((uq i).2.2.1))) nc) 1 ((uq i).2.2.2))) nc) 2 20)))))) H := by have z := hI; rw [tailF_up _ _ _ (by decide)] at z; exact z
      have hy := gU_o (x := ((4, 3, 0), .inl (eC E 0, 36, .inl (tailF (va_up (va_up (va_up km nc (putK (km nc) 0 ((uq i).2.2.1))) nc (putK ((va_up km nc (putK (km nc) 0 ((uq i).2.2.1))) nc) 1 ((uq i).2.2.2))) nc (putK ((va_up (va_up km nc (putK (km nc) 0 ((uq i).2.2.1))) nc (putK ((va_up km nc (putK (km nc) 0 ((uq i).2.2.1))) nc) 1 ((uq i).2.2.2))) nc) 2 20)))))) hta hy (by simp)
      have hla := gU_o (x := ((4, 3, 0), .inl (eC E 0, 36, .inl (tailF (va_up (va_up (va_up km nc (putK (km nc) 0 ((uq i).2.2.1))) nc (putK ((va_up km nc (putK (km nc) 0 ((uq i).2.2.1))) nc) 1 ((uq i).2.2.2))) nc (putK ((va_up (va_up km nc (putK (km nc) 0 ((uq i).2.2.1))) nc (putK ((va_up km nc (putK (km nc) 0 ((uq i).2.2.1))) nc) 1 ((uq i).2.2.2))) nc) 2 20)))))) hta hla (by simp)
      have hsk := gU_o (x := ((4, 3, 0), .inl (eC E 0, 36, .inl (tailF (va_up (va_up (va_up km nc (putK (km nc) 0 ((uq i).2.2.1))) nc (putK ((va_up km nc (putK (km nc) 0 ((uq i).2.2.1))) nc) 1 ((uq i).2.2.2))) nc (putK ((va_up (va_up km nc (putK (km nc) 0 ((uq i).2.2.1))) nc (putK ((va_up km nc (putK (km nc) 0 ((uq i).2.2.1))) nc) 1 ((uq i).2.2.2))) nc) 2 20)))))) hta hsk (by simp)
      have hsw := gU_o (x := ((4, 3, 0), .inl (eC E 0, 36, .inl (tailF (va_up (va_up (va_up km nc (putK (km nc) 0 ((uq i).2.2.1))) nc (putK ((va_up km nc (putK (km nc) 0 ((uq i).2.2.1))) nc) 1 ((uq i).2.2.2))) nc (putK ((va_up (va_up km nc (putK (km nc) 0 ((uq i).2.2.1))) nc (putK ((va_up km nc (putK (km nc) 0 ((uq i).2.2.1))) nc) 1 ((uq i).2.2.2))) nc) 2 20)))))) hta hsw (by simp)
      have hnb := gU_o (x := ((4, 3, 0), .inl (eC E 0, 36, .inl (tailF (va_up (va_up (va_up km nc (putK (km nc) 0 ((uq i).2.2.1))) nc (putK ((va_up km nc (putK (km nc) 0 ((uq i).2.2.1))) nc) 1 ((uq i).2.2.2))) nc (putK ((va_up (va_up km nc (putK (km nc) 0 ((uq i).2.2.1))) nc (putK ((va_up km nc (putK (km nc) 0 ((uq i).2.2.1))) nc) 1 ((uq i).2.2.2))) nc) 2 20)))))) hta hnb (by simp)
      have hFr : Fr (Ow 4) G (gU (gU (gU G ta ((4, 3, 0), .inl (eC E 0, 36, .inl (tailF (va_up km nc (putK (km nc) 0 ((uq i).2.2.1))))))) ta ((4, 3, 0), .inl (eC E 0, 36, .inl (tailF (va_up (va_up km nc (putK (km nc) 0 ((uq i).2.2.1))) nc (putK ((va_up km nc (putK (km nc) 0 ((uq i).2.2.1))) nc) 1 ((uq i).2.2.2))))))) ta ((4, 3, 0), .inl (eC E 0, 36, .inl (tailF (va_up (va_up (va_up km nc (putK (km nc) 0 ((uq i).2.2.1))) nc (putK ((va_up km nc (putK (km nc) 0 ((uq i).2.2.1))) nc) 1 ((uq i).2.2.2))) nc (putK ((va_up (va_up km nc (putK (km nc) 0 ((uq i).2.2.1))) nc (putK ((va_up km nc (putK (km nc) 0 ((uq i).2.2.1))) nc) 1 ((uq i).2.2.2))) nc) 2 20)))))) := Fr.trans hFr (Fr.put (x := ((4, 3, 0), .inl (eC E 0, 36, .inl (tailF (va_up (va_up (va_up km nc (putK (km nc) 0 ((uq i).2.2.1))) nc (putK ((va_up km nc (putK (km nc) 0 ((uq i).2.2.1))) nc) 1 ((uq i).2.2.2))) nc (putK ((va_up (va_up km nc (putK (km nc) 0 ((uq i).2.2.1))) nc (putK ((va_up km nc (putK (km nc) 0 ((uq i).2.2.1))) nc) 1 ((uq i).2.2.2))) nc) 2 20)))))) hta rfl)
      have hta : (gU (gU (gU G ta ((4, 3, 0), .inl (eC E 0, 36, .inl (tailF (va_up km nc (putK (km nc) 0 ((uq i).2.2.1))))))) ta ((4, 3, 0), .inl (eC E 0, 36, .inl (tailF (va_up (va_up km nc (putK (km nc) 0 ((uq i).2.2.1))) nc (putK ((va_up km nc (putK (km nc) 0 ((uq i).2.2.1))) nc) 1 ((uq i).2.2.2))))))) ta ((4, 3, 0), .inl (eC E 0, 36, .inl (tailF (va_up (va_up (va_up km nc (putK (km nc) 0 ((uq i).2.2.1))) nc (putK ((va_up km nc (putK (km nc) 0 ((uq i).2.2.1))) nc) 1 ((uq i).2.2.2))) nc (putK ((va_up (va_up km nc (putK (km nc) 0 ((uq i).2.2.1))) nc (putK ((va_up km nc (putK (km nc) 0 ((uq i).2.2.1))) nc) 1 ((uq i).2.2.2))) nc) 2 20)))))) ta = some ((4, 3, 0), .inl (eC E 0, 36, .inl (tailF (va_up (va_up (va_up km nc (putK (km nc) 0 ((uq i).2.2.1))) nc (putK ((va_up km nc (putK (km nc) 0 ((uq i).2.2.1))) nc) 1 ((uq i).2.2.2))) nc (putK ((va_up (va_up km nc (putK (km nc) 0 ((uq i).2.2.1))) nc (putK ((va_up km nc (putK (km nc) 0 ((uq i).2.2.1))) nc) 1 ((uq i).2.2.2))) nc) 2 20))))) := gU_self
      refine lv_aload_n hx hb dX3_carryOut_146 rfl (lv_at hl 2 rfl) ?_
      refine g_get (C := RX3) (T := TX3) (N := 9) (v := .ref nb) hx hb hts in_X3 hown hE hI hy rfl 8 (by decide) q851 (fun _ h9 => h9) rfl dX3_carryOut_147 ?_
      refine lv_bipush (v := 7) hx hb dX3_carryOut_150 (by decide) ?_
      refine lv_dup2_11 hx hb dX3_carryOut_152 rfl rfl ?_
      refine g_iald hx hb hE hI hnb (i := 7) 7 rfl (by decide) (by decide) dX3_carryOut_153 ?_
      rw [show numF (tk, ck, rn, an, sp, ln, lf) nc 7 = nI nc from rfl]
      refine lv_iconst (v := 1) hx hb dX3_carryOut_154 (by decide) ?_
      refine lv_iadd hx hb dX3_carryOut_155 ?_
      refine g_iast hx hb hE hI hS hL hnb (i := 7) (x := (nI nc + 1)) 7 rfl (by decide) (by decide) dX3_carryOut_156 (fun H locs hI hS => ?_)
      have hI : Inv E (gU (gU (gU (gU G ta ((4, 3, 0), .inl (eC E 0, 36, .inl (tailF (va_up km nc (putK (km nc) 0 ((uq i).2.2.1))))))) ta ((4, 3, 0), .inl (eC E 0, 36, .inl (tailF (va_up (va_up km nc (putK (km nc) 0 ((uq i).2.2.1))) nc (putK ((va_up km nc (putK (km nc) 0 ((uq i).2.2.1))) nc) 1 ((uq i).2.2.2))))))) ta ((4, 3, 0), .inl (eC E 0, 36, .inl (tailF (va_up (va_up (va_up km nc (putK (km nc) 0 ((uq i).2.2.1))) nc (putK ((va_up km nc (putK (km nc) 0 ((uq i).2.2.1))) nc) 1 ((uq i).2.2.2))) nc (putK ((va_up (va_up km nc (putK (km nc) 0 ((uq i).2.2.1))) nc (putK ((va_up km nc (putK (km nc) 0 ((uq i).2.2.1))) nc) 1 ((uq i).2.2.2))) nc) 2 20)))))) nb ((4, 5, 0), .inl (eC E 0, 8, .inl (numF (tk, ck, rn, an, sp, ln, lf) (nc + 1))))) H := by have z := hI; rw [nI_1, numF_up7] at z; exact z
      have hy := gU_o (x := ((4, 5, 0), .inl (eC E 0, 8, .inl (numF (tk, ck, rn, an, sp, ln, lf) (nc + 1))))) hnb hy (by simp)
      have hla := gU_o (x := ((4, 5, 0), .inl (eC E 0, 8, .inl (numF (tk, ck, rn, an, sp, ln, lf) (nc + 1))))) hnb hla (by simp)
      have hsk := gU_o (x := ((4, 5, 0), .inl (eC E 0, 8, .inl (numF (tk, ck, rn, an, sp, ln, lf) (nc + 1))))) hnb hsk (by simp)
      have hta := gU_o (x := ((4, 5, 0), .inl (eC E 0, 8, .inl (numF (tk, ck, rn, an, sp, ln, lf) (nc + 1))))) hnb hta (by simp)
      have hsw := gU_o (x := ((4, 5, 0), .inl (eC E 0, 8, .inl (numF (tk, ck, rn, an, sp, ln, lf) (nc + 1))))) hnb hsw (by simp)
      have hFr : Fr (Ow 4) G (gU (gU (gU (gU G ta ((4, 3, 0), .inl (eC E 0, 36, .inl (tailF (va_up km nc (putK (km nc) 0 ((uq i).2.2.1))))))) ta ((4, 3, 0), .inl (eC E 0, 36, .inl (tailF (va_up (va_up km nc (putK (km nc) 0 ((uq i).2.2.1))) nc (putK ((va_up km nc (putK (km nc) 0 ((uq i).2.2.1))) nc) 1 ((uq i).2.2.2))))))) ta ((4, 3, 0), .inl (eC E 0, 36, .inl (tailF (va_up (va_up (va_up km nc (putK (km nc) 0 ((uq i).2.2.1))) nc (putK ((va_up km nc (putK (km nc) 0 ((uq i).2.2.1))) nc) 1 ((uq i).2.2.2))) nc (putK ((va_up (va_up km nc (putK (km nc) 0 ((uq i).2.2.1))) nc (putK ((va_up km nc (putK (km nc) 0 ((uq i).2.2.1))) nc) 1 ((uq i).2.2.2))) nc) 2 20)))))) nb ((4, 5, 0), .inl (eC E 0, 8, .inl (numF (tk, ck, rn, an, sp, ln, lf) (nc + 1))))) := Fr.trans hFr (Fr.put (x := ((4, 5, 0), .inl (eC E 0, 8, .inl (numF (tk, ck, rn, an, sp, ln, lf) (nc + 1))))) hnb rfl)
      have hnb : (gU (gU (gU (gU G ta ((4, 3, 0), .inl (eC E 0, 36, .inl (tailF (va_up km nc (putK (km nc) 0 ((uq i).2.2.1))))))) ta ((4, 3, 0), .inl (eC E 0, 36, .inl (tailF (va_up (va_up km nc (putK (km nc) 0 ((uq i).2.2.1))) nc (putK ((va_up km nc (putK (km nc) 0 ((uq i).2.2.1))) nc) 1 ((uq i).2.2.2))))))) ta ((4, 3, 0), .inl (eC E 0, 36, .inl (tailF (va_up (va_up (va_up km nc (putK (km nc) 0 ((uq i).2.2.1))) nc (putK ((va_up km nc (putK (km nc) 0 ((uq i).2.2.1))) nc) 1 ((uq i).2.2.2))) nc (putK ((va_up (va_up km nc (putK (km nc) 0 ((uq i).2.2.1))) nc (putK ((va_up km nc (putK (km nc) 0 ((uq i).2.2.1))) nc) 1 ((uq i).2.2.2))) nc) 2 20)))))) nb ((4, 5, 0), .inl (eC E 0, 8, .inl (numF (tk, ck, rn, an, sp, ln, lf) (nc + 1))))) nb = some ((4, 5, 0), .inl (eC E 0, 8, .inl (numF (tk, ck, rn, an, sp, ln, lf) (nc + 1)))) := gU_self
      have ek : tailF (va_up (va_up (va_up km nc (putK (km nc) 0 ((uq i).2.2.1))) nc (putK ((va_up km nc (putK (km nc) 0 ((uq i).2.2.1))) nc) 1 ((uq i).2.2.2))) nc (putK ((va_up (va_up km nc (putK (km nc) 0 ((uq i).2.2.1))) nc (putK ((va_up km nc (putK (km nc) 0 ((uq i).2.2.1))) nc) 1 ((uq i).2.2.2))) nc) 2 20)) = tailF (va_up km nc ((uq i).2.2.2, (uq i).2.2.1, 20)) := by simp only [va_up_self, va_up_up]; rfl
      exact g_vret hx hb hr hlk hI hS dX3_carryOut_157 (Nat.le_of_ble_eq_true rfl) (Nat.le_of_ble_eq_true rfl) (⟨by show MRep E _ y (la, sk, ta, sw, nb) th (crun ((tk, ck, rn, an, sp, ln, lf), (nd, dm), (nc, km)) (uq i).2.1 (uq i).2.2.1 (uq i).2.2.2, (nu, uq), (ns, st)); rw [ec, e9]; exact ⟨hy, hla, hsk, by show _ = some ((4, 3, 0), iO E 36 (tailF (va_up km nc ((uq i).2.2.2, (uq i).2.2.1, 20)))); rw [← ek]; exact hta, hsw, hnb⟩, hFr⟩)
    · have e9 : crun ((tk, ck, rn, an, sp, ln, lf), (nd, dm), (nc, km)) 2 (uq i).2.2.1 (uq i).2.2.2 = ((tk, ck, rn, an, sp, ln, lf), (nd, dm), (nc, km)) := if_neg (fun z => Nat.ne_of_lt z ((nI_eq (b := 12) (by omega) (by decide)).mp c1))
      exact g_vret hx hb hr hlk hI hS dX3_carryOut_93 (Nat.le_of_ble_eq_true rfl) (Nat.le_of_ble_eq_true rfl) (⟨by show MRep E _ y (la, sk, ta, sw, nb) th (crun ((tk, ck, rn, an, sp, ln, lf), (nd, dm), (nc, km)) (uq i).2.1 (uq i).2.2.1 (uq i).2.2.2, (nu, uq), (ns, st)); rw [ec]; exact (by rw [e9]; exact hMR), hFr⟩)
  · rw [show nI (uq i).2.1 = 3 by rw [hv9]; rfl]
    have ec : ∀ z : Cn, crun z (uq i).2.1 (uq i).2.2.1 (uq i).2.2.2 = crun z 3 (uq i).2.2.1 (uq i).2.2.2 := fun z => by rw [hv9]
    refine lv_tableIn (tgt := 158) hx hb dX3_carryOut_32 (by decide) (by decide) rfl (by decide) ?_
    refine lv_aload_n hx hb dX3_carryOut_158 rfl (lv_at hl 2 rfl) ?_
    refine g_get (C := RX3) (T := TX3) (N := 9) (v := .ref nb) hx hb hts in_X3 hown hE hI hy rfl 8 (by decide) q851 (fun _ h9 => h9) rfl dX3_carryOut_159 ?_
    refine lv_iconst (v := 3) hx hb dX3_carryOut_162 (by decide) ?_
    refine lv_iload_n hx hb dX3_carryOut_163 rfl (lv_at hl 1 rfl) ?_
    refine g_iast hx hb hE hI hS hL hnb (i := 3) (x := (uq i).2.2.1) 3 rfl (by decide) (by decide) dX3_carryOut_164 (fun H locs hI hS => ?_)
    have hI : Inv E (gU G nb ((4, 5, 0), .inl (eC E 0, 8, .inl (numF (tk, ck, rn, an, sp, (uq i).2.2.1, lf) nc)))) H := by have z := hI; rw [numF_up3] at z; exact z
    have hy := gU_o (x := ((4, 5, 0), .inl (eC E 0, 8, .inl (numF (tk, ck, rn, an, sp, (uq i).2.2.1, lf) nc)))) hnb hy (by simp)
    have hla := gU_o (x := ((4, 5, 0), .inl (eC E 0, 8, .inl (numF (tk, ck, rn, an, sp, (uq i).2.2.1, lf) nc)))) hnb hla (by simp)
    have hsk := gU_o (x := ((4, 5, 0), .inl (eC E 0, 8, .inl (numF (tk, ck, rn, an, sp, (uq i).2.2.1, lf) nc)))) hnb hsk (by simp)
    have hta := gU_o (x := ((4, 5, 0), .inl (eC E 0, 8, .inl (numF (tk, ck, rn, an, sp, (uq i).2.2.1, lf) nc)))) hnb hta (by simp)
    have hsw := gU_o (x := ((4, 5, 0), .inl (eC E 0, 8, .inl (numF (tk, ck, rn, an, sp, (uq i).2.2.1, lf) nc)))) hnb hsw (by simp)
    have hFr : Fr (Ow 4) G (gU G nb ((4, 5, 0), .inl (eC E 0, 8, .inl (numF (tk, ck, rn, an, sp, (uq i).2.2.1, lf) nc)))) := Fr.trans hFr (Fr.put (x := ((4, 5, 0), .inl (eC E 0, 8, .inl (numF (tk, ck, rn, an, sp, (uq i).2.2.1, lf) nc)))) hnb rfl)
    have hnb : (gU G nb ((4, 5, 0), .inl (eC E 0, 8, .inl (numF (tk, ck, rn, an, sp, (uq i).2.2.1, lf) nc)))) nb = some ((4, 5, 0), .inl (eC E 0, 8, .inl (numF (tk, ck, rn, an, sp, (uq i).2.2.1, lf) nc))) := gU_self
    refine lv_aload_n hx hb dX3_carryOut_165 rfl (lv_at hl 2 rfl) ?_
    refine g_get (C := RX3) (T := TX3) (N := 9) (v := .ref nb) hx hb hts in_X3 hown hE hI hy rfl 8 (by decide) q851 (fun _ h9 => h9) rfl dX3_carryOut_166 ?_
    refine lv_iconst (v := 4) hx hb dX3_carryOut_169 (by decide) ?_
    refine lv_iload_n hx hb dX3_carryOut_170 rfl (lv_at hl 0 rfl) ?_
    refine g_iast hx hb hE hI hS hL hnb (i := 4) (x := (uq i).2.2.2) 4 rfl (by decide) (by decide) dX3_carryOut_171 (fun H locs hI hS => ?_)
    have hI : Inv E (gU (gU G nb ((4, 5, 0), .inl (eC E 0, 8, .inl (numF (tk, ck, rn, an, sp, (uq i).2.2.1, lf) nc)))) nb ((4, 5, 0), .inl (eC E 0, 8, .inl (numF (tk, ck, rn, an, sp, (uq i).2.2.1, (uq i).2.2.2) nc)))) H := by have z := hI; rw [numF_up4] at z; exact z
    have hy := gU_o (x := ((4, 5, 0), .inl (eC E 0, 8, .inl (numF (tk, ck, rn, an, sp, (uq i).2.2.1, (uq i).2.2.2) nc)))) hnb hy (by simp)
    have hla := gU_o (x := ((4, 5, 0), .inl (eC E 0, 8, .inl (numF (tk, ck, rn, an, sp, (uq i).2.2.1, (uq i).2.2.2) nc)))) hnb hla (by simp)
    have hsk := gU_o (x := ((4, 5, 0), .inl (eC E 0, 8, .inl (numF (tk, ck, rn, an, sp, (uq i).2.2.1, (uq i).2.2.2) nc)))) hnb hsk (by simp)
    have hta := gU_o (x := ((4, 5, 0), .inl (eC E 0, 8, .inl (numF (tk, ck, rn, an, sp, (uq i).2.2.1, (uq i).2.2.2) nc)))) hnb hta (by simp)
    have hsw := gU_o (x := ((4, 5, 0), .inl (eC E 0, 8, .inl (numF (tk, ck, rn, an, sp, (uq i).2.2.1, (uq i).2.2.2) nc)))) hnb hsw (by simp)
    have hFr : Fr (Ow 4) G (gU (gU G nb ((4, 5, 0), .inl (eC E 0, 8, .inl (numF (tk, ck, rn, an, sp, (uq i).2.2.1, lf) nc)))) nb ((4, 5, 0), .inl (eC E 0, 8, .inl (numF (tk, ck, rn, an, sp, (uq i).2.2.1, (uq i).2.2.2) nc)))) := Fr.trans hFr (Fr.put (x := ((4, 5, 0), .inl (eC E 0, 8, .inl (numF (tk, ck, rn, an, sp, (uq i).2.2.1, (uq i).2.2.2) nc)))) hnb rfl)
    have hnb : (gU (gU G nb ((4, 5, 0), .inl (eC E 0, 8, .inl (numF (tk, ck, rn, an, sp, (uq i).2.2.1, lf) nc)))) nb ((4, 5, 0), .inl (eC E 0, 8, .inl (numF (tk, ck, rn, an, sp, (uq i).2.2.1, (uq i).2.2.2) nc)))) nb = some ((4, 5, 0), .inl (eC E 0, 8, .inl (numF (tk, ck, rn, an, sp, (uq i).2.2.1, (uq i).2.2.2) nc))) := gU_self
    exact g_vret hx hb hr hlk hI hS dX3_carryOut_172 (Nat.le_of_ble_eq_true rfl) (Nat.le_of_ble_eq_true rfl) (⟨by show MRep E _ y (la, sk, ta, sw, nb) th (crun ((tk, ck, rn, an, sp, ln, lf), (nd, dm), (nc, km)) (uq i).2.1 (uq i).2.2.1 (uq i).2.2.2, (nu, uq), (ns, st)); rw [ec]; exact ⟨hy, hla, hsk, hta, hsw, hnb⟩, hFr⟩)
  · rw [show nI (uq i).2.1 = 4 by rw [hv9]; rfl]
    have ec : ∀ z : Cn, crun z (uq i).2.1 (uq i).2.2.1 (uq i).2.2.2 = crun z 4 (uq i).2.2.1 (uq i).2.2.2 := fun z => by rw [hv9]
    refine lv_tableOut (tgt := 173) hx hb dX3_carryOut_32 (by decide) (by decide) ?_
    refine lv_aload_n hx hb dX3_carryOut_173 rfl (lv_at hl 2 rfl) ?_
    refine g_get (C := RX3) (T := TX3) (N := 9) (v := .ref nb) hx hb hts in_X3 hown hE hI hy rfl 8 (by decide) q851 (fun _ h9 => h9) rfl dX3_carryOut_174 ?_
    refine lv_iconst (v := 2) hx hb dX3_carryOut_177 (by decide) ?_
    refine lv_iconst (v := 0) hx hb dX3_carryOut_178 (by decide) ?_
    refine g_iast hx hb hE hI hS hL hnb (i := 2) (x := 0) 2 rfl (by decide) (by decide) dX3_carryOut_179 (fun H locs hI hS => ?_)
    have hI : Inv E (gU G nb ((4, 5, 0), .inl (eC E 0, 8, .inl (numF (tk, ck, 0, an, sp, ln, lf) nc)))) H := by have z := hI; rw [numF_up2] at z; exact z
    have hy := gU_o (x := ((4, 5, 0), .inl (eC E 0, 8, .inl (numF (tk, ck, 0, an, sp, ln, lf) nc)))) hnb hy (by simp)
    have hla := gU_o (x := ((4, 5, 0), .inl (eC E 0, 8, .inl (numF (tk, ck, 0, an, sp, ln, lf) nc)))) hnb hla (by simp)
    have hsk := gU_o (x := ((4, 5, 0), .inl (eC E 0, 8, .inl (numF (tk, ck, 0, an, sp, ln, lf) nc)))) hnb hsk (by simp)
    have hta := gU_o (x := ((4, 5, 0), .inl (eC E 0, 8, .inl (numF (tk, ck, 0, an, sp, ln, lf) nc)))) hnb hta (by simp)
    have hsw := gU_o (x := ((4, 5, 0), .inl (eC E 0, 8, .inl (numF (tk, ck, 0, an, sp, ln, lf) nc)))) hnb hsw (by simp)
    have hFr : Fr (Ow 4) G (gU G nb ((4, 5, 0), .inl (eC E 0, 8, .inl (numF (tk, ck, 0, an, sp, ln, lf) nc)))) := Fr.trans hFr (Fr.put (x := ((4, 5, 0), .inl (eC E 0, 8, .inl (numF (tk, ck, 0, an, sp, ln, lf) nc)))) hnb rfl)
    have hnb : (gU G nb ((4, 5, 0), .inl (eC E 0, 8, .inl (numF (tk, ck, 0, an, sp, ln, lf) nc)))) nb = some ((4, 5, 0), .inl (eC E 0, 8, .inl (numF (tk, ck, 0, an, sp, ln, lf) nc))) := gU_self
    exact g_vret hx hb hr hlk hI hS dX3_carryOut_180 (Nat.le_of_ble_eq_true rfl) (Nat.le_of_ble_eq_true rfl) (⟨by show MRep E _ y (la, sk, ta, sw, nb) th (crun ((tk, ck, rn, an, sp, ln, lf), (nd, dm), (nc, km)) (uq i).2.1 (uq i).2.2.1 (uq i).2.2.2, (nu, uq), (ns, st)); rw [ec]; exact ⟨hy, hla, hsk, hta, hsw, hnb⟩, hFr⟩)
