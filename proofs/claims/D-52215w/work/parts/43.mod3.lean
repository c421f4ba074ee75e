/-! CONTRACTS of the model's next, when, darkest, mean, digest. Printed by gen/p43.py -/
set_option maxRecDepth 100000
set_option maxHeartbeats 4000000 in
set_option maxRecDepth 100000 in
theorem k_next (l : Launch) (E : EnvT) (G : Gh) (y : Nat) (M : MA) (th : Int32) (σ : Sy) (hMR : MRep E G y M th σ) (hO : OkS σ) : Met l yX3_next (ws_ yX3_next cX3_next 3 (some .int)) ({ frames := 0, cells := 0, slots := 0, locals := 0 } : Room) (cP E G [.ref y]) (cI E (fun r G' => r = nxS σ.2.1.2 σ.1.1.2.1 σ.2.1.1 ∧ MRep E G' y M 0 σ ∧ Fr (Ow 4) G G')) 0 0 (eA E) := by
  obtain ⟨la, sk, ta, sw, nb⟩ := M
  obtain ⟨⟨⟨tk, ck, rn, an, sp, ln, lf⟩, ⟨nd, dm⟩, ⟨nc, km⟩⟩, ⟨nu, uq⟩, ⟨ns, st⟩⟩ := σ
  refine g_met (rm := ({ frames := 0, cells := 0, slots := 0, locals := 0 } : Room)) (av := [.ref y]) (lv := [(0, .ref y)]) (by decide) (Nat.le_of_ble_eq_true rfl) rfl ?_
  intro p e s m below meth c ls hx hb hr hlk hml hin hts hown hE hI hL hS hl
  have hMR0 := hMR
  obtain ⟨hy, hla, hsk, hta, hsw, hnb⟩ := hMR0
  have hy : G y = some ((4, 0, 0), mO th (nI nd) (nI ns) (nI nu) la sk ta sw nb) := hy
  have hla : G la = some ((4, 1, 0), iO E 40 (lampF dm)) := hla
  have hsk : G sk = some ((4, 2, 0), iO E 40 (skyF st)) := hsk
  have hta : G ta = some ((4, 3, 0), iO E 36 (tailF km)) := hta
  have hsw : G sw = some ((4, 4, 0), iO E 96 (showF uq)) := hsw
  have hnb : G nb = some ((4, 5, 0), iO E 8 (numF (tk, ck, rn, an, sp, ln, lf) nc)) := hnb
  have hFr : Fr (Ow 4) G G := Fr.rf
  refine lv_aload_n hx hb dX3_next_0 rfl (lv_at hl 0 rfl) ?_
  refine lv_iconst (v := 0) hx hb dX3_next_1 (by decide) ?_
  refine g_put (C := RX3) (T := TX3) (N := 9) (v := .int 0) (ty := .int) (fs' := [.int 0, .int (nI nd), .int (nI ns), .int (nI nu), .ref la, .ref sk, .ref ta, .ref sw, .ref nb]) hx hb hts in_X3 tyX3 tyX3_ok nmX3 hown hE hI hS hL hy rfl 0 (by decide) q843 (fun _ h9 => h9) rfl (by decide +kernel) rfl rfl (Nat.le_of_ble_eq_true rfl) rfl dX3_next_2 (fun H locs hI hS => ?_)
  have hla := gU_o (x := ((4, 0, 0), .inr (7, [.int 0, .int (nI nd), .int (nI ns), .int (nI nu), .ref la, .ref sk, .ref ta, .ref sw, .ref nb]))) hy hla (by simp)
  have hsk := gU_o (x := ((4, 0, 0), .inr (7, [.int 0, .int (nI nd), .int (nI ns), .int (nI nu), .ref la, .ref sk, .ref ta, .ref sw, .ref nb]))) hy hsk (by simp)
  have hta := gU_o (x := ((4, 0, 0), .inr (7, [.int 0, .int (nI nd), .int (nI ns), .int (nI nu), .ref la, .ref sk, .ref ta, .ref sw, .ref nb]))) hy hta (by simp)
  have hsw := gU_o (x := ((4, 0, 0), .inr (7, [.int 0, .int (nI nd), .int (nI ns), .int (nI nu), .ref la, .ref sk, .ref ta, .ref sw, .ref nb]))) hy hsw (by simp)
  have hnb := gU_o (x := ((4, 0, 0), .inr (7, [.int 0, .int (nI nd), .int (nI ns), .int (nI nu), .ref la, .ref sk, .ref ta, .ref sw, .ref nb]))) hy hnb (by simp)
  have hFr : Fr (Ow 4) G (gU G y ((4, 0, 0), .inr (7, [.int 0, .int (nI nd), .int (nI ns), .int (nI nu), .ref la, .ref sk, .ref ta, .ref sw, .ref nb]))) := Fr.trans hFr (Fr.put (x := ((4, 0, 0), .inr (7, [.int 0, .int (nI nd), .int (nI ns), .int (nI nu), .ref la, .ref sk, .ref ta, .ref sw, .ref nb]))) hy rfl)
  have hy : (gU G y ((4, 0, 0), .inr (7, [.int 0, .int (nI nd), .int (nI ns), .int (nI nu), .ref la, .ref sk, .ref ta, .ref sw, .ref nb]))) y = some ((4, 0, 0), .inr (7, [.int 0, .int (nI nd), .int (nI ns), .int (nI nu), .ref la, .ref sk, .ref ta, .ref sw, .ref nb])) := gU_self
  obtain ⟨G0, hMR, hFr, hI⟩ : ∃ G0, MRep E G0 y (la, sk, ta, sw, nb) 0 ((((tk, ck, rn, an, sp, ln, lf), (nd, dm), (nc, km)), (nu, uq), (ns, st)) : Sy) ∧ Fr (Ow 4) G G0 ∧ Inv E G0 H := ⟨_, ⟨hy, hla, hsk, hta, hsw, hnb⟩, hFr, hI⟩
  have hMR0 := hMR
  obtain ⟨hy, hla, hsk, hta, hsw, hnb⟩ := hMR0
  have hy : G0 y = some ((4, 0, 0), mO 0 (nI nd) (nI ns) (nI nu) la sk ta sw nb) := hy
  have hla : G0 la = some ((4, 1, 0), iO E 40 (lampF dm)) := hla
  have hsk : G0 sk = some ((4, 2, 0), iO E 40 (skyF st)) := hsk
  have hta : G0 ta = some ((4, 3, 0), iO E 36 (tailF km)) := hta
  have hsw : G0 sw = some ((4, 4, 0), iO E 96 (showF uq)) := hsw
  have hnb : G0 nb = some ((4, 5, 0), iO E 8 (numF (tk, ck, rn, an, sp, ln, lf) nc)) := hnb
  have hnd : nd ≤ 8 := hO.cn.nd
  have hnc : nc ≤ 12 := hO.cn.nc
  have hnu : nu ≤ 24 := hO.nu
  have hns : ns ≤ 20 := hO.ns
  refine lv_iconst (v := -1) hx hb dX3_next_5 (by decide) ?_
  refine lv_istore_n (lv' := [(1, .int (-1)), (0, .ref y)]) hx hb dX3_next_6 rfl hl (by decide) rfl (fun ls hl => ?_)
  refine lv_iconst (v := 0) hx hb dX3_next_7 (by decide) ?_
  refine lv_istore_n (lv' := [(2, .int 0), (1, .int (-1)), (0, .ref y)]) hx hb dX3_next_8 rfl hl (by decide) rfl (fun ls hl => ?_)
  refine g_loop1 (A1 := Nat) (fun i H locs ls => i ≤ nu ∧ Inv E G0 H ∧ va_S (eA E) s.heap H locs ∧ lv_has ls 3 [(0, .ref y), (1, .int (nxS uq ck i)), (2, .int (nI i))]) (fun i => 0) (fun i => 0) (fun i => nu - i) ?_ 0 _ _ _ ⟨Nat.zero_le _, hI, hS, lv_sub hl [2, 1, 0] rfl⟩
  intro i ih2 H locs ls hst
  obtain ⟨hi, hI, hS, hl⟩ := hst
  refine lv_iload_n hx hb dX3_next_9 rfl (lv_at hl 2 rfl) ?_
  refine lv_aload_n hx hb dX3_next_10 rfl (lv_at hl 0 rfl) ?_
  refine g_get (C := RX3) (T := TX3) (N := 9) (v := .int (nI nu)) hx hb hts in_X3 hown hE hI hy rfl 3 (by decide) q846 (fun _ h9 => h9) rfl dX3_next_11 ?_
  refine lv_icmp_ge (tgt := 72) hx hb dX3_next_14 (by decide) (fun c1 => ?_) (fun c1 => ?_)
  · have ei : i = nu := (Nat.lt_or_ge i nu).elim (fun z => absurd c1 (nI_ge z (by omega))) (fun z => by omega)
    refine lv_iload_n hx hb dX3_next_72 rfl (lv_at hl 1 rfl) ?_
    exact g_iret hx hb hr hlk hI hS dX3_next_73 (Nat.le_of_ble_eq_true rfl) (Nat.le_of_ble_eq_true rfl) (⟨by rw [ei], hMR, hFr⟩)
  · have hlt : i < nu := (Nat.lt_or_ge i nu).elim id (fun z => absurd (nI_le z (by omega)) c1)
    have hn1 : nxS uq ck (i + 1) = if (uq i).1 < ck then nxS uq ck i else if nxS uq ck i = -1 then nI i else if (uq (nxS uq ck i).toNatClampNeg).1 ≤ (uq i).1 then nxS uq ck i else nI i := rfl
    refine lv_aload_n hx hb dX3_next_17 rfl (lv_at hl 0 rfl) ?_
    refine g_get (C := RX3) (T := TX3) (N := 9) (v := .ref sw) hx hb hts in_X3 hown hE hI hy rfl 7 (by decide) q850 (fun _ h9 => h9) rfl dX3_next_18 ?_
    refine lv_iconst (v := 4) hx hb dX3_next_21 (by decide) ?_
    refine lv_iload_n hx hb dX3_next_22 rfl (lv_at hl 2 rfl) ?_
    refine lv_imul hx hb dX3_next_23 ?_
    refine lv_iconst (v := 0) hx hb dX3_next_24 (by decide) ?_
    refine lv_iadd hx hb dX3_next_25 ?_
    refine g_iald hx hb hE hI hsw (i := ((4 * nI i) + 0)) (4 * i + 0) (ix 4 i 0) (by omega) (by decide) dX3_next_26 ?_
    rw [showF_0]
    refine lv_aload_n hx hb dX3_next_27 rfl (lv_at hl 0 rfl) ?_
    refine g_get (C := RX3) (T := TX3) (N := 9) (v := .ref nb) hx hb hts in_X3 hown hE hI hy rfl 8 (by decide) q851 (fun _ h9 => h9) rfl dX3_next_28 ?_
    refine lv_iconst (v := 1) hx hb dX3_next_31 (by decide) ?_
    refine g_iald hx hb hE hI hnb (i := 1) 1 rfl (by decide) (by decide) dX3_next_32 ?_
    rw [show numF (tk, ck, rn, an, sp, ln, lf) nc 1 = ck from rfl]
    refine lv_icmp_lt (tgt := 66) hx hb dX3_next_33 (by decide) (fun c2 => ?_) (fun c2 => ?_)
    · rw [if_pos c2] at hn1
      refine lv_iinc (v := nI (i + 1)) (lv' := [(2, .int (nI (i + 1))), (0, .ref y), (1, .int (nxS uq ck i))]) hx hb dX3_next_66 hl (k := 2) rfl (nI_1 (i)) (by decide) rfl (fun ls hl => ?_)
      refine lv_goto (tgt := 9) hx hb dX3_next_69 (by decide) ?_
      have hl : lv_has ls 3 [(2, .int (nI (i + 1))), (0, .ref y), (1, .int (nxS uq ck (i + 1)))] := by rw [hn1]; exact hl
      exact ih2 (i + 1) _ _ _ (by omega) ⟨hlt, hI, hS, lv_sub hl [1, 2, 0] rfl⟩
    · rw [if_neg c2] at hn1
      refine lv_iload_n hx hb dX3_next_36 rfl (lv_at hl 1 rfl) ?_
      refine lv_iconst (v := -1) hx hb dX3_next_37 (by decide) ?_
      refine lv_icmp_eq (tgt := 64) hx hb dX3_next_38 (by decide) (fun c3 => ?_) (fun c3 => ?_)
      · rw [if_pos c3] at hn1
        refine lv_iload_n hx hb dX3_next_64 rfl (lv_at hl 2 rfl) ?_
        refine lv_istore_n (lv' := [(1, .int (nI i)), (0, .ref y), (2, .int (nI i))]) hx hb dX3_next_65 rfl hl (by decide) rfl (fun ls hl => ?_)
        refine lv_iinc (v := nI (i + 1)) (lv' := [(2, .int (nI (i + 1))), (1, .int (nI i)), (0, .ref y)]) hx hb dX3_next_66 hl (k := 2) rfl (nI_1 (i)) (by decide) rfl (fun ls hl => ?_)
        refine lv_goto (tgt := 9) hx hb dX3_next_69 (by decide) ?_
        have hl : lv_has ls 3 [(2, .int (nI (i + 1))), (1, .int (nxS uq ck (i + 1))), (0, .ref y)] := by rw [hn1]; exact hl
        exact ih2 (i + 1) _ _ _ (by omega) ⟨hlt, hI, hS, lv_sub hl [2, 1, 0] rfl⟩
      · rw [if_neg c3] at hn1
        obtain ⟨j, hj, ej⟩ := (nxS_in uq ck i).resolve_left c3
        have hju : j < nu := by omega
        have hcl : (nxS uq ck i).toNatClampNeg = j := by rw [ej]; exact nI_clamp (by omega)
        rw [hcl] at hn1
        refine lv_aload_n hx hb dX3_next_41 rfl (lv_at hl 0 rfl) ?_
        refine g_get (C := RX3) (T := TX3) (N := 9) (v := .ref sw) hx hb hts in_X3 hown hE hI hy rfl 7 (by decide) q850 (fun _ h9 => h9) rfl dX3_next_42 ?_
        refine lv_iconst (v := 4) hx hb dX3_next_45 (by decide) ?_
        refine lv_iload_n hx hb dX3_next_46 rfl (lv_at hl 2 rfl) ?_
        refine lv_imul hx hb dX3_next_47 ?_
        refine lv_iconst (v := 0) hx hb dX3_next_48 (by decide) ?_
        refine lv_iadd hx hb dX3_next_49 ?_
        refine g_iald hx hb hE hI hsw (i := ((4 * nI i) + 0)) (4 * i + 0) (ix 4 i 0) (by omega) (by decide) dX3_next_50 ?_
        rw [showF_0]
        refine lv_aload_n hx hb dX3_next_51 rfl (lv_at hl 0 rfl) ?_
        refine g_get (C := RX3) (T := TX3) (N := 9) (v := .ref sw) hx hb hts in_X3 hown hE hI hy rfl 7 (by decide) q850 (fun _ h9 => h9) rfl dX3_next_52 ?_
        refine lv_iconst (v := 4) hx hb dX3_next_55 (by decide) ?_
        refine lv_iload_n hx hb dX3_next_56 rfl (lv_at hl 1 rfl) ?_
        rw [ej]
        refine lv_imul hx hb dX3_next_57 ?_
        refine lv_iconst (v := 0) hx hb dX3_next_58 (by decide) ?_
        refine lv_iadd hx hb dX3_next_59 ?_
        refine g_iald hx hb hE hI hsw (i := ((4 * nI j) + 0)) (4 * j + 0) (ix 4 j 0) (by omega) (by decide) dX3_next_60 ?_
        rw [showF_0]
        refine lv_icmp_ge (tgt := 66) hx hb dX3_next_61 (by decide) (fun c4 => ?_) (fun c4 => ?_)
        · rw [if_pos c4] at hn1
          refine lv_iinc (v := nI (i + 1)) (lv' := [(2, .int (nI (i + 1))), (0, .ref y), (1, .int (nxS uq ck i))]) hx hb dX3_next_66 hl (k := 2) rfl (nI_1 (i)) (by decide) rfl (fun ls hl => ?_)
          refine lv_goto (tgt := 9) hx hb dX3_next_69 (by decide) ?_
          have hl : lv_has ls 3 [(2, .int (nI (i + 1))), (0, .ref y), (1, .int (nxS uq ck (i + 1)))] := by rw [hn1]; exact hl
          exact ih2 (i + 1) _ _ _ (by omega) ⟨hlt, hI, hS, lv_sub hl [1, 2, 0] rfl⟩
        · rw [if_neg c4] at hn1
          refine lv_iload_n hx hb dX3_next_64 rfl (lv_at hl 2 rfl) ?_
          refine lv_istore_n (lv' := [(1, .int (nI i)), (0, .ref y), (2, .int (nI i))]) hx hb dX3_next_65 rfl hl (by decide) rfl (fun ls hl => ?_)
          refine lv_iinc (v := nI (i + 1)) (lv' := [(2, .int (nI (i + 1))), (1, .int (nI i)), (0, .ref y)]) hx hb dX3_next_66 hl (k := 2) rfl (nI_1 (i)) (by decide) rfl (fun ls hl => ?_)
          refine lv_goto (tgt := 9) hx hb dX3_next_69 (by decide) ?_
          have hl : lv_has ls 3 [(2, .int (nI (i + 1))), (1, .int (nxS uq ck (i + 1))), (0, .ref y)] := by rw [hn1]; exact hl
          exact ih2 (i + 1) _ _ _ (by omega) ⟨hlt, hI, hS, lv_sub hl [2, 1, 0] rfl⟩
set_option maxHeartbeats 4000000 in
set_option maxRecDepth 100000 in
theorem k_when (l : Launch) (E : EnvT) (G : Gh) (y : Nat) (M : MA) (th : Int32) (σ : Sy) (hMR : MRep E G y M th σ) (hO : OkS σ) (i : Int32) : Met l yX3_when (ws_ yX3_when cX3_when 4 (some .int)) ({ frames := 1, cells := 0, slots := 0, locals := 22 } : Room) (cP E G [.ref y, .int i]) (cI E (fun r G' => (oneR σ.2.1.1 i = 0 → r = whenV σ.1.1.2.2.1 σ.2.1.2 σ.2.1.1 σ.1.1.2.1 (σ.2.1.2 i.toNatClampNeg).1) ∧ MRep E G' y M (oneR σ.2.1.1 i) σ ∧ Fr (Ow 4) G G')) 0 0 (eA E) := by
  obtain ⟨la, sk, ta, sw, nb⟩ := M
  obtain ⟨⟨⟨tk, ck, rn, an, sp, ln, lf⟩, ⟨nd, dm⟩, ⟨nc, km⟩⟩, ⟨nu, uq⟩, ⟨ns, st⟩⟩ := σ
  refine g_met (rm := ({ frames := 1, cells := 0, slots := 0, locals := 22 } : Room)) (av := [.ref y, .int i]) (lv := [(0, .ref y), (1, .int i)]) (by decide) (Nat.le_of_ble_eq_true rfl) rfl ?_
  intro p e s m below meth c ls hx hb hr hlk hml hin hts hown hE hI hL hS hl
  have hMR0 := hMR
  obtain ⟨hy, hla, hsk, hta, hsw, hnb⟩ := hMR0
  have hy : G y = some ((4, 0, 0), mO th (nI nd) (nI ns) (nI nu) la sk ta sw nb) := hy
  have hla : G la = some ((4, 1, 0), iO E 40 (lampF dm)) := hla
  have hsk : G sk = some ((4, 2, 0), iO E 40 (skyF st)) := hsk
  have hta : G ta = some ((4, 3, 0), iO E 36 (tailF km)) := hta
  have hsw : G sw = some ((4, 4, 0), iO E 96 (showF uq)) := hsw
  have hnb : G nb = some ((4, 5, 0), iO E 8 (numF (tk, ck, rn, an, sp, ln, lf) nc)) := hnb
  have hFr : Fr (Ow 4) G G := Fr.rf
  refine lv_aload_n hx hb dX3_when_0 rfl (lv_at hl 0 rfl) ?_
  refine lv_iconst (v := 0) hx hb dX3_when_1 (by decide) ?_
  refine g_put (C := RX3) (T := TX3) (N := 9) (v := .int 0) (ty := .int) (fs' := [.int 0, .int (nI nd), .int (nI ns), .int (nI nu), .ref la, .ref sk, .ref ta, .ref sw, .ref nb]) hx hb hts in_X3 tyX3 tyX3_ok nmX3 hown hE hI hS hL hy rfl 0 (by decide) q843 (fun _ h9 => h9) rfl (by decide +kernel) rfl rfl (Nat.le_of_ble_eq_true rfl) rfl dX3_when_2 (fun H locs hI hS => ?_)
  have hla := gU_o (x := ((4, 0, 0), .inr (7, [.int 0, .int (nI nd), .int (nI ns), .int (nI nu), .ref la, .ref sk, .ref ta, .ref sw, .ref nb]))) hy hla (by simp)
  have hsk := gU_o (x := ((4, 0, 0), .inr (7, [.int 0, .int (nI nd), .int (nI ns), .int (nI nu), .ref la, .ref sk, .ref ta, .ref sw, .ref nb]))) hy hsk (by simp)
  have hta := gU_o (x := ((4, 0, 0), .inr (7, [.int 0, .int (nI nd), .int (nI ns), .int (nI nu), .ref la, .ref sk, .ref ta, .ref sw, .ref nb]))) hy hta (by simp)
  have hsw := gU_o (x := ((4, 0, 0), .inr (7, [.int 0, .int (nI nd), .int (nI ns), .int (nI nu), .ref la, .ref sk, .ref ta, .ref sw, .ref nb]))) hy hsw (by simp)
  have hnb := gU_o (x := ((4, 0, 0), .inr (7, [.int 0, .int (nI nd), .int (nI ns), .int (nI nu), .ref la, .ref sk, .ref ta, .ref sw, .ref nb]))) hy hnb (by simp)
  have hFr : Fr (Ow 4) G (gU G y ((4, 0, 0), .inr (7, [.int 0, .int (nI nd), .int (nI ns), .int (nI nu), .ref la, .ref sk, .ref ta, .ref sw, .ref nb]))) := Fr.trans hFr (Fr.put (x := ((4, 0, 0), .inr (7, [.int 0, .int (nI nd), .int (nI ns), .int (nI nu), .ref la, .ref sk, .ref ta, .ref sw, .ref nb]))) hy rfl)
  have hy : (gU G y ((4, 0, 0), .inr (7, [.int 0, .int (nI nd), .int (nI ns), .int (nI nu), .ref la, .ref sk, .ref ta, .ref sw, .ref nb]))) y = some ((4, 0, 0), .inr (7, [.int 0, .int (nI nd), .int (nI ns), .int (nI nu), .ref la, .ref sk, .ref ta, .ref sw, .ref nb])) := gU_self
  obtain ⟨G0, hMR, hFr, hI⟩ : ∃ G0, MRep E G0 y (la, sk, ta, sw, nb) 0 ((((tk, ck, rn, an, sp, ln, lf), (nd, dm), (nc, km)), (nu, uq), (ns, st)) : Sy) ∧ Fr (Ow 4) G G0 ∧ Inv E G0 H := ⟨_, ⟨hy, hla, hsk, hta, hsw, hnb⟩, hFr, hI⟩
  have hMR0 := hMR
  obtain ⟨hy, hla, hsk, hta, hsw, hnb⟩ := hMR0
  have hy : G0 y = some ((4, 0, 0), mO 0 (nI nd) (nI ns) (nI nu) la sk ta sw nb) := hy
  have hla : G0 la = some ((4, 1, 0), iO E 40 (lampF dm)) := hla
  have hsk : G0 sk = some ((4, 2, 0), iO E 40 (skyF st)) := hsk
  have hta : G0 ta = some ((4, 3, 0), iO E 36 (tailF km)) := hta
  have hsw : G0 sw = some ((4, 4, 0), iO E 96 (showF uq)) := hsw
  have hnb : G0 nb = some ((4, 5, 0), iO E 8 (numF (tk, ck, rn, an, sp, ln, lf) nc)) := hnb
  have hnd : nd ≤ 8 := hO.cn.nd
  have hnc : nc ≤ 12 := hO.cn.nc
  have hnu : nu ≤ 24 := hO.nu
  have hns : ns ≤ 20 := hO.ns
  refine lv_iload_n hx hb dX3_when_5 rfl (lv_at hl 1 rfl) ?_
  refine lv_iconst (v := 0) hx hb dX3_when_6 (by decide) ?_
  refine lv_aload_n hx hb dX3_when_7 rfl (lv_at hl 0 rfl) ?_
  refine g_get (C := RX3) (T := TX3) (N := 9) (v := .int (nI nu)) hx hb hts in_X3 hown hE hI hy rfl 3 (by decide) q846 (fun _ h9 => h9) rfl dX3_when_8 ?_
  refine lv_iconst (v := 1) hx hb dX3_when_11 (by decide) ?_
  refine lv_isub hx hb dX3_when_12 ?_
  refine g_ci0 (G := G0) (v := isInV i 0 (nI nu - 1)) hS (va_runS (As := [.int i, .int 0, .int (nI nu - 1)]) (rest := []) ⟨hx, hb, hml, hown, hts⟩ (k_isIn l E G0 i 0 (nI nu - 1)) (va_cwS 3 hts (lw_S q880 q881 q36 q882) rfl rfl rfl (by decide +kernel) ⟨Nat.le_of_ble_eq_true rfl, Nat.le_of_ble_eq_true rfl⟩) (g_preS hE hI) rfl rfl hl.1 rfl (lv_room (Nat.le_of_ble_eq_true rfl)) dX3_when_13 ⟨Nat.le_of_ble_eq_true rfl, Nat.le_of_ble_eq_true rfl⟩) (fun H locs hI hS => ?_)
  refine lv_if_ne (tgt := 25) hx hb dX3_when_16 (by decide) (fun c1 => ?_) (fun c1 => ?_)
  · have h1 : ¬ outI i nu := fun z => c1 ((outI_in (by omega)).mpr z)
    have hcode : oneR nu i = 0 := if_neg h1
    obtain ⟨k, hk, e_k⟩ := outI_no (n := nu) (by omega) h1
    subst e_k
    have c_k : (nI k).toNatClampNeg = k := nI_clamp (by omega)
    refine lv_aload_n hx hb dX3_when_25 rfl (lv_at hl 0 rfl) ?_
    refine g_get (C := RX3) (T := TX3) (N := 9) (v := .ref sw) hx hb hts in_X3 hown hE hI hy rfl 7 (by decide) q850 (fun _ h9 => h9) rfl dX3_when_26 ?_
    refine lv_iconst (v := 4) hx hb dX3_when_29 (by decide) ?_
    refine lv_iload_n hx hb dX3_when_30 rfl (lv_at hl 1 rfl) ?_
    refine lv_imul hx hb dX3_when_31 ?_
    refine lv_iconst (v := 0) hx hb dX3_when_32 (by decide) ?_
    refine lv_iadd hx hb dX3_when_33 ?_
    refine g_iald hx hb hE hI hsw (i := ((4 * nI k) + 0)) (4 * k + 0) (ix 4 k 0) (by omega) (by decide) dX3_when_34 ?_
    rw [showF_0]
    refine lv_istore_n (lv' := [(2, .int ((uq k).1)), (0, .ref y), (1, .int (nI k))]) hx hb dX3_when_35 rfl hl (by decide) rfl (fun ls hl => ?_)
    refine lv_aload_n hx hb dX3_when_36 rfl (lv_at hl 1 rfl) ?_
    refine g_get (C := RX3) (T := TX3) (N := 9) (v := .ref nb) hx hb hts in_X3 hown hE hI hy rfl 8 (by decide) q851 (fun _ h9 => h9) rfl dX3_when_37 ?_
    refine lv_iconst (v := 2) hx hb dX3_when_40 (by decide) ?_
    refine g_iald hx hb hE hI hnb (i := 2) 2 rfl (by decide) (by decide) dX3_when_41 ?_
    rw [show numF (tk, ck, rn, an, sp, ln, lf) nc 2 = rn from rfl]
    refine lv_if_eq (tgt := 55) hx hb dX3_when_42 (by decide) (fun c2 => ?_) (fun c2 => ?_)
    · have hv : whenV rn uq nu ck (uq k).1 = -1 := by unfold whenV; rw [c2, hbS_r0, if_neg (show ¬ (1 : Int32) = 0 by decide)]; split <;> rfl
      refine lv_iconst (v := -1) hx hb dX3_when_55 (by decide) ?_
      exact g_iret hx hb hr hlk hI hS dX3_when_56 (Nat.le_of_ble_eq_true rfl) (Nat.le_of_ble_eq_true rfl) (⟨fun _ => by rw [c_k]; exact hv.symm, by rw [hcode]; exact hMR, hFr⟩)
    · refine lv_iload_n hx hb dX3_when_45 rfl (lv_at hl 0 rfl) ?_
      refine lv_aload_n hx hb dX3_when_46 rfl (lv_at hl 1 rfl) ?_
      refine g_get (C := RX3) (T := TX3) (N := 9) (v := .ref nb) hx hb hts in_X3 hown hE hI hy rfl 8 (by decide) q851 (fun _ h9 => h9) rfl dX3_when_47 ?_
      refine lv_iconst (v := 1) hx hb dX3_when_50 (by decide) ?_
      refine g_iald hx hb hE hI hnb (i := 1) 1 rfl (by decide) (by decide) dX3_when_51 ?_
      rw [show numF (tk, ck, rn, an, sp, ln, lf) nc 1 = ck from rfl]
      refine lv_icmp_ge (tgt := 57) hx hb dX3_when_52 (by decide) (fun c3 => ?_) (fun c3 => ?_)
      · have c3 : ¬ (uq k).1 < ck := Int32.not_lt.mpr c3
        refine lv_iconst (v := 0) hx hb dX3_when_57 (by decide) ?_
        refine lv_istore_n (lv' := [(3, .int 0), (2, .int ((uq k).1)), (0, .ref y), (1, .int (nI k))]) hx hb dX3_when_58 rfl hl (by decide) rfl (fun ls hl => ?_)
        refine g_loop1 (A1 := Nat) (fun j H locs ls => j ≤ nu ∧ hbS rn uq ck (uq k).1 j = 0 ∧ Inv E G0 H ∧ va_S (eA E) s.heap H locs ∧ lv_has ls 4 [(0, .ref y), (1, .int (nI k)), (2, .int ((uq k).1)), (3, .int (nI j))]) (fun j => 0) (fun j => 0) (fun j => nu - j) ?_ 0 _ _ _ ⟨Nat.zero_le _, if_neg c2, hI, hS, lv_sub hl [2, 3, 1, 0] rfl⟩
        intro j ih2 H locs ls hst
        obtain ⟨hj, hh, hI, hS, hl⟩ := hst
        refine lv_iload_n hx hb dX3_when_59 rfl (lv_at hl 3 rfl) ?_
        refine lv_aload_n hx hb dX3_when_60 rfl (lv_at hl 0 rfl) ?_
        refine g_get (C := RX3) (T := TX3) (N := 9) (v := .int (nI nu)) hx hb hts in_X3 hown hE hI hy rfl 3 (by decide) q846 (fun _ h9 => h9) rfl dX3_when_61 ?_
        refine lv_icmp_ge (tgt := 114) hx hb dX3_when_64 (by decide) (fun c4 => ?_) (fun c4 => ?_)
        · have ej : j = nu := (Nat.lt_or_ge j nu).elim (fun z => absurd c4 (nI_ge z (by omega))) (fun z => by omega)
          rw [ej] at hh
          have hv : whenV rn uq nu ck (uq k).1 = (uq k).1 - ck + 1 := by unfold whenV; rw [if_neg c3, if_pos hh]
          refine lv_iload_n hx hb dX3_when_114 rfl (lv_at hl 2 rfl) ?_
          refine lv_aload_n hx hb dX3_when_115 rfl (lv_at hl 0 rfl) ?_
          refine g_get (C := RX3) (T := TX3) (N := 9) (v := .ref nb) hx hb hts in_X3 hown hE hI hy rfl 8 (by decide) q851 (fun _ h9 => h9) rfl dX3_when_116 ?_
          refine lv_iconst (v := 1) hx hb dX3_when_119 (by decide) ?_
          refine g_iald hx hb hE hI hnb (i := 1) 1 rfl (by decide) (by decide) dX3_when_120 ?_
          rw [show numF (tk, ck, rn, an, sp, ln, lf) nc 1 = ck from rfl]
          refine lv_isub hx hb dX3_when_121 ?_
          refine lv_iconst (v := 1) hx hb dX3_when_122 (by decide) ?_
          refine lv_iadd hx hb dX3_when_123 ?_
          exact g_iret hx hb hr hlk hI hS dX3_when_124 (Nat.le_of_ble_eq_true rfl) (Nat.le_of_ble_eq_true rfl) (⟨fun _ => by rw [c_k]; exact hv.symm, by rw [hcode]; exact hMR, hFr⟩)
        · have hlt : j < nu := (Nat.lt_or_ge j nu).elim id (fun z => absurd (nI_le z (by omega)) c4)
          have h5 : (uq j).2.1 < 5 := (hO.uq j hlt).1.1
          refine lv_aload_n hx hb dX3_when_67 rfl (lv_at hl 0 rfl) ?_
          refine g_get (C := RX3) (T := TX3) (N := 9) (v := .ref sw) hx hb hts in_X3 hown hE hI hy rfl 7 (by decide) q850 (fun _ h9 => h9) rfl dX3_when_68 ?_
          refine lv_iconst (v := 4) hx hb dX3_when_71 (by decide) ?_
          refine lv_iload_n hx hb dX3_when_72 rfl (lv_at hl 3 rfl) ?_
          refine lv_imul hx hb dX3_when_73 ?_
          refine lv_iconst (v := 1) hx hb dX3_when_74 (by decide) ?_
          refine lv_iadd hx hb dX3_when_75 ?_
          refine g_iald hx hb hE hI hsw (i := ((4 * nI j) + 1)) (4 * j + 1) (ix 4 j 1) (by omega) (by decide) dX3_when_76 ?_
          rw [showF_1]
          refine lv_iconst (v := 4) hx hb dX3_when_77 (by decide) ?_
          refine lv_icmp_ne (tgt := 108) hx hb dX3_when_78 (by decide) (fun c5 => ?_) (fun c5 => ?_)
          · have n4 : ¬ (uq j).2.1 = 4 := fun z => c5 (by rw [z]; rfl)
            refine lv_iinc (v := nI (j + 1)) (lv' := [(3, .int (nI (j + 1))), (0, .ref y), (1, .int (nI k)), (2, .int ((uq k).1))]) hx hb dX3_when_108 hl (k := 3) rfl (nI_1 (j)) (by decide) rfl (fun ls hl => ?_)
            refine lv_goto (tgt := 59) hx hb dX3_when_111 (by decide) ?_
            exact ih2 (j + 1) _ _ _ (by omega) ⟨hlt, by rw [hbS, hh, if_neg n4]; rfl, hI, hS, lv_sub hl [1, 2, 3, 0] rfl⟩
          · have n4 : (uq j).2.1 = 4 := (nI_eq (b := 4) (by omega) (by decide)).mp c5
            refine lv_aload_n hx hb dX3_when_81 rfl (lv_at hl 0 rfl) ?_
            refine g_get (C := RX3) (T := TX3) (N := 9) (v := .ref sw) hx hb hts in_X3 hown hE hI hy rfl 7 (by decide) q850 (fun _ h9 => h9) rfl dX3_when_82 ?_
            refine lv_iconst (v := 4) hx hb dX3_when_85 (by decide) ?_
            refine lv_iload_n hx hb dX3_when_86 rfl (lv_at hl 3 rfl) ?_
            refine lv_imul hx hb dX3_when_87 ?_
            refine lv_iconst (v := 0) hx hb dX3_when_88 (by decide) ?_
            refine lv_iadd hx hb dX3_when_89 ?_
            refine g_iald hx hb hE hI hsw (i := ((4 * nI j) + 0)) (4 * j + 0) (ix 4 j 0) (by omega) (by decide) dX3_when_90 ?_
            rw [showF_0]
            refine lv_aload_n hx hb dX3_when_91 rfl (lv_at hl 0 rfl) ?_
            refine g_get (C := RX3) (T := TX3) (N := 9) (v := .ref nb) hx hb hts in_X3 hown hE hI hy rfl 8 (by decide) q851 (fun _ h9 => h9) rfl dX3_when_92 ?_
            refine lv_iconst (v := 1) hx hb dX3_when_95 (by decide) ?_
            refine g_iald hx hb hE hI hnb (i := 1) 1 rfl (by decide) (by decide) dX3_when_96 ?_
            rw [show numF (tk, ck, rn, an, sp, ln, lf) nc 1 = ck from rfl]
            refine lv_iload_n hx hb dX3_when_97 rfl (lv_at hl 2 rfl) ?_
            refine lv_iconst (v := 1) hx hb dX3_when_98 (by decide) ?_
            refine lv_isub hx hb dX3_when_99 ?_
            refine g_ci0 (G := G0) (v := isInV ((uq j).1) ck ((uq k).1 - 1)) hS (va_runS (As := [.int ((uq j).1), .int ck, .int ((uq k).1 - 1)]) (rest := []) ⟨hx, hb, hml, hown, hts⟩ (k_isIn l E G0 ((uq j).1) ck ((uq k).1 - 1)) (va_cwS 3 hts (lw_S q880 q881 q36 q882) rfl rfl rfl (by decide +kernel) ⟨Nat.le_of_ble_eq_true rfl, Nat.le_of_ble_eq_true rfl⟩) (g_preS hE hI) rfl rfl hl.1 rfl (lv_room (Nat.le_of_ble_eq_true rfl)) dX3_when_100 ⟨Nat.le_of_ble_eq_true rfl, Nat.le_of_ble_eq_true rfl⟩) (fun H locs hI hS => ?_)
            refine lv_if_eq (tgt := 108) hx hb dX3_when_103 (by decide) (fun c6 => ?_) (fun c6 => ?_)
            · refine lv_iinc (v := nI (j + 1)) (lv' := [(3, .int (nI (j + 1))), (0, .ref y), (1, .int (nI k)), (2, .int ((uq k).1))]) hx hb dX3_when_108 hl (k := 3) rfl (nI_1 (j)) (by decide) rfl (fun ls hl => ?_)
              refine lv_goto (tgt := 59) hx hb dX3_when_111 (by decide) ?_
              exact ih2 (j + 1) _ _ _ (by omega) ⟨hlt, by rw [hbS, hh, if_pos n4, if_pos c6]; rfl, hI, hS, lv_sub hl [1, 2, 3, 0] rfl⟩
            · have h1 : hbS rn uq ck (uq k).1 (j + 1) = 1 := by rw [hbS, hh, if_pos n4, if_neg c6]; rfl
              have h2 := hbS_up rn uq ck (uq k).1 (j + 1) h1 (nu - (j + 1))
              rw [show j + 1 + (nu - (j + 1)) = nu by omega] at h2
              have hv : whenV rn uq nu ck (uq k).1 = -1 := by unfold whenV; rw [if_neg c3, h2]; rfl
              refine lv_iconst (v := -1) hx hb dX3_when_106 (by decide) ?_
              exact g_iret hx hb hr hlk hI hS dX3_when_107 (Nat.le_of_ble_eq_true rfl) (Nat.le_of_ble_eq_true rfl) (⟨fun _ => by rw [c_k]; exact hv.symm, by rw [hcode]; exact hMR, hFr⟩)
      · have hv : whenV rn uq nu ck (uq k).1 = -1 := by unfold whenV; rw [if_pos (Int32.not_le.mp c3)]
        refine lv_iconst (v := -1) hx hb dX3_when_55 (by decide) ?_
        exact g_iret hx hb hr hlk hI hS dX3_when_56 (Nat.le_of_ble_eq_true rfl) (Nat.le_of_ble_eq_true rfl) (⟨fun _ => by rw [c_k]; exact hv.symm, by rw [hcode]; exact hMR, hFr⟩)
  · refine lv_aload_n hx hb dX3_when_19 rfl (lv_at hl 0 rfl) ?_
    refine lv_iconst (v := 1) hx hb dX3_when_20 (by decide) ?_
    refine g_ci hS (va_runV (As := [.int 1]) (rest := []) ⟨hx, hb, hml, hown, hts⟩ (k_fail l E G0 y (la, sk, ta, sw, nb) _ ((((tk, ck, rn, an, sp, ln, lf), (nd, dm), (nc, km)), (nu, uq), (ns, st)) : Sy) hMR 1) (cwV 1 hts (lw_V q883 q885 qs13 q36 q886) rfl rfl rfl (by decide +kernel) ⟨Nat.le_of_ble_eq_true rfl, Nat.le_of_ble_eq_true rfl⟩) (g_preV hE hI (g_recv hE hI hy rfl)) rfl rfl hl.1 rfl (lv_room (Nat.le_of_ble_eq_true rfl)) dX3_when_21 ⟨Nat.le_of_ble_eq_true rfl, Nat.le_of_ble_eq_true rfl⟩) (fun r G1 H locs hp hI hS => ?_)
    obtain ⟨-, hM1, hF1⟩ := hp
    have hcode : oneR nu i = 1 := if_pos ((outI_in (by omega)).mp c1)
    exact g_iret hx hb hr hlk hI hS dX3_when_24 (Nat.le_of_ble_eq_true rfl) (Nat.le_of_ble_eq_true rfl) (⟨fun z => absurd (hcode.symm.trans z) (by decide), by rw [hcode]; exact hM1, Fr.trans hFr hF1⟩)
set_option maxHeartbeats 4000000 in
set_option maxRecDepth 100000 in
theorem k_darkest (l : Launch) (E : EnvT) (G : Gh) (y : Nat) (M : MA) (th : Int32) (σ : Sy) (hMR : MRep E G y M th σ) (hO : OkS σ) : Met l yX3_darkest (ws_ yX3_darkest cX3_darkest 3 (some .int)) ({ frames := 2, cells := 0, slots := 0, locals := 46 } : Room) (cP E G [.ref y]) (cI E (fun r G' => r = dkS σ.1.2.1.2 σ.1.2.1.1 11 ∧ MRep E G' y M 0 σ ∧ Fr (Ow 4) G G')) 0 0 (eA E) := by
  obtain ⟨la, sk, ta, sw, nb⟩ := M
  obtain ⟨⟨⟨tk, ck, rn, an, sp, ln, lf⟩, ⟨nd, dm⟩, ⟨nc, km⟩⟩, ⟨nu, uq⟩, ⟨ns, st⟩⟩ := σ
  refine g_met (rm := ({ frames := 2, cells := 0, slots := 0, locals := 46 } : Room)) (av := [.ref y]) (lv := [(0, .ref y)]) (by decide) (Nat.le_of_ble_eq_true rfl) rfl ?_
  intro p e s m below meth c ls hx hb hr hlk hml hin hts hown hE hI hL hS hl
  have hMR0 := hMR
  obtain ⟨hy, hla, hsk, hta, hsw, hnb⟩ := hMR0
  have hy : G y = some ((4, 0, 0), mO th (nI nd) (nI ns) (nI nu) la sk ta sw nb) := hy
  have hla : G la = some ((4, 1, 0), iO E 40 (lampF dm)) := hla
  have hsk : G sk = some ((4, 2, 0), iO E 40 (skyF st)) := hsk
  have hta : G ta = some ((4, 3, 0), iO E 36 (tailF km)) := hta
  have hsw : G sw = some ((4, 4, 0), iO E 96 (showF uq)) := hsw
  have hnb : G nb = some ((4, 5, 0), iO E 8 (numF (tk, ck, rn, an, sp, ln, lf) nc)) := hnb
  have hFr : Fr (Ow 4) G G := Fr.rf
  refine lv_aload_n hx hb dX3_darkest_0 rfl (lv_at hl 0 rfl) ?_
  refine lv_iconst (v := 0) hx hb dX3_darkest_1 (by decide) ?_
  refine g_put (C := RX3) (T := TX3) (N := 9) (v := .int 0) (ty := .int) (fs' := [.int 0, .int (nI nd), .int (nI ns), .int (nI nu), .ref la, .ref sk, .ref ta, .ref sw, .ref nb]) hx hb hts in_X3 tyX3 tyX3_ok nmX3 hown hE hI hS hL hy rfl 0 (by decide) q843 (fun _ h9 => h9) rfl (by decide +kernel) rfl rfl (Nat.le_of_ble_eq_true rfl) rfl dX3_darkest_2 (fun H locs hI hS => ?_)
  have hla := gU_o (x := ((4, 0, 0), .inr (7, [.int 0, .int (nI nd), .int (nI ns), .int (nI nu), .ref la, .ref sk, .ref ta, .ref sw, .ref nb]))) hy hla (by simp)
  have hsk := gU_o (x := ((4, 0, 0), .inr (7, [.int 0, .int (nI nd), .int (nI ns), .int (nI nu), .ref la, .ref sk, .ref ta, .ref sw, .ref nb]))) hy hsk (by simp)
  have hta := gU_o (x := ((4, 0, 0), .inr (7, [.int 0, .int (nI nd), .int (nI ns), .int (nI nu), .ref la, .ref sk, .ref ta, .ref sw, .ref nb]))) hy hta (by simp)
  have hsw := gU_o (x := ((4, 0, 0), .inr (7, [.int 0, .int (nI nd), .int (nI ns), .int (nI nu), .ref la, .ref sk, .ref ta, .ref sw, .ref nb]))) hy hsw (by simp)
  have hnb := gU_o (x := ((4, 0, 0), .inr (7, [.int 0, .int (nI nd), .int (nI ns), .int (nI nu), .ref la, .ref sk, .ref ta, .ref sw, .ref nb]))) hy hnb (by simp)
  have hFr : Fr (Ow 4) G (gU G y ((4, 0, 0), .inr (7, [.int 0, .int (nI nd), .int (nI ns), .int (nI nu), .ref la, .ref sk, .ref ta, .ref sw, .ref nb]))) := Fr.trans hFr (Fr.put (x := ((4, 0, 0), .inr (7, [.int 0, .int (nI nd), .int (nI ns), .int (nI nu), .ref la, .ref sk, .ref ta, .ref sw, .ref nb]))) hy rfl)
  have hy : (gU G y ((4, 0, 0), .inr (7, [.int 0, .int (nI nd), .int (nI ns), .int (nI nu), .ref la, .ref sk, .ref ta, .ref sw, .ref nb]))) y = some ((4, 0, 0), .inr (7, [.int 0, .int (nI nd), .int (nI ns), .int (nI nu), .ref la, .ref sk, .ref ta, .ref sw, .ref nb])) := gU_self
  obtain ⟨G0, hMR, hFr, hI⟩ : ∃ G0, MRep E G0 y (la, sk, ta, sw, nb) 0 ((((tk, ck, rn, an, sp, ln, lf), (nd, dm), (nc, km)), (nu, uq), (ns, st)) : Sy) ∧ Fr (Ow 4) G G0 ∧ Inv E G0 H := ⟨_, ⟨hy, hla, hsk, hta, hsw, hnb⟩, hFr, hI⟩
  have hMR0 := hMR
  obtain ⟨hy, hla, hsk, hta, hsw, hnb⟩ := hMR0
  have hy : G0 y = some ((4, 0, 0), mO 0 (nI nd) (nI ns) (nI nu) la sk ta sw nb) := hy
  have hla : G0 la = some ((4, 1, 0), iO E 40 (lampF dm)) := hla
  have hsk : G0 sk = some ((4, 2, 0), iO E 40 (skyF st)) := hsk
  have hta : G0 ta = some ((4, 3, 0), iO E 36 (tailF km)) := hta
  have hsw : G0 sw = some ((4, 4, 0), iO E 96 (showF uq)) := hsw
  have hnb : G0 nb = some ((4, 5, 0), iO E 8 (numF (tk, ck, rn, an, sp, ln, lf) nc)) := hnb
  have hnd : nd ≤ 8 := hO.cn.nd
  have hnc : nc ≤ 12 := hO.cn.nc
  have hnu : nu ≤ 24 := hO.nu
  have hns : ns ≤ 20 := hO.ns
  refine lv_iconst (v := 0) hx hb dX3_darkest_5 (by decide) ?_
  refine lv_istore_n (lv' := [(1, .int 0), (0, .ref y)]) hx hb dX3_darkest_6 rfl hl (by decide) rfl (fun ls hl => ?_)
  refine lv_iconst (v := 1) hx hb dX3_darkest_7 (by decide) ?_
  refine lv_istore_n (lv' := [(2, .int 1), (1, .int 0), (0, .ref y)]) hx hb dX3_darkest_8 rfl hl (by decide) rfl (fun ls hl => ?_)
  refine g_loop1 (A1 := Nat) (fun j H locs ls => j ≤ 11 ∧ Inv E G0 H ∧ va_S (eA E) s.heap H locs ∧ lv_has ls 3 [(0, .ref y), (1, .int (dkS dm nd j)), (2, .int (nI (j + 1)))]) (fun j => 0) (fun j => 0) (fun j => 11 - j) ?_ 0 _ _ _ ⟨Nat.zero_le _, hI, hS, lv_sub hl [2, 1, 0] rfl⟩
  intro j ih2 H locs ls hst
  obtain ⟨hj, hI, hS, hl⟩ := hst
  refine lv_iload_n hx hb dX3_darkest_9 rfl (lv_at hl 2 rfl) ?_
  refine lv_bipush (v := 12) hx hb dX3_darkest_10 (by decide) ?_
  refine lv_icmp_ge (tgt := 36) hx hb dX3_darkest_12 (by decide) (fun c1 => ?_) (fun c1 => ?_)
  · have ej : j = 11 := (Nat.lt_or_ge j 11).elim (fun z => absurd c1 (nI_ge (b := 12) (by omega) (by omega))) (fun z => by omega)
    refine lv_iload_n hx hb dX3_darkest_36 rfl (lv_at hl 1 rfl) ?_
    exact g_iret hx hb hr hlk hI hS dX3_darkest_37 (Nat.le_of_ble_eq_true rfl) (Nat.le_of_ble_eq_true rfl) (⟨by rw [ej], hMR, hFr⟩)
  · have hlt : j < 11 := (Nat.lt_or_ge j 11).elim id (fun z => absurd (nI_le (a := 12) (b := j + 1) (by omega) (by omega)) c1)
    have hn1 : dkS dm nd (j + 1) = if glS dm (dkS dm nd j) nd ≤ glS dm (nI (j + 1)) nd then dkS dm nd j else nI (j + 1) := rfl
    obtain ⟨j2, hj2, ej2⟩ := dkS_in dm nd j
    refine lv_aload_n hx hb dX3_darkest_15 rfl (lv_at hl 0 rfl) ?_
    refine lv_iload_n hx hb dX3_darkest_16 rfl (lv_at hl 2 rfl) ?_
    refine g_ci0 (G := G0) (v := glS dm (nI (j + 1)) nd) hS (va_runV (As := [.int (nI (j + 1))]) (rest := []) ⟨hx, hb, hml, hown, hts⟩ (k_glareOf l E G0 y (la, sk, ta, sw, nb) _ ((((tk, ck, rn, an, sp, ln, lf), (nd, dm), (nc, km)), (nu, uq), (ns, st)) : Sy) hMR hO.cn (j + 1) (by omega)) (cwV 1 hts (lw_V q961 q963 qs22 q36 q964) rfl rfl rfl (by decide +kernel) ⟨Nat.le_of_ble_eq_true rfl, Nat.le_of_ble_eq_true rfl⟩) (g_preV hE hI (g_recv hE hI hy rfl)) rfl rfl hl.1 rfl (lv_room (Nat.le_of_ble_eq_true rfl)) dX3_darkest_17 ⟨Nat.le_of_ble_eq_true rfl, Nat.le_of_ble_eq_true rfl⟩) (fun H locs hI hS => ?_)
    refine lv_aload_n hx hb dX3_darkest_20 rfl (lv_at hl 0 rfl) ?_
    refine lv_iload_n hx hb dX3_darkest_21 rfl (lv_at hl 1 rfl) ?_
    rw [ej2]
    refine g_ci0 (G := G0) (v := glS dm (nI j2) nd) hS (va_runV (As := [.int (nI j2)]) (rest := [.int (glS dm (nI (j + 1)) nd)]) ⟨hx, hb, hml, hown, hts⟩ (k_glareOf l E G0 y (la, sk, ta, sw, nb) _ ((((tk, ck, rn, an, sp, ln, lf), (nd, dm), (nc, km)), (nu, uq), (ns, st)) : Sy) hMR hO.cn j2 (by omega)) (cwV 1 hts (lw_V q961 q963 qs22 q36 q964) rfl rfl rfl (by decide +kernel) ⟨Nat.le_of_ble_eq_true rfl, Nat.le_of_ble_eq_true rfl⟩) (g_preV hE hI (g_recv hE hI hy rfl)) rfl rfl hl.1 rfl (lv_room (Nat.le_of_ble_eq_true rfl)) dX3_darkest_22 ⟨Nat.le_of_ble_eq_true rfl, Nat.le_of_ble_eq_true rfl⟩) (fun H locs hI hS => ?_)
    refine lv_icmp_ge (tgt := 30) hx hb dX3_darkest_25 (by decide) (fun c2 => ?_) (fun c2 => ?_)
    · rw [if_pos (by rw [ej2]; exact c2)] at hn1
      refine lv_iinc (v := nI (j + 1 + 1)) (lv' := [(2, .int (nI (j + 1 + 1))), (0, .ref y), (1, .int (dkS dm nd j))]) hx hb dX3_darkest_30 hl (k := 2) rfl (nI_1 (j + 1)) (by decide) rfl (fun ls hl => ?_)
      refine lv_goto (tgt := 9) hx hb dX3_darkest_33 (by decide) ?_
      have hl : lv_has ls 3 [(2, .int (nI (j + 1 + 1))), (0, .ref y), (1, .int (dkS dm nd (j + 1)))] := by rw [hn1]; exact hl
      exact ih2 (j + 1) _ _ _ (by omega) ⟨hlt, hI, hS, lv_sub hl [1, 2, 0] rfl⟩
    · rw [if_neg (by rw [ej2]; exact c2)] at hn1
      refine lv_iload_n hx hb dX3_darkest_28 rfl (lv_at hl 2 rfl) ?_
      refine lv_istore_n (lv' := [(1, .int (nI (j + 1))), (0, .ref y), (2, .int (nI (j + 1)))]) hx hb dX3_darkest_29 rfl hl (by decide) rfl (fun ls hl => ?_)
      refine lv_iinc (v := nI (j + 1 + 1)) (lv' := [(2, .int (nI (j + 1 + 1))), (1, .int (nI (j + 1))), (0, .ref y)]) hx hb dX3_darkest_30 hl (k := 2) rfl (nI_1 (j + 1)) (by decide) rfl (fun ls hl => ?_)
      refine lv_goto (tgt := 9) hx hb dX3_darkest_33 (by decide) ?_
      have hl : lv_has ls 3 [(2, .int (nI (j + 1 + 1))), (1, .int (dkS dm nd (j + 1))), (0, .ref y)] := by rw [hn1]; exact hl
      exact ih2 (j + 1) _ _ _ (by omega) ⟨hlt, hI, hS, lv_sub hl [2, 1, 0] rfl⟩
set_option maxHeartbeats 4000000 in
set_option maxRecDepth 100000 in
theorem k_mean (l : Launch) (E : EnvT) (G : Gh) (y : Nat) (M : MA) (th : Int32) (σ : Sy) (hMR : MRep E G y M th σ) (hO : OkS σ) (hm : vf_n64 (FP.ddiv (FP.i2d (mnS σ.1.2.1.2 σ.1.2.1.1 12)) 4622945017495814144)) : Met l yX3_mean (ws_ yX3_mean cX3_mean 3 (some .double)) ({ frames := 2, cells := 0, slots := 0, locals := 46 } : Room) (cP E G [.ref y]) (cF E (fun r G' => r = FP.ddiv (FP.i2d (mnS σ.1.2.1.2 σ.1.2.1.1 12)) 4622945017495814144 ∧ MRep E G' y M 0 σ ∧ Fr (Ow 4) G G')) 0 0 (eA E) := by
  obtain ⟨la, sk, ta, sw, nb⟩ := M
  obtain ⟨⟨⟨tk, ck, rn, an, sp, ln, lf⟩, ⟨nd, dm⟩, ⟨nc, km⟩⟩, ⟨nu, uq⟩, ⟨ns, st⟩⟩ := σ
  refine g_met (rm := ({ frames := 2, cells := 0, slots := 0, locals := 46 } : Room)) (av := [.ref y]) (lv := [(0, .ref y)]) (by decide) (Nat.le_of_ble_eq_true rfl) rfl ?_
  intro p e s m below meth c ls hx hb hr hlk hml hin hts hown hE hI hL hS hl
  have hMR0 := hMR
  obtain ⟨hy, hla, hsk, hta, hsw, hnb⟩ := hMR0
  have hy : G y = some ((4, 0, 0), mO th (nI nd) (nI ns) (nI nu) la sk ta sw nb) := hy
  have hla : G la = some ((4, 1, 0), iO E 40 (lampF dm)) := hla
  have hsk : G sk = some ((4, 2, 0), iO E 40 (skyF st)) := hsk
  have hta : G ta = some ((4, 3, 0), iO E 36 (tailF km)) := hta
  have hsw : G sw = some ((4, 4, 0), iO E 96 (showF uq)) := hsw
  have hnb : G nb = some ((4, 5, 0), iO E 8 (numF (tk, ck, rn, an, sp, ln, lf) nc)) := hnb
  have hFr : Fr (Ow 4) G G := Fr.rf
  have hm : vf_n64 (FP.ddiv (FP.i2d (mnS dm nd 12)) 4622945017495814144) := hm
  refine lv_aload_n hx hb dX3_mean_0 rfl (lv_at hl 0 rfl) ?_
  refine lv_iconst (v := 0) hx hb dX3_mean_1 (by decide) ?_
  refine g_put (C := RX3) (T := TX3) (N := 9) (v := .int 0) (ty := .int) (fs' := [.int 0, .int (nI nd), .int (nI ns), .int (nI nu), .ref la, .ref sk, .ref ta, .ref sw, .ref nb]) hx hb hts in_X3 tyX3 tyX3_ok nmX3 hown hE hI hS hL hy rfl 0 (by decide) q843 (fun _ h9 => h9) rfl (by decide +kernel) rfl rfl (Nat.le_of_ble_eq_true rfl) rfl dX3_mean_2 (fun H locs hI hS => ?_)
  have hla := gU_o (x := ((4, 0, 0), .inr (7, [.int 0, .int (nI nd), .int (nI ns), .int (nI nu), .ref la, .ref sk, .ref ta, .ref sw, .ref nb]))) hy hla (by simp)
  have hsk := gU_o (x := ((4, 0, 0), .inr (7, [.int 0, .int (nI nd), .int (nI ns), .int (nI nu), .ref la, .ref sk, .ref ta, .ref sw, .ref nb]))) hy hsk (by simp)
  have hta := gU_o (x := ((4, 0, 0), .inr (7, [.int 0, .int (nI nd), .int (nI ns), .int (nI nu), .ref la, .ref sk, .ref ta, .ref sw, .ref nb]))) hy hta (by simp)
  have hsw := gU_o (x := ((4, 0, 0), .inr (7, [.int 0, .int (nI nd), .int (nI ns), .int (nI nu), .ref la, .ref sk, .ref ta, .ref sw, .ref nb]))) hy hsw (by simp)
  have hnb := gU_o (x := ((4, 0, 0), .inr (7, [.int 0, .int (nI nd), .int (nI ns), .int (nI nu), .ref la, .ref sk, .ref ta, .ref sw, .ref nb]))) hy hnb (by simp)
  have hFr : Fr (Ow 4) G (gU G y ((4, 0, 0), .inr (7, [.int 0, .int (nI nd), .int (nI ns), .int (nI nu), .ref la, .ref sk, .ref ta, .ref sw, .ref nb]))) := Fr.trans hFr (Fr.put (x := ((4, 0, 0), .inr (7, [.int 0, .int (nI nd), .int (nI ns), .int (nI nu), .ref la, .ref sk, .ref ta, .ref sw, .ref nb]))) hy rfl)
  have hy : (gU G y ((4, 0, 0), .inr (7, [.int 0, .int (nI nd), .int (nI ns), .int (nI nu), .ref la, .ref sk, .ref ta, .ref sw, .ref nb]))) y = some ((4, 0, 0), .inr (7, [.int 0, .int (nI nd), .int (nI ns), .int (nI nu), .ref la, .ref sk, .ref ta, .ref sw, .ref nb])) := gU_self
  obtain ⟨G0, hMR, hFr, hI⟩ : ∃ G0, MRep E G0 y (la, sk, ta, sw, nb) 0 ((((tk, ck, rn, an, sp, ln, lf), (nd, dm), (nc, km)), (nu, uq), (ns, st)) : Sy) ∧ Fr (Ow 4) G G0 ∧ Inv E G0 H := ⟨_, ⟨hy, hla, hsk, hta, hsw, hnb⟩, hFr, hI⟩
  have hMR0 := hMR
  obtain ⟨hy, hla, hsk, hta, hsw, hnb⟩ := hMR0
  have hy : G0 y = some ((4, 0, 0), mO 0 (nI nd) (nI ns) (nI nu) la sk ta sw nb) := hy
  have hla : G0 la = some ((4, 1, 0), iO E 40 (lampF dm)) := hla
  have hsk : G0 sk = some ((4, 2, 0), iO E 40 (skyF st)) := hsk
  have hta : G0 ta = some ((4, 3, 0), iO E 36 (tailF km)) := hta
  have hsw : G0 sw = some ((4, 4, 0), iO E 96 (showF uq)) := hsw
  have hnb : G0 nb = some ((4, 5, 0), iO E 8 (numF (tk, ck, rn, an, sp, ln, lf) nc)) := hnb
  have hnd : nd ≤ 8 := hO.cn.nd
  have hnc : nc ≤ 12 := hO.cn.nc
  have hnu : nu ≤ 24 := hO.nu
  have hns : ns ≤ 20 := hO.ns
  refine lv_iconst (v := 0) hx hb dX3_mean_5 (by decide) ?_
  refine lv_istore_n (lv' := [(1, .int 0), (0, .ref y)]) hx hb dX3_mean_6 rfl hl (by decide) rfl (fun ls hl => ?_)
  refine lv_iconst (v := 0) hx hb dX3_mean_7 (by decide) ?_
  refine lv_istore_n (lv' := [(2, .int 0), (1, .int 0), (0, .ref y)]) hx hb dX3_mean_8 rfl hl (by decide) rfl (fun ls hl => ?_)
  refine g_loop2 (A1 := Nat) (A2 := Int32) (fun i z H locs ls => i ≤ 12 ∧ z = mnS dm nd i ∧ Inv E G0 H ∧ va_S (eA E) s.heap H locs ∧ lv_has ls 3 [(0, .ref y), (1, .int z), (2, .int (nI i))]) (fun i z => 0) (fun i z => 0) (fun i z => 12 - i) ?_ 0 0 _ _ _ ⟨Nat.zero_le _, rfl, hI, hS, lv_sub hl [2, 1, 0] rfl⟩
  intro i z ih2 H locs ls hst
  obtain ⟨hi, hz, hI, hS, hl⟩ := hst
  refine lv_iload_n hx hb dX3_mean_9 rfl (lv_at hl 2 rfl) ?_
  refine lv_bipush (v := 12) hx hb dX3_mean_10 (by decide) ?_
  refine lv_icmp_ge (tgt := 29) hx hb dX3_mean_12 (by decide) (fun c1 => ?_) (fun c1 => ?_)
  · have ei : i = 12 := (Nat.lt_or_ge i 12).elim (fun z => absurd c1 (nI_ge (b := 12) (by omega) (by omega))) (fun z => by omega)
    subst hz; subst ei
    refine lv_iload_n hx hb dX3_mean_29 rfl (lv_at hl 1 rfl) ?_
    refine lv_i2d hx hb dX3_mean_30 ?_
    refine lv_ldc2d hx hb hown (hts _ q1035) dX3_mean_31 ?_
    refine lv_ddiv hx hb dX3_mean_34 hm ?_
    exact g_dret hx hb hr hlk hI hS dX3_mean_35 (Nat.le_of_ble_eq_true rfl) (Nat.le_of_ble_eq_true rfl) (⟨rfl, hMR, hFr⟩)
  · have hlt : i < 12 := (Nat.lt_or_ge i 12).elim id (fun z => absurd (nI_le (a := 12) (b := i) (by omega) (by omega)) c1)
    refine lv_iload_n hx hb dX3_mean_15 rfl (lv_at hl 1 rfl) ?_
    refine lv_aload_n hx hb dX3_mean_16 rfl (lv_at hl 0 rfl) ?_
    refine lv_iload_n hx hb dX3_mean_17 rfl (lv_at hl 2 rfl) ?_
    refine g_ci0 (G := G0) (v := glS dm (nI i) nd) hS (va_runV (As := [.int (nI i)]) (rest := [.int z]) ⟨hx, hb, hml, hown, hts⟩ (k_glareOf l E G0 y (la, sk, ta, sw, nb) _ ((((tk, ck, rn, an, sp, ln, lf), (nd, dm), (nc, km)), (nu, uq), (ns, st)) : Sy) hMR hO.cn i hlt) (cwV 1 hts (lw_V q961 q963 qs22 q36 q964) rfl rfl rfl (by decide +kernel) ⟨Nat.le_of_ble_eq_true rfl, Nat.le_of_ble_eq_true rfl⟩) (g_preV hE hI (g_recv hE hI hy rfl)) rfl rfl hl.1 rfl (lv_room (Nat.le_of_ble_eq_true rfl)) dX3_mean_18 ⟨Nat.le_of_ble_eq_true rfl, Nat.le_of_ble_eq_true rfl⟩) (fun H locs hI hS => ?_)
    refine lv_iadd hx hb dX3_mean_21 ?_
    refine lv_istore_n (lv' := [(1, .int (z + glS dm (nI i) nd)), (0, .ref y), (2, .int (nI i))]) hx hb dX3_mean_22 rfl hl (by decide) rfl (fun ls hl => ?_)
    refine lv_iinc (v := nI (i + 1)) (lv' := [(2, .int (nI (i + 1))), (1, .int (z + glS dm (nI i) nd)), (0, .ref y)]) hx hb dX3_mean_23 hl (k := 2) rfl (nI_1 (i)) (by decide) rfl (fun ls hl => ?_)
    refine lv_goto (tgt := 9) hx hb dX3_mean_26 (by decide) ?_
    exact ih2 (i + 1) (z + glS dm (nI i) nd) _ _ _ (by omega) ⟨hlt, by rw [hz, mnS], hI, hS, lv_sub hl [2, 1, 0] rfl⟩
set_option maxHeartbeats 4000000 in
set_option maxRecDepth 100000 in
theorem k_digest (l : Launch) (E : EnvT) (G : Gh) (y : Nat) (M : MA) (th : Int32) (σ : Sy) (hMR : MRep E G y M th σ) (hO : OkS σ) : Met l yX3_digest (ws_ yX3_digest cX3_digest 5 (some .long)) ({ frames := 5, cells := 0, slots := 0, locals := 113 } : Room) (cP E G [.ref y]) (cL E (fun r G' => r = dgV σ ∧ MRep E G' y M 0 σ ∧ Fr (Ow 4) G G')) 0 0 (eA E) := by
  obtain ⟨la, sk, ta, sw, nb⟩ := M
  obtain ⟨⟨⟨tk, ck, rn, an, sp, ln, lf⟩, ⟨nd, dm⟩, ⟨nc, km⟩⟩, ⟨nu, uq⟩, ⟨ns, st⟩⟩ := σ
  refine g_met (rm := ({ frames := 5, cells := 0, slots := 0, locals := 113 } : Room)) (av := [.ref y]) (lv := [(0, .ref y)]) (by decide) (Nat.le_of_ble_eq_true rfl) rfl ?_
  intro p e s m below meth c ls hx hb hr hlk hml hin hts hown hE hI hL hS hl
  have hMR0 := hMR
  obtain ⟨hy, hla, hsk, hta, hsw, hnb⟩ := hMR0
  have hy : G y = some ((4, 0, 0), mO th (nI nd) (nI ns) (nI nu) la sk ta sw nb) := hy
  have hla : G la = some ((4, 1, 0), iO E 40 (lampF dm)) := hla
  have hsk : G sk = some ((4, 2, 0), iO E 40 (skyF st)) := hsk
  have hta : G ta = some ((4, 3, 0), iO E 36 (tailF km)) := hta
  have hsw : G sw = some ((4, 4, 0), iO E 96 (showF uq)) := hsw
  have hnb : G nb = some ((4, 5, 0), iO E 8 (numF (tk, ck, rn, an, sp, ln, lf) nc)) := hnb
  have hFr : Fr (Ow 4) G G := Fr.rf
  refine lv_aload_n hx hb dX3_digest_0 rfl (lv_at hl 0 rfl) ?_
  refine lv_iconst (v := 0) hx hb dX3_digest_1 (by decide) ?_
  refine g_put (C := RX3) (T := TX3) (N := 9) (v := .int 0) (ty := .int) (fs' := [.int 0, .int (nI nd), .int (nI ns), .int (nI nu), .ref la, .ref sk, .ref ta, .ref sw, .ref nb]) hx hb hts in_X3 tyX3 tyX3_ok nmX3 hown hE hI hS hL hy rfl 0 (by decide) q843 (fun _ h9 => h9) rfl (by decide +kernel) rfl rfl (Nat.le_of_ble_eq_true rfl) rfl dX3_digest_2 (fun H locs hI hS => ?_)
  have hla := gU_o (x := ((4, 0, 0), .inr (7, [.int 0, .int (nI nd), .int (nI ns), .int (nI nu), .ref la, .ref sk, .ref ta, .ref sw, .ref nb]))) hy hla (by simp)
  have hsk := gU_o (x := ((4, 0, 0), .inr (7, [.int 0, .int (nI nd), .int (nI ns), .int (nI nu), .ref la, .ref sk, .ref ta, .ref sw, .ref nb]))) hy hsk (by simp)
  have hta := gU_o (x := ((4, 0, 0), .inr (7, [.int 0, .int (nI nd), .int (nI ns), .int (nI nu), .ref la, .ref sk, .ref ta, .ref sw, .ref nb]))) hy hta (by simp)
  have hsw := gU_o (x := ((4, 0, 0), .inr (7, [.int 0, .int (nI nd), .int (nI ns), .int (nI nu), .ref la, .ref sk, .ref ta, .ref sw, .ref nb]))) hy hsw (by simp)
  have hnb := gU_o (x := ((4, 0, 0), .inr (7, [.int 0, .int (nI nd), .int (nI ns), .int (nI nu), .ref la, .ref sk, .ref ta, .ref sw, .ref nb]))) hy hnb (by simp)
  have hFr : Fr (Ow 4) G (gU G y ((4, 0, 0), .inr (7, [.int 0, .int (nI nd), .int (nI ns), .int (nI nu), .ref la, .ref sk, .ref ta, .ref sw, .ref nb]))) := Fr.trans hFr (Fr.put (x := ((4, 0, 0), .inr (7, [.int 0, .int (nI nd), .int (nI ns), .int (nI nu), .ref la, .ref sk, .ref ta, .ref sw, .ref nb]))) hy rfl)
  have hy : (gU G y ((4, 0, 0), .inr (7, [.int 0, .int (nI nd), .int (nI ns), .int (nI nu), .ref la, .ref sk, .ref ta, .ref sw, .ref nb]))) y = some ((4, 0, 0), .inr (7, [.int 0, .int (nI nd), .int (nI ns), .int (nI nu), .ref la, .ref sk, .ref ta, .ref sw, .ref nb])) := gU_self
  obtain ⟨G0, hMR, hFr, hI⟩ : ∃ G0, MRep E G0 y (la, sk, ta, sw, nb) 0 ((((tk, ck, rn, an, sp, ln, lf), (nd, dm), (nc, km)), (nu, uq), (ns, st)) : Sy) ∧ Fr (Ow 4) G G0 ∧ Inv E G0 H := ⟨_, ⟨hy, hla, hsk, hta, hsw, hnb⟩, hFr, hI⟩
  have hMR0 := hMR
  obtain ⟨hy, hla, hsk, hta, hsw, hnb⟩ := hMR0
  have hy : G0 y = some ((4, 0, 0), mO 0 (nI nd) (nI ns) (nI nu) la sk ta sw nb) := hy
  have hla : G0 la = some ((4, 1, 0), iO E 40 (lampF dm)) := hla
  have hsk : G0 sk = some ((4, 2, 0), iO E 40 (skyF st)) := hsk
  have hta : G0 ta = some ((4, 3, 0), iO E 36 (tailF km)) := hta
  have hsw : G0 sw = some ((4, 4, 0), iO E 96 (showF uq)) := hsw
  have hnb : G0 nb = some ((4, 5, 0), iO E 8 (numF (tk, ck, rn, an, sp, ln, lf) nc)) := hnb
  have hnd : nd ≤ 8 := hO.cn.nd
  have hnc : nc ≤ 12 := hO.cn.nc
  have hnu : nu ≤ 24 := hO.nu
  have hns : ns ≤ 20 := hO.ns
  refine lv_ldc2 hx hb hown (hts _ q1040) dX3_digest_5 ?_
  refine lv_lstore_n (lv' := [(1, .long 1109), (0, .ref y)]) hx hb dX3_digest_8 rfl hl (by decide) rfl (fun ls hl => ?_)
  refine lv_iconst (v := 0) hx hb dX3_digest_9 (by decide) ?_
  refine lv_istore_n (lv' := [(3, .int 0), (1, .long 1109), (0, .ref y)]) hx hb dX3_digest_10 rfl hl (by decide) rfl (fun ls hl => ?_)
  refine g_loop2 (A1 := Nat) (A2 := Int64) (fun i d1 H locs ls => i ≤ 13 ∧ d1 = dgF 1109 (fun k => cntV ((tk, ck, rn, an, sp, ln, lf), (nd, dm), (nc, km)) nu ns st (nI k)) i ∧ Inv E G0 H ∧ va_S (eA E) s.heap H locs ∧ lv_has ls 5 [(0, .ref y), (1, .long d1), (3, .int (nI i))]) (fun i d1 => 0) (fun i d1 => 0) (fun i d1 => 13 - i) ?_ 0 1109 _ _ _ ⟨Nat.zero_le _, rfl, hI, hS, lv_sub hl [2, 1, 0] rfl⟩
  intro i d1 ih2 H locs ls hst
  obtain ⟨hi, hz1, hI, hS, hl⟩ := hst
  refine lv_iload_n hx hb dX3_digest_11 rfl (lv_at hl 2 rfl) ?_
  refine lv_bipush (v := 13) hx hb dX3_digest_12 (by decide) ?_
  refine lv_icmp_ge (tgt := 36) hx hb dX3_digest_14 (by decide) (fun c1 => ?_) (fun c1 => ?_)
  · have ei : i = 13 := (Nat.lt_or_ge i 13).elim (fun z => absurd c1 (nI_ge (b := 13) (by omega) (by omega))) (fun z => by omega)
    rw [ei] at hz1
    refine lv_iconst (v := 0) hx hb dX3_digest_36 (by decide) ?_
    refine lv_istore_n (lv' := [(3, .int 0), (0, .ref y), (1, .long d1)]) hx hb dX3_digest_37 rfl hl (by decide) rfl (fun ls hl => ?_)
    refine g_loop2 (A1 := Nat) (A2 := Int64) (fun i d2 H locs ls => i ≤ 12 ∧ d2 = dgF d1 (fun k => glS dm (nI k) nd) i ∧ Inv E G0 H ∧ va_S (eA E) s.heap H locs ∧ lv_has ls 5 [(0, .ref y), (1, .long d2), (3, .int (nI i))]) (fun i d2 => 0) (fun i d2 => 0) (fun i d2 => 12 - i) ?_ 0 d1 _ _ _ ⟨Nat.zero_le _, rfl, hI, hS, lv_sub hl [1, 2, 0] rfl⟩
    intro i d2 ih3 H locs ls hst
    obtain ⟨hi, hz2, hI, hS, hl⟩ := hst
    refine lv_iload_n hx hb dX3_digest_38 rfl (lv_at hl 2 rfl) ?_
    refine lv_bipush (v := 12) hx hb dX3_digest_39 (by decide) ?_
    refine lv_icmp_ge (tgt := 63) hx hb dX3_digest_41 (by decide) (fun c1 => ?_) (fun c1 => ?_)
    · have ei : i = 12 := (Nat.lt_or_ge i 12).elim (fun z => absurd c1 (nI_ge (b := 12) (by omega) (by omega))) (fun z => by omega)
      rw [ei] at hz2
      refine lv_iconst (v := 0) hx hb dX3_digest_63 (by decide) ?_
      refine lv_istore_n (lv' := [(3, .int 0), (0, .ref y), (1, .long d2)]) hx hb dX3_digest_64 rfl hl (by decide) rfl (fun ls hl => ?_)
      refine g_loop2 (A1 := Nat) (A2 := Int64) (fun i d3 H locs ls => i ≤ 5 * nd ∧ d3 = dgF d2 (lampF dm) i ∧ Inv E G0 H ∧ va_S (eA E) s.heap H locs ∧ lv_has ls 5 [(0, .ref y), (1, .long d3), (3, .int (nI i))]) (fun i d3 => 0) (fun i d3 => 0) (fun i d3 => 5 * nd - i) ?_ 0 d2 _ _ _ ⟨Nat.zero_le _, rfl, hI, hS, lv_sub hl [1, 2, 0] rfl⟩
      intro i d3 ih4 H locs ls hst
      obtain ⟨hi, hz3, hI, hS, hl⟩ := hst
      refine lv_iload_n hx hb dX3_digest_65 rfl (lv_at hl 2 rfl) ?_
      refine lv_iconst (v := 5) hx hb dX3_digest_66 (by decide) ?_
      refine lv_aload_n hx hb dX3_digest_67 rfl (lv_at hl 0 rfl) ?_
      refine g_get (C := RX3) (T := TX3) (N := 9) (v := .int (nI nd)) hx hb hts in_X3 hown hE hI hy rfl 1 (by decide) q844 (fun _ h9 => h9) rfl dX3_digest_68 ?_
      refine lv_imul hx hb dX3_digest_71 ?_
      rw [show (5 : Int32) * nI nd = nI (5 * nd) from ix0 5 nd]
      refine lv_icmp_ge (tgt := 95) hx hb dX3_digest_72 (by decide) (fun c1 => ?_) (fun c1 => ?_)
      · have ei : i = (5 * nd) := (Nat.lt_or_ge i (5 * nd)).elim (fun z => absurd c1 (nI_ge z (by omega))) (fun z => by omega)
        rw [ei] at hz3
        refine lv_iconst (v := 0) hx hb dX3_digest_95 (by decide) ?_
        refine lv_istore_n (lv' := [(3, .int 0), (0, .ref y), (1, .long d3)]) hx hb dX3_digest_96 rfl hl (by decide) rfl (fun ls hl => ?_)
        refine g_loop2 (A1 := Nat) (A2 := Int64) (fun k d4 H locs ls => k ≤ ns ∧ d4 = dgG d3 (fun k j => sTold dm nd an (st k) (nI j)) 4 k ∧ Inv E G0 H ∧ va_S (eA E) s.heap H locs ∧ lv_has ls 5 [(0, .ref y), (1, .long d4), (3, .int (nI k))]) (fun k d4 => 0) (fun k d4 => 0) (fun k d4 => ns - k) ?_ 0 d3 _ _ _ ⟨Nat.zero_le _, rfl, hI, hS, lv_sub hl [1, 2, 0] rfl⟩
        intro k d4 ih5 H locs ls hst
        obtain ⟨hi, hz4, hI, hS, hl⟩ := hst
        refine lv_iload_n hx hb dX3_digest_97 rfl (lv_at hl 2 rfl) ?_
        refine lv_aload_n hx hb dX3_digest_98 rfl (lv_at hl 0 rfl) ?_
        refine g_get (C := RX3) (T := TX3) (N := 9) (v := .int (nI ns)) hx hb hts in_X3 hown hE hI hy rfl 2 (by decide) q845 (fun _ h9 => h9) rfl dX3_digest_99 ?_
        refine lv_icmp_ge (tgt := 141) hx hb dX3_digest_102 (by decide) (fun c1 => ?_) (fun c1 => ?_)
        · have ek1 : k = ns := (Nat.lt_or_ge k ns).elim (fun z => absurd c1 (nI_ge z (by omega))) (fun z => by omega)
          rw [ek1] at hz4
          refine lv_iconst (v := 0) hx hb dX3_digest_141 (by decide) ?_
          refine lv_istore_n (lv' := [(3, .int 0), (0, .ref y), (1, .long d4)]) hx hb dX3_digest_142 rfl hl (by decide) rfl (fun ls hl => ?_)
          refine g_loop2 (A1 := Nat) (A2 := Int64) (fun k d5 H locs ls => k ≤ nc ∧ d5 = dgG d4 (fun k j => kTold dm nd (km k) (nI j)) 4 k ∧ Inv E G0 H ∧ va_S (eA E) s.heap H locs ∧ lv_has ls 5 [(0, .ref y), (1, .long d5), (3, .int (nI k))]) (fun k d5 => 0) (fun k d5 => 0) (fun k d5 => nc - k) ?_ 0 d4 _ _ _ ⟨Nat.zero_le _, rfl, hI, hS, lv_sub hl [1, 2, 0] rfl⟩
          intro k d5 ih7 H locs ls hst
          obtain ⟨hi, hz5, hI, hS, hl⟩ := hst
          refine lv_iload_n hx hb dX3_digest_143 rfl (lv_at hl 2 rfl) ?_
          refine lv_aload_n hx hb dX3_digest_144 rfl (lv_at hl 0 rfl) ?_
          refine g_get (C := RX3) (T := TX3) (N := 9) (v := .ref nb) hx hb hts in_X3 hown hE hI hy rfl 8 (by decide) q851 (fun _ h9 => h9) rfl dX3_digest_145 ?_
          refine lv_bipush (v := 7) hx hb dX3_digest_148 (by decide) ?_
          refine g_iald hx hb hE hI hnb (i := 7) 7 rfl (by decide) (by decide) dX3_digest_150 ?_
          rw [show numF (tk, ck, rn, an, sp, ln, lf) nc 7 = nI nc from rfl]
          refine lv_icmp_ge (tgt := 190) hx hb dX3_digest_151 (by decide) (fun c1 => ?_) (fun c1 => ?_)
          · have ek2 : k = nc := (Nat.lt_or_ge k nc).elim (fun z => absurd c1 (nI_ge z (by omega))) (fun z => by omega)
            rw [ek2] at hz5
            refine lv_iconst (v := 0) hx hb dX3_digest_190 (by decide) ?_
            refine lv_istore_n (lv' := [(3, .int 0), (0, .ref y), (1, .long d5)]) hx hb dX3_digest_191 rfl hl (by decide) rfl (fun ls hl => ?_)
            refine g_loop2 (A1 := Nat) (A2 := Int64) (fun i d6 H locs ls => i ≤ 4 * nu ∧ d6 = dgF d5 (showF uq) i ∧ Inv E G0 H ∧ va_S (eA E) s.heap H locs ∧ lv_has ls 5 [(0, .ref y), (1, .long d6), (3, .int (nI i))]) (fun i d6 => 0) (fun i d6 => 0) (fun i d6 => 4 * nu - i) ?_ 0 d5 _ _ _ ⟨Nat.zero_le _, rfl, hI, hS, lv_sub hl [1, 2, 0] rfl⟩
            intro i d6 ih9 H locs ls hst
            obtain ⟨hi, hz6, hI, hS, hl⟩ := hst
            refine lv_iload_n hx hb dX3_digest_192 rfl (lv_at hl 2 rfl) ?_
            refine lv_iconst (v := 4) hx hb dX3_digest_193 (by decide) ?_
            refine lv_aload_n hx hb dX3_digest_194 rfl (lv_at hl 0 rfl) ?_
            refine g_get (C := RX3) (T := TX3) (N := 9) (v := .int (nI nu)) hx hb hts in_X3 hown hE hI hy rfl 3 (by decide) q846 (fun _ h9 => h9) rfl dX3_digest_195 ?_
            refine lv_imul hx hb dX3_digest_198 ?_
            rw [show (4 : Int32) * nI nu = nI (4 * nu) from ix0 4 nu]
            refine lv_icmp_ge (tgt := 222) hx hb dX3_digest_199 (by decide) (fun c1 => ?_) (fun c1 => ?_)
            · have ei : i = (4 * nu) := (Nat.lt_or_ge i (4 * nu)).elim (fun z => absurd c1 (nI_ge z (by omega))) (fun z => by omega)
              rw [ei] at hz6
              refine lv_lload_n hx hb dX3_digest_222 rfl (lv_at hl 1 rfl) ?_
              exact g_lret hx hb hr hlk hI hS dX3_digest_223 (Nat.le_of_ble_eq_true rfl) (Nat.le_of_ble_eq_true rfl) (⟨by rw [hz6, hz5, hz4, hz3, hz2, hz1, dg_flat _ _ (fun k j => uTold (uq k) j) 4 (fun k j hj => showF_t uq k j hj), dg_flat _ _ (fun k j => toldV (dm k) (nI j)) 5 (fun k j hj => lampF_t dm k j hj)]; rfl, hMR, hFr⟩)
            · have hlt : i < (4 * nu) := (Nat.lt_or_ge i (4 * nu)).elim id (fun z => absurd (nI_le z (by omega)) c1)
              refine lv_lload_n hx hb dX3_digest_202 rfl (lv_at hl 1 rfl) ?_
              refine lv_ldc2 hx hb hown (hts _ q1041) dX3_digest_203 ?_
              refine lv_lmul hx hb dX3_digest_206 ?_
              refine lv_aload_n hx hb dX3_digest_207 rfl (lv_at hl 0 rfl) ?_
              refine g_get (C := RX3) (T := TX3) (N := 9) (v := .ref sw) hx hb hts in_X3 hown hE hI hy rfl 7 (by decide) q850 (fun _ h9 => h9) rfl dX3_digest_208 ?_
              refine lv_iload_n hx hb dX3_digest_211 rfl (lv_at hl 2 rfl) ?_
              refine g_iald hx hb hE hI hsw (i := nI i) i rfl (by omega) (by decide) dX3_digest_212 ?_
              refine lv_i2l (v := ((showF uq) i).toInt64) hx hb dX3_digest_213 rfl ?_
              refine lv_ladd hx hb dX3_digest_214 ?_
              refine lv_lstore_n (lv' := [(1, .long ((d6 * 31) + ((showF uq) i).toInt64)), (0, .ref y), (3, .int (nI i))]) hx hb dX3_digest_215 rfl hl (by decide) rfl (fun ls hl => ?_)
              refine lv_iinc (v := nI (i + 1)) (lv' := [(3, .int (nI (i + 1))), (1, .long ((d6 * 31) + ((showF uq) i).toInt64)), (0, .ref y)]) hx hb dX3_digest_216 hl (k := 2) rfl (nI_1 (i)) (by decide) rfl (fun ls hl => ?_)
              refine lv_goto (tgt := 192) hx hb dX3_digest_219 (by decide) ?_
              exact ih9 (i + 1) (d6 * 31 + (showF uq i).toInt64) _ _ _ (by omega) ⟨hlt, by rw [hz6, dgF], hI, hS, lv_sub hl [2, 1, 0] rfl⟩
          · have hlk1 : k < nc := (Nat.lt_or_ge k nc).elim id (fun z => absurd (nI_le z (by omega)) c1)
            refine lv_iconst (v := 0) hx hb dX3_digest_154 (by decide) ?_
            refine lv_istore (lv' := [(4, .int 0), (0, .ref y), (1, .long d5), (3, .int (nI k))]) hx hb dX3_digest_155 hl (by decide) rfl (fun ls hl => ?_)
            refine g_loop2 (A1 := Nat) (A2 := Int64) (fun j e5 H locs ls => j ≤ 4 ∧ e5 = dgF d5 ((fun k j => kTold dm nd (km k) (nI j)) k) j ∧ Inv E G0 H ∧ va_S (eA E) s.heap H locs ∧ lv_has ls 5 [(0, .ref y), (1, .long e5), (3, .int (nI k)), (4, .int (nI j))]) (fun j e5 => 0) (fun j e5 => 0) (fun j e5 => 4 - j) ?_ 0 d5 _ _ _ ⟨Nat.zero_le _, rfl, hI, hS, lv_sub hl [1, 2, 3, 0] rfl⟩
            intro j e5 ih8 H locs ls hst
            obtain ⟨hj, hy5, hI, hS, hl⟩ := hst
            refine lv_iload hx hb dX3_digest_157 (lv_at hl 3 rfl) ?_
            refine lv_iconst (v := 4) hx hb dX3_digest_159 (by decide) ?_
            refine lv_icmp_ge (tgt := 184) hx hb dX3_digest_160 (by decide) (fun c2 => ?_) (fun c2 => ?_)
            · have ej : j = 4 := (Nat.lt_or_ge j 4).elim (fun z => absurd c2 (nI_ge (b := 4) (by omega) (by omega))) (fun z => by omega)
              rw [ej] at hy5
              refine lv_iinc (v := nI (k + 1)) (lv' := [(3, .int (nI (k + 1))), (0, .ref y), (1, .long e5), (4, .int (nI j))]) hx hb dX3_digest_184 hl (k := 2) rfl (nI_1 (k)) (by decide) rfl (fun ls hl => ?_)
              refine lv_goto (tgt := 143) hx hb dX3_digest_187 (by decide) ?_
              exact ih7 (k + 1) e5 _ _ _ (by omega) ⟨hlk1, by rw [hy5, hz5]; rfl, hI, hS, lv_sub hl [1, 2, 0] rfl⟩
            · have hlt : j < 4 := (Nat.lt_or_ge j 4).elim id (fun z => absurd (nI_le (a := 4) (b := j) (by omega) (by omega)) c2)
              refine lv_lload_n hx hb dX3_digest_163 rfl (lv_at hl 1 rfl) ?_
              refine lv_ldc2 hx hb hown (hts _ q1041) dX3_digest_164 ?_
              refine lv_lmul hx hb dX3_digest_167 ?_
              refine lv_aload_n hx hb dX3_digest_168 rfl (lv_at hl 0 rfl) ?_
              refine lv_iload_n hx hb dX3_digest_169 rfl (lv_at hl 2 rfl) ?_
              refine lv_iload hx hb dX3_digest_170 (lv_at hl 3 rfl) ?_
              refine g_ci0 (G := G0) (v := kTold dm nd (km k) (nI j)) hS (va_runV (As := [.int (nI k), .int (nI j)]) (rest := [.long (e5 * 31)]) ⟨hx, hb, hml, hown, hts⟩ (k_kTold l E G0 y (la, sk, ta, sw, nb) _ ((((tk, ck, rn, an, sp, ln, lf), (nd, dm), (nc, km)), (nu, uq), (ns, st)) : Sy) hMR hO k j hlk1 hlt) (cwV 2 hts (lw_V q985 q987 qs26 q36 q988) rfl rfl rfl (by decide +kernel) ⟨Nat.le_of_ble_eq_true rfl, Nat.le_of_ble_eq_true rfl⟩) (g_preV hE hI (g_recv hE hI hy rfl)) rfl rfl hl.1 rfl (lv_room (Nat.le_of_ble_eq_true rfl)) dX3_digest_172 ⟨Nat.le_of_ble_eq_true rfl, Nat.le_of_ble_eq_true rfl⟩) (fun H locs hI hS => ?_)
              refine lv_i2l (v := (kTold dm nd (km k) (nI j)).toInt64) hx hb dX3_digest_175 rfl ?_
              refine lv_ladd hx hb dX3_digest_176 ?_
              refine lv_lstore_n (lv' := [(1, .long ((e5 * 31) + (kTold dm nd (km k) (nI j)).toInt64)), (0, .ref y), (3, .int (nI k)), (4, .int (nI j))]) hx hb dX3_digest_177 rfl hl (by decide) rfl (fun ls hl => ?_)
              refine lv_iinc (v := nI (j + 1)) (lv' := [(4, .int (nI (j + 1))), (1, .long ((e5 * 31) + (kTold dm nd (km k) (nI j)).toInt64)), (0, .ref y), (3, .int (nI k))]) hx hb dX3_digest_178 hl (k := 3) rfl (nI_1 (j)) (by decide) rfl (fun ls hl => ?_)
              refine lv_goto (tgt := 157) hx hb dX3_digest_181 (by decide) ?_
              exact ih8 (j + 1) (e5 * 31 + (kTold dm nd (km k) (nI j)).toInt64) _ _ _ (by omega) ⟨hlt, by rw [hy5, dgF], hI, hS, lv_sub hl [2, 1, 3, 0] rfl⟩
        · have hlk1 : k < ns := (Nat.lt_or_ge k ns).elim id (fun z => absurd (nI_le z (by omega)) c1)
          refine lv_iconst (v := 0) hx hb dX3_digest_105 (by decide) ?_
          refine lv_istore (lv' := [(4, .int 0), (0, .ref y), (1, .long d4), (3, .int (nI k))]) hx hb dX3_digest_106 hl (by decide) rfl (fun ls hl => ?_)
          refine g_loop2 (A1 := Nat) (A2 := Int64) (fun j e4 H locs ls => j ≤ 4 ∧ e4 = dgF d4 ((fun k j => sTold dm nd an (st k) (nI j)) k) j ∧ Inv E G0 H ∧ va_S (eA E) s.heap H locs ∧ lv_has ls 5 [(0, .ref y), (1, .long e4), (3, .int (nI k)), (4, .int (nI j))]) (fun j e4 => 0) (fun j e4 => 0) (fun j e4 => 4 - j) ?_ 0 d4 _ _ _ ⟨Nat.zero_le _, rfl, hI, hS, lv_sub hl [1, 2, 3, 0] rfl⟩
          intro j e4 ih6 H locs ls hst
          obtain ⟨hj, hy4, hI, hS, hl⟩ := hst
          refine lv_iload hx hb dX3_digest_108 (lv_at hl 3 rfl) ?_
          refine lv_iconst (v := 4) hx hb dX3_digest_110 (by decide) ?_
          refine lv_icmp_ge (tgt := 135) hx hb dX3_digest_111 (by decide) (fun c2 => ?_) (fun c2 => ?_)
          · have ej : j = 4 := (Nat.lt_or_ge j 4).elim (fun z => absurd c2 (nI_ge (b := 4) (by omega) (by omega))) (fun z => by omega)
            rw [ej] at hy4
            refine lv_iinc (v := nI (k + 1)) (lv' := [(3, .int (nI (k + 1))), (0, .ref y), (1, .long e4), (4, .int (nI j))]) hx hb dX3_digest_135 hl (k := 2) rfl (nI_1 (k)) (by decide) rfl (fun ls hl => ?_)
            refine lv_goto (tgt := 97) hx hb dX3_digest_138 (by decide) ?_
            exact ih5 (k + 1) e4 _ _ _ (by omega) ⟨hlk1, by rw [hy4, hz4]; rfl, hI, hS, lv_sub hl [1, 2, 0] rfl⟩
          · have hlt : j < 4 := (Nat.lt_or_ge j 4).elim id (fun z => absurd (nI_le (a := 4) (b := j) (by omega) (by omega)) c2)
            refine lv_lload_n hx hb dX3_digest_114 rfl (lv_at hl 1 rfl) ?_
            refine lv_ldc2 hx hb hown (hts _ q1041) dX3_digest_115 ?_
            refine lv_lmul hx hb dX3_digest_118 ?_
            refine lv_aload_n hx hb dX3_digest_119 rfl (lv_at hl 0 rfl) ?_
            refine lv_iload_n hx hb dX3_digest_120 rfl (lv_at hl 2 rfl) ?_
            refine lv_iload hx hb dX3_digest_121 (lv_at hl 3 rfl) ?_
            refine g_ci0 (G := G0) (v := sTold dm nd an (st k) (nI j)) hS (va_runV (As := [.int (nI k), .int (nI j)]) (rest := [.long (e4 * 31)]) ⟨hx, hb, hml, hown, hts⟩ (k_sTold l E G0 y (la, sk, ta, sw, nb) _ ((((tk, ck, rn, an, sp, ln, lf), (nd, dm), (nc, km)), (nu, uq), (ns, st)) : Sy) hMR hO k j hlk1 hlt) (cwV 2 hts (lw_V q969 q971 qs23 q36 q972) rfl rfl rfl (by decide +kernel) ⟨Nat.le_of_ble_eq_true rfl, Nat.le_of_ble_eq_true rfl⟩) (g_preV hE hI (g_recv hE hI hy rfl)) rfl rfl hl.1 rfl (lv_room (Nat.le_of_ble_eq_true rfl)) dX3_digest_123 ⟨Nat.le_of_ble_eq_true rfl, Nat.le_of_ble_eq_true rfl⟩) (fun H locs hI hS => ?_)
            refine lv_i2l (v := (sTold dm nd an (st k) (nI j)).toInt64) hx hb dX3_digest_126 rfl ?_
            refine lv_ladd hx hb dX3_digest_127 ?_
            refine lv_lstore_n (lv' := [(1, .long ((e4 * 31) + (sTold dm nd an (st k) (nI j)).toInt64)), (0, .ref y), (3, .int (nI k)), (4, .int (nI j))]) hx hb dX3_digest_128 rfl hl (by decide) rfl (fun ls hl => ?_)
            refine lv_iinc (v := nI (j + 1)) (lv' := [(4, .int (nI (j + 1))), (1, .long ((e4 * 31) + (sTold dm nd an (st k) (nI j)).toInt64)), (0, .ref y), (3, .int (nI k))]) hx hb dX3_digest_129 hl (k := 3) rfl (nI_1 (j)) (by decide) rfl (fun ls hl => ?_)
            refine lv_goto (tgt := 108) hx hb dX3_digest_132 (by decide) ?_
            exact ih6 (j + 1) (e4 * 31 + (sTold dm nd an (st k) (nI j)).toInt64) _ _ _ (by omega) ⟨hlt, by rw [hy4, dgF], hI, hS, lv_sub hl [2, 1, 3, 0] rfl⟩
      · have hlt : i < (5 * nd) := (Nat.lt_or_ge i (5 * nd)).elim id (fun z => absurd (nI_le z (by omega)) c1)
        refine lv_lload_n hx hb dX3_digest_75 rfl (lv_at hl 1 rfl) ?_
        refine lv_ldc2 hx hb hown (hts _ q1041) dX3_digest_76 ?_
        refine lv_lmul hx hb dX3_digest_79 ?_
        refine lv_aload_n hx hb dX3_digest_80 rfl (lv_at hl 0 rfl) ?_
        refine g_get (C := RX3) (T := TX3) (N := 9) (v := .ref la) hx hb hts in_X3 hown hE hI hy rfl 4 (by decide) q847 (fun _ h9 => h9) rfl dX3_digest_81 ?_
        refine lv_iload_n hx hb dX3_digest_84 rfl (lv_at hl 2 rfl) ?_
        refine g_iald hx hb hE hI hla (i := nI i) i rfl (by omega) (by decide) dX3_digest_85 ?_
        refine lv_i2l (v := ((lampF dm) i).toInt64) hx hb dX3_digest_86 rfl ?_
        refine lv_ladd hx hb dX3_digest_87 ?_
        refine lv_lstore_n (lv' := [(1, .long ((d3 * 31) + ((lampF dm) i).toInt64)), (0, .ref y), (3, .int (nI i))]) hx hb dX3_digest_88 rfl hl (by decide) rfl (fun ls hl => ?_)
        refine lv_iinc (v := nI (i + 1)) (lv' := [(3, .int (nI (i + 1))), (1, .long ((d3 * 31) + ((lampF dm) i).toInt64)), (0, .ref y)]) hx hb dX3_digest_89 hl (k := 2) rfl (nI_1 (i)) (by decide) rfl (fun ls hl => ?_)
        refine lv_goto (tgt := 65) hx hb dX3_digest_92 (by decide) ?_
        exact ih4 (i + 1) (d3 * 31 + (lampF dm i).toInt64) _ _ _ (by omega) ⟨hlt, by rw [hz3, dgF], hI, hS, lv_sub hl [2, 1, 0] rfl⟩
    · have hlt : i < 12 := (Nat.lt_or_ge i 12).elim id (fun z => absurd (nI_le (a := 12) (b := i) (by omega) (by omega)) c1)
      refine lv_lload_n hx hb dX3_digest_44 rfl (lv_at hl 1 rfl) ?_
      refine lv_ldc2 hx hb hown (hts _ q1041) dX3_digest_45 ?_
      refine lv_lmul hx hb dX3_digest_48 ?_
      refine lv_aload_n hx hb dX3_digest_49 rfl (lv_at hl 0 rfl) ?_
      refine lv_iload_n hx hb dX3_digest_50 rfl (lv_at hl 2 rfl) ?_
      refine g_ci0 (G := G0) (v := glS dm (nI i) nd) hS (va_runV (As := [.int (nI i)]) (rest := [.long (d2 * 31)]) ⟨hx, hb, hml, hown, hts⟩ (k_glareOf l E G0 y (la, sk, ta, sw, nb) _ ((((tk, ck, rn, an, sp, ln, lf), (nd, dm), (nc, km)), (nu, uq), (ns, st)) : Sy) hMR hO.cn i hlt) (cwV 1 hts (lw_V q961 q963 qs22 q36 q964) rfl rfl rfl (by decide +kernel) ⟨Nat.le_of_ble_eq_true rfl, Nat.le_of_ble_eq_true rfl⟩) (g_preV hE hI (g_recv hE hI hy rfl)) rfl rfl hl.1 rfl (lv_room (Nat.le_of_ble_eq_true rfl)) dX3_digest_51 ⟨Nat.le_of_ble_eq_true rfl, Nat.le_of_ble_eq_true rfl⟩) (fun H locs hI hS => ?_)
      refine lv_i2l (v := (glS dm (nI i) nd).toInt64) hx hb dX3_digest_54 rfl ?_
      refine lv_ladd hx hb dX3_digest_55 ?_
      refine lv_lstore_n (lv' := [(1, .long ((d2 * 31) + (glS dm (nI i) nd).toInt64)), (0, .ref y), (3, .int (nI i))]) hx hb dX3_digest_56 rfl hl (by decide) rfl (fun ls hl => ?_)
      refine lv_iinc (v := nI (i + 1)) (lv' := [(3, .int (nI (i + 1))), (1, .long ((d2 * 31) + (glS dm (nI i) nd).toInt64)), (0, .ref y)]) hx hb dX3_digest_57 hl (k := 2) rfl (nI_1 (i)) (by decide) rfl (fun ls hl => ?_)
      refine lv_goto (tgt := 38) hx hb dX3_digest_60 (by decide) ?_
      exact ih3 (i + 1) (d2 * 31 + (glS dm (nI i) nd).toInt64) _ _ _ (by omega) ⟨hlt, by rw [hz2, dgF], hI, hS, lv_sub hl [2, 1, 0] rfl⟩
  · have hlt : i < 13 := (Nat.lt_or_ge i 13).elim id (fun z => absurd (nI_le (a := 13) (b := i) (by omega) (by omega)) c1)
    refine lv_lload_n hx hb dX3_digest_17 rfl (lv_at hl 1 rfl) ?_
    refine lv_ldc2 hx hb hown (hts _ q1041) dX3_digest_18 ?_
    refine lv_lmul hx hb dX3_digest_21 ?_
    refine lv_aload_n hx hb dX3_digest_22 rfl (lv_at hl 0 rfl) ?_
    refine lv_iload_n hx hb dX3_digest_23 rfl (lv_at hl 2 rfl) ?_
    refine g_ci0 (G := G0) (v := cntV ((tk, ck, rn, an, sp, ln, lf), (nd, dm), (nc, km)) nu ns st (nI i)) hS (va_runV (As := [.int (nI i)]) (rest := [.long (d1 * 31)]) ⟨hx, hb, hml, hown, hts⟩ (k_counted l E G0 y (la, sk, ta, sw, nb) _ ((((tk, ck, rn, an, sp, ln, lf), (nd, dm), (nc, km)), (nu, uq), (ns, st)) : Sy) hMR hO i hlt) (cwV 1 hts (lw_V q993 q995 qs27 q36 q996) rfl rfl rfl (by decide +kernel) ⟨Nat.le_of_ble_eq_true rfl, Nat.le_of_ble_eq_true rfl⟩) (g_preV hE hI (g_recv hE hI hy rfl)) rfl rfl hl.1 rfl (lv_room (Nat.le_of_ble_eq_true rfl)) dX3_digest_24 ⟨Nat.le_of_ble_eq_true rfl, Nat.le_of_ble_eq_true rfl⟩) (fun H locs hI hS => ?_)
    refine lv_i2l (v := (cntV ((tk, ck, rn, an, sp, ln, lf), (nd, dm), (nc, km)) nu ns st (nI i)).toInt64) hx hb dX3_digest_27 rfl ?_
    refine lv_ladd hx hb dX3_digest_28 ?_
    refine lv_lstore_n (lv' := [(1, .long ((d1 * 31) + (cntV ((tk, ck, rn, an, sp, ln, lf), (nd, dm), (nc, km)) nu ns st (nI i)).toInt64)), (0, .ref y), (3, .int (nI i))]) hx hb dX3_digest_29 rfl hl (by decide) rfl (fun ls hl => ?_)
    refine lv_iinc (v := nI (i + 1)) (lv' := [(3, .int (nI (i + 1))), (1, .long ((d1 * 31) + (cntV ((tk, ck, rn, an, sp, ln, lf), (nd, dm), (nc, km)) nu ns st (nI i)).toInt64)), (0, .ref y)]) hx hb dX3_digest_30 hl (k := 2) rfl (nI_1 (i)) (by decide) rfl (fun ls hl => ?_)
    refine lv_goto (tgt := 11) hx hb dX3_digest_33 (by decide) ?_
    exact ih2 (i + 1) (d1 * 31 + (cntV ((tk, ck, rn, an, sp, ln, lf), (nd, dm), (nc, km)) nu ns st (nI i)).toInt64) _ _ _ (by omega) ⟨hlt, by rw [hz1, dgF], hI, hS, lv_sub hl [2, 1, 0] rfl⟩
