/-! CONTRACTS of the model's small methods. Printed by gen/p41.py -/
set_option maxRecDepth 100000
set_option maxHeartbeats 4000000 in
set_option maxRecDepth 100000 in
theorem k_thrown (l : Launch) (E : EnvT) (G : Gh) (y : Nat) (M : MA) (th : Int32) (σ : Sy) (hMR : MRep E G y M th σ) : Met l yX3_thrown (ws_ yX3_thrown cX3_thrown 1 (some .int)) ({ frames := 0, cells := 0, slots := 0, locals := 0 } : Room) (cP E G [.ref y]) (cI E (fun r G' => r = th ∧ G' = G)) 0 0 (eA E) := by
  obtain ⟨la, sk, ta, sw, nb⟩ := M
  obtain ⟨⟨⟨tk, ck, rn, an, sp, ln, lf⟩, ⟨nd, dm⟩, ⟨nc, km⟩⟩, ⟨nu, uq⟩, ⟨ns, st⟩⟩ := σ
  refine g_met (rm := ({ frames := 0, cells := 0, slots := 0, locals := 0 } : Room)) (av := [.ref y]) (lv := [(0, .ref y)]) (by decide) (Nat.le_of_ble_eq_true rfl) rfl ?_
  intro p e s m below meth c ls hx hb hr hlk hml hin hts hown hE hI hL hS hl
  have hMR0 := hMR
  obtain ⟨hy, hla, hsk, hta, hsw, hnb⟩ := hMR0
  have hy : G y = some ((4, 0, 0), mO th (nI nd) (nI ns) (nI nu) la sk ta sw nb) := hy
  have hla : G la = some ((4, 1, 0), iO E 40 (lampF dm)) := hla
  have hsk : G sk = some ((4, 2, 0), iO E 40 (skyF st)) := hsk
  have hta : G ta = some ((4, 3, 0), iO E 36 (tailF km)) := hta
  have hsw : G sw = some ((4, 4, 0), iO E 96 (showF uq)) := hsw
  have hnb : G nb = some ((4, 5, 0), iO E 8 (numF (tk, ck, rn, an, sp, ln, lf) nc)) := hnb
  have hFr : Fr (Ow 4) G G := Fr.rf
  refine lv_aload_n hx hb dX3_thrown_0 rfl (lv_at hl 0 rfl) ?_
  refine g_get (C := RX3) (T := TX3) (N := 9) (v := .int th) hx hb hts in_X3 hown hE hI hy rfl 0 (by decide) q843 (fun _ h9 => h9) rfl dX3_thrown_1 ?_
  exact g_iret hx hb hr hlk hI hS dX3_thrown_4 (Nat.le_of_ble_eq_true rfl) (Nat.le_of_ble_eq_true rfl) (⟨rfl, rfl⟩)
set_option maxHeartbeats 4000000 in
set_option maxRecDepth 100000 in
theorem k_isIn (l : Launch) (E : EnvT) (G : Gh) (v lo hi : Int32) : Met l yX3_isIn (ws_ yX3_isIn cX3_isIn 3 (some .boolean)) ({ frames := 0, cells := 0, slots := 0, locals := 0 } : Room) (cP E G [.int v, .int lo, .int hi]) (cI E (fun r G' => r = isInV v lo hi ∧ G' = G)) 0 0 (eA E) := by
  refine g_met (rm := ({ frames := 0, cells := 0, slots := 0, locals := 0 } : Room)) (av := [.int v, .int lo, .int hi]) (lv := [(0, .int v), (1, .int lo), (2, .int hi)]) (by decide) (Nat.le_of_ble_eq_true rfl) rfl ?_
  intro p e s m below meth c ls hx hb hr hlk hml hin hts hown hE hI hL hS hl
  refine lv_iload_n hx hb dX3_isIn_0 rfl (lv_at hl 0 rfl) ?_
  refine lv_iload_n hx hb dX3_isIn_1 rfl (lv_at hl 1 rfl) ?_
  refine lv_icmp_lt (tgt := 14) hx hb dX3_isIn_2 (by decide) (fun c1 => ?_) (fun c1 => ?_)
  · refine lv_iconst (v := 0) hx hb dX3_isIn_14 (by decide) ?_
    exact g_zret hx hb hr hlk hI hS dX3_isIn_15 (Nat.le_of_ble_eq_true rfl) (Nat.le_of_ble_eq_true rfl) rfl (⟨(if_pos c1).symm, rfl⟩)
  · refine lv_iload_n hx hb dX3_isIn_5 rfl (lv_at hl 0 rfl) ?_
    refine lv_iload_n hx hb dX3_isIn_6 rfl (lv_at hl 2 rfl) ?_
    refine lv_icmp_gt (tgt := 14) hx hb dX3_isIn_7 (by decide) (fun c2 => ?_) (fun c2 => ?_)
    · refine lv_iconst (v := 0) hx hb dX3_isIn_14 (by decide) ?_
      exact g_zret hx hb hr hlk hI hS dX3_isIn_15 (Nat.le_of_ble_eq_true rfl) (Nat.le_of_ble_eq_true rfl) rfl (⟨((if_neg c1).trans (if_pos c2)).symm, rfl⟩)
    · refine lv_iconst (v := 1) hx hb dX3_isIn_10 (by decide) ?_
      refine lv_goto (tgt := 15) hx hb dX3_isIn_11 (by decide) ?_
      exact g_zret hx hb hr hlk hI hS dX3_isIn_15 (Nat.le_of_ble_eq_true rfl) (Nat.le_of_ble_eq_true rfl) rfl (⟨((if_neg c1).trans (if_neg c2)).symm, rfl⟩)
set_option maxHeartbeats 4000000 in
set_option maxRecDepth 100000 in
theorem k_fail (l : Launch) (E : EnvT) (G : Gh) (y : Nat) (M : MA) (th : Int32) (σ : Sy) (hMR : MRep E G y M th σ) (k : Int32) : Met l yX3_fail (ws_ yX3_fail cX3_fail 2 (some .int)) ({ frames := 0, cells := 0, slots := 0, locals := 0 } : Room) (cP E G [.ref y, .int k]) (cI E (fun r G' => r = 0 ∧ MRep E G' y M k σ ∧ Fr (Ow 4) G G')) 0 0 (eA E) := by
  obtain ⟨la, sk, ta, sw, nb⟩ := M
  obtain ⟨⟨⟨tk, ck, rn, an, sp, ln, lf⟩, ⟨nd, dm⟩, ⟨nc, km⟩⟩, ⟨nu, uq⟩, ⟨ns, st⟩⟩ := σ
  refine g_met (rm := ({ frames := 0, cells := 0, slots := 0, locals := 0 } : Room)) (av := [.ref y, .int k]) (lv := [(0, .ref y), (1, .int k)]) (by decide) (Nat.le_of_ble_eq_true rfl) rfl ?_
  intro p e s m below meth c ls hx hb hr hlk hml hin hts hown hE hI hL hS hl
  have hMR0 := hMR
  obtain ⟨hy, hla, hsk, hta, hsw, hnb⟩ := hMR0
  have hy : G y = some ((4, 0, 0), mO th (nI nd) (nI ns) (nI nu) la sk ta sw nb) := hy
  have hla : G la = some ((4, 1, 0), iO E 40 (lampF dm)) := hla
  have hsk : G sk = some ((4, 2, 0), iO E 40 (skyF st)) := hsk
  have hta : G ta = some ((4, 3, 0), iO E 36 (tailF km)) := hta
  have hsw : G sw = some ((4, 4, 0), iO E 96 (showF uq)) := hsw
  have hnb : G nb = some ((4, 5, 0), iO E 8 (numF (tk, ck, rn, an, sp, ln, lf) nc)) := hnb
  have hFr : Fr (Ow 4) G G := Fr.rf
  refine lv_aload_n hx hb dX3_fail_0 rfl (lv_at hl 0 rfl) ?_
  refine lv_iload_n hx hb dX3_fail_1 rfl (lv_at hl 1 rfl) ?_
  refine g_put (C := RX3) (T := TX3) (N := 9) (v := .int k) (ty := .int) (fs' := [.int k, .int (nI nd), .int (nI ns), .int (nI nu), .ref la, .ref sk, .ref ta, .ref sw, .ref nb]) hx hb hts in_X3 tyX3 tyX3_ok nmX3 hown hE hI hS hL hy rfl 0 (by decide) q843 (fun _ h9 => h9) rfl (by decide +kernel) rfl rfl (Nat.le_of_ble_eq_true rfl) rfl dX3_fail_2 (fun H locs hI hS => ?_)
  have hla := gU_o (x := ((4, 0, 0), .inr (7, [.int k, .int (nI nd), .int (nI ns), .int (nI nu), .ref la, .ref sk, .ref ta, .ref sw, .ref nb]))) hy hla (by simp)
  have hsk := gU_o (x := ((4, 0, 0), .inr (7, [.int k, .int (nI nd), .int (nI ns), .int (nI nu), .ref la, .ref sk, .ref ta, .ref sw, .ref nb]))) hy hsk (by simp)
  have hta := gU_o (x := ((4, 0, 0), .inr (7, [.int k, .int (nI nd), .int (nI ns), .int (nI nu), .ref la, .ref sk, .ref ta, .ref sw, .ref nb]))) hy hta (by simp)
  have hsw := gU_o (x := ((4, 0, 0), .inr (7, [.int k, .int (nI nd), .int (nI ns), .int (nI nu), .ref la, .ref sk, .ref ta, .ref sw, .ref nb]))) hy hsw (by simp)
  have hnb := gU_o (x := ((4, 0, 0), .inr (7, [.int k, .int (nI nd), .int (nI ns), .int (nI nu), .ref la, .ref sk, .ref ta, .ref sw, .ref nb]))) hy hnb (by simp)
  have hFr : Fr (Ow 4) G (gU G y ((4, 0, 0), .inr (7, [.int k, .int (nI nd), .int (nI ns), .int (nI nu), .ref la, .ref sk, .ref ta, .ref sw, .ref nb]))) := Fr.trans hFr (Fr.put (x := ((4, 0, 0), .inr (7, [.int k, .int (nI nd), .int (nI ns), .int (nI nu), .ref la, .ref sk, .ref ta, .ref sw, .ref nb]))) hy rfl)
  have hy : (gU G y ((4, 0, 0), .inr (7, [.int k, .int (nI nd), .int (nI ns), .int (nI nu), .ref la, .ref sk, .ref ta, .ref sw, .ref nb]))) y = some ((4, 0, 0), .inr (7, [.int k, .int (nI nd), .int (nI ns), .int (nI nu), .ref la, .ref sk, .ref ta, .ref sw, .ref nb])) := gU_self
  refine lv_iconst (v := 0) hx hb dX3_fail_5 (by decide) ?_
  exact g_iret hx hb hr hlk hI hS dX3_fail_6 (Nat.le_of_ble_eq_true rfl) (Nat.le_of_ble_eq_true rfl) (⟨rfl, ⟨hy, hla, hsk, hta, hsw, hnb⟩, hFr⟩)
theorem isInV_z (v lo hi : Int32) : narrow .boolean (.int (isInV v lo hi)) = .int (isInV v lo hi) := by
  unfold isInV
  split
  · rfl
  · split <;> rfl
set_option maxHeartbeats 4000000 in
set_option maxRecDepth 100000 in
theorem k_isDim (l : Launch) (E : EnvT) (G : Gh) (y : Nat) (M : MA) (th : Int32) (σ : Sy) (hMR : MRep E G y M th σ) (d : Int32) : Met l yX3_isDimmer (ws_ yX3_isDimmer cX3_isDimmer 2 (some .boolean)) ({ frames := 1, cells := 0, slots := 0, locals := 22 } : Room) (cP E G [.ref y, .int d]) (cI E (fun r G' => r = isInV d 0 (nI σ.1.2.1.1 - 1) ∧ G' = G)) 0 0 (eA E) := by
  obtain ⟨la, sk, ta, sw, nb⟩ := M
  obtain ⟨⟨⟨tk, ck, rn, an, sp, ln, lf⟩, ⟨nd, dm⟩, ⟨nc, km⟩⟩, ⟨nu, uq⟩, ⟨ns, st⟩⟩ := σ
  refine g_met (rm := ({ frames := 1, cells := 0, slots := 0, locals := 22 } : Room)) (av := [.ref y, .int d]) (lv := [(0, .ref y), (1, .int d)]) (by decide) (Nat.le_of_ble_eq_true rfl) rfl ?_
  intro p e s m below meth c ls hx hb hr hlk hml hin hts hown hE hI hL hS hl
  have hMR0 := hMR
  obtain ⟨hy, hla, hsk, hta, hsw, hnb⟩ := hMR0
  have hy : G y = some ((4, 0, 0), mO th (nI nd) (nI ns) (nI nu) la sk ta sw nb) := hy
  have hla : G la = some ((4, 1, 0), iO E 40 (lampF dm)) := hla
  have hsk : G sk = some ((4, 2, 0), iO E 40 (skyF st)) := hsk
  have hta : G ta = some ((4, 3, 0), iO E 36 (tailF km)) := hta
  have hsw : G sw = some ((4, 4, 0), iO E 96 (showF uq)) := hsw
  have hnb : G nb = some ((4, 5, 0), iO E 8 (numF (tk, ck, rn, an, sp, ln, lf) nc)) := hnb
  have hFr : Fr (Ow 4) G G := Fr.rf
  refine lv_iload_n hx hb dX3_isDimmer_0 rfl (lv_at hl 1 rfl) ?_
  refine lv_iconst (v := 0) hx hb dX3_isDimmer_1 (by decide) ?_
  refine lv_aload_n hx hb dX3_isDimmer_2 rfl (lv_at hl 0 rfl) ?_
  refine g_get (C := RX3) (T := TX3) (N := 9) (v := .int (nI nd)) hx hb hts in_X3 hown hE hI hy rfl 1 (by decide) q844 (fun _ h9 => h9) rfl dX3_isDimmer_3 ?_
  refine lv_iconst (v := 1) hx hb dX3_isDimmer_6 (by decide) ?_
  refine lv_isub hx hb dX3_isDimmer_7 ?_
  refine g_ci0 (G := G) (v := isInV d 0 (nI nd - 1)) hS (va_runS (As := [.int d, .int 0, .int (nI nd - 1)]) (rest := []) ⟨hx, hb, hml, hown, hts⟩ (k_isIn l E G d 0 (nI nd - 1)) (va_cwS 3 hts (lw_S q880 q881 q36 q882) rfl rfl rfl (by decide +kernel) ⟨Nat.le_of_ble_eq_true rfl, Nat.le_of_ble_eq_true rfl⟩) (g_preS hE hI) rfl rfl hl.1 rfl (lv_room (Nat.le_of_ble_eq_true rfl)) dX3_isDimmer_8 ⟨Nat.le_of_ble_eq_true rfl, Nat.le_of_ble_eq_true rfl⟩) (fun H locs hI hS => ?_)
  exact g_zret hx hb hr hlk hI hS dX3_isDimmer_11 (Nat.le_of_ble_eq_true rfl) (Nat.le_of_ble_eq_true rfl) (isInV_z _ _ _) (⟨rfl, rfl⟩)
set_option maxHeartbeats 4000000 in
set_option maxRecDepth 100000 in
theorem k_la (l : Launch) (E : EnvT) (G : Gh) (y : Nat) (M : MA) (th : Int32) (σ : Sy) (hMR : MRep E G y M th σ) (d v : Nat) (hd : d < 8) (hv : v < 5) : Met l yX3_la (ws_ yX3_la cX3_la 3 (some .int)) ({ frames := 0, cells := 0, slots := 0, locals := 0 } : Room) (cP E G [.ref y, .int (nI d), .int (nI v)]) (cI E (fun r G' => r = lampF σ.1.2.1.2 (5 * d + v) ∧ G' = G)) 0 0 (eA E) := by
  obtain ⟨la, sk, ta, sw, nb⟩ := M
  obtain ⟨⟨⟨tk, ck, rn, an, sp, ln, lf⟩, ⟨nd, dm⟩, ⟨nc, km⟩⟩, ⟨nu, uq⟩, ⟨ns, st⟩⟩ := σ
  refine g_met (rm := ({ frames := 0, cells := 0, slots := 0, locals := 0 } : Room)) (av := [.ref y, .int (nI d), .int (nI v)]) (lv := [(0, .ref y), (1, .int (nI d)), (2, .int (nI v))]) (by decide) (Nat.le_of_ble_eq_true rfl) rfl ?_
  intro p e s m below meth c ls hx hb hr hlk hml hin hts hown hE hI hL hS hl
  have hMR0 := hMR
  obtain ⟨hy, hla, hsk, hta, hsw, hnb⟩ := hMR0
  have hy : G y = some ((4, 0, 0), mO th (nI nd) (nI ns) (nI nu) la sk ta sw nb) := hy
  have hla : G la = some ((4, 1, 0), iO E 40 (lampF dm)) := hla
  have hsk : G sk = some ((4, 2, 0), iO E 40 (skyF st)) := hsk
  have hta : G ta = some ((4, 3, 0), iO E 36 (tailF km)) := hta
  have hsw : G sw = some ((4, 4, 0), iO E 96 (showF uq)) := hsw
  have hnb : G nb = some ((4, 5, 0), iO E 8 (numF (tk, ck, rn, an, sp, ln, lf) nc)) := hnb
  have hFr : Fr (Ow 4) G G := Fr.rf
  refine lv_aload_n hx hb dX3_la_0 rfl (lv_at hl 0 rfl) ?_
  refine g_get (C := RX3) (T := TX3) (N := 9) (v := .ref la) hx hb hts in_X3 hown hE hI hy rfl 4 (by decide) q847 (fun _ h9 => h9) rfl dX3_la_1 ?_
  refine lv_iconst (v := 5) hx hb dX3_la_4 (by decide) ?_
  refine lv_iload_n hx hb dX3_la_5 rfl (lv_at hl 1 rfl) ?_
  refine lv_imul hx hb dX3_la_6 ?_
  refine lv_iload_n hx hb dX3_la_7 rfl (lv_at hl 2 rfl) ?_
  refine lv_iadd hx hb dX3_la_8 ?_
  refine g_iald hx hb hE hI hla (i := ((5 * nI d) + nI v)) (5 * d + v) (ix 5 d v) (by omega) (by decide) dX3_la_9 ?_
  exact g_iret hx hb hr hlk hI hS dX3_la_10 (Nat.le_of_ble_eq_true rfl) (Nat.le_of_ble_eq_true rfl) (⟨rfl, rfl⟩)
set_option maxHeartbeats 4000000 in
set_option maxRecDepth 100000 in
theorem k_put (l : Launch) (E : EnvT) (G : Gh) (y : Nat) (M : MA) (th : Int32) (σ : Sy) (hMR : MRep E G y M th σ) (d v : Nat) (x : Int32) (hd : d < 8) (hv : v < 5) : Met l yX3_put (ws_ yX3_put cX3_put 4 none) ({ frames := 0, cells := 0, slots := 0, locals := 0 } : Room) (cP E G [.ref y, .int (nI d), .int (nI v), .int x]) (cV E (fun G' => MRep E G' y M th (setDm σ d (putD (σ.1.2.1.2 d) v x)) ∧ Fr (Ow 4) G G')) 0 0 (eA E) := by
  obtain ⟨la, sk, ta, sw, nb⟩ := M
  obtain ⟨⟨⟨tk, ck, rn, an, sp, ln, lf⟩, ⟨nd, dm⟩, ⟨nc, km⟩⟩, ⟨nu, uq⟩, ⟨ns, st⟩⟩ := σ
  refine g_met (rm := ({ frames := 0, cells := 0, slots := 0, locals := 0 } : Room)) (av := [.ref y, .int (nI d), .int (nI v), .int x]) (lv := [(0, .ref y), (1, .int (nI d)), (2, .int (nI v)), (3, .int x)]) (by decide) (Nat.le_of_ble_eq_true rfl) rfl ?_
  intro p e s m below meth c ls hx hb hr hlk hml hin hts hown hE hI hL hS hl
  have hMR0 := hMR
  obtain ⟨hy, hla, hsk, hta, hsw, hnb⟩ := hMR0
  have hy : G y = some ((4, 0, 0), mO th (nI nd) (nI ns) (nI nu) la sk ta sw nb) := hy
  have hla : G la = some ((4, 1, 0), iO E 40 (lampF dm)) := hla
  have hsk : G sk = some ((4, 2, 0), iO E 40 (skyF st)) := hsk
  have hta : G ta = some ((4, 3, 0), iO E 36 (tailF km)) := hta
  have hsw : G sw = some ((4, 4, 0), iO E 96 (showF uq)) := hsw
  have hnb : G nb = some ((4, 5, 0), iO E 8 (numF (tk, ck, rn, an, sp, ln, lf) nc)) := hnb
  have hFr : Fr (Ow 4) G G := Fr.rf
  refine lv_aload_n hx hb dX3_put_0 rfl (lv_at hl 0 rfl) ?_
  refine g_get (C := RX3) (T := TX3) (N := 9) (v := .ref la) hx hb hts in_X3 hown hE hI hy rfl 4 (by decide) q847 (fun _ h9 => h9) rfl dX3_put_1 ?_
  refine lv_iconst (v := 5) hx hb dX3_put_4 (by decide) ?_
  refine lv_iload_n hx hb dX3_put_5 rfl (lv_at hl 1 rfl) ?_
  refine lv_imul hx hb dX3_put_6 ?_
  refine lv_iload_n hx hb dX3_put_7 rfl (lv_at hl 2 rfl) ?_
  refine lv_iadd hx hb dX3_put_8 ?_
  refine lv_iload_n hx hb dX3_put_9 rfl (lv_at hl 3 rfl) ?_
  refine g_iast hx hb hE hI hS hL hla (i := ((5 * nI d) + nI v)) (x := x) (5 * d + v) (ix 5 d v) (by omega) (by decide) dX3_put_10 (fun H locs hI hS => ?_)
  have hI : Inv E (gU G la ((4, 1, 0), .inl (eC E 0, 40, .inl (lampF (va_up dm d (putD (dm d) v x)))))) H := by have z := hI; rw [lampF_up _ _ _ (by omega)] at z; exact z
  have hy := gU_o (x := ((4, 1, 0), .inl (eC E 0, 40, .inl (lampF (va_up dm d (putD (dm d) v x)))))) hla hy (by simp)
  have hsk := gU_o (x := ((4, 1, 0), .inl (eC E 0, 40, .inl (lampF (va_up dm d (putD (dm d) v x)))))) hla hsk (by simp)
  have hta := gU_o (x := ((4, 1, 0), .inl (eC E 0, 40, .inl (lampF (va_up dm d (putD (dm d) v x)))))) hla hta (by simp)
  have hsw := gU_o (x := ((4, 1, 0), .inl (eC E 0, 40, .inl (lampF (va_up dm d (putD (dm d) v x)))))) hla hsw (by simp)
  have hnb := gU_o (x := ((4, 1, 0), .inl (eC E 0, 40, .inl (lampF (va_up dm d (putD (dm d) v x)))))) hla hnb (by simp)
  have hFr : Fr (Ow 4) G (gU G la ((4, 1, 0), .inl (eC E 0, 40, .inl (lampF (va_up dm d (putD (dm d) v x)))))) := Fr.trans hFr (Fr.put (x := ((4, 1, 0), .inl (eC E 0, 40, .inl (lampF (va_up dm d (putD (dm d) v x)))))) hla rfl)
  have hla : (gU G la ((4, 1, 0), .inl (eC E 0, 40, .inl (lampF (va_up dm d (putD (dm d) v x)))))) la = some ((4, 1, 0), .inl (eC E 0, 40, .inl (lampF (va_up dm d (putD (dm d) v x))))) := gU_self
  exact g_vret hx hb hr hlk hI hS dX3_put_11 (Nat.le_of_ble_eq_true rfl) (Nat.le_of_ble_eq_true rfl) (⟨⟨hy, hla, hsk, hta, hsw, hnb⟩, hFr⟩)
set_option maxHeartbeats 4000000 in
set_option maxRecDepth 100000 in
theorem k_round (l : Launch) (E : EnvT) (G : Gh) (a : Int32) : Met l yX3_round (ws_ yX3_round cX3_round 1 (some .int)) ({ frames := 0, cells := 0, slots := 0, locals := 0 } : Room) (cP E G [.int a]) (cI E (fun r G' => r = iR (a + 360) 360 ∧ G' = G)) 0 0 (eA E) := by
  refine g_met (rm := ({ frames := 0, cells := 0, slots := 0, locals := 0 } : Room)) (av := [.int a]) (lv := [(0, .int a)]) (by decide) (Nat.le_of_ble_eq_true rfl) rfl ?_
  intro p e s m below meth c ls hx hb hr hlk hml hin hts hown hE hI hL hS hl
  refine lv_iload_n hx hb dX3_round_0 rfl (lv_at hl 0 rfl) ?_
  refine lv_sipush (v := 360) hx hb dX3_round_1 (by decide) ?_
  refine lv_iadd hx hb dX3_round_4 ?_
  refine lv_sipush (v := 360) hx hb dX3_round_5 (by decide) ?_
  refine lv_irem hx hb dX3_round_8 (by decide) ?_
  exact g_iret hx hb hr hlk hI hS dX3_round_9 (Nat.le_of_ble_eq_true rfl) (Nat.le_of_ble_eq_true rfl) (⟨rfl, rfl⟩)
set_option maxHeartbeats 4000000 in
set_option maxRecDepth 100000 in
theorem k_glareOf (l : Launch) (E : EnvT) (G : Gh) (y : Nat) (M : MA) (th : Int32) (σ : Sy) (hMR : MRep E G y M th σ) (hO : CnOk σ.1) (pt : Nat) (hp : pt < 12) : Met l yX3_glareOf (ws_ yX3_glareOf cX3_glareOf 5 (some .int)) ({ frames := 1, cells := 0, slots := 0, locals := 22 } : Room) (cP E G [.ref y, .int (nI pt)]) (cI E (fun r G' => r = glS σ.1.2.1.2 (nI pt) σ.1.2.1.1 ∧ G' = G)) 0 0 (eA E) := by
  obtain ⟨la, sk, ta, sw, nb⟩ := M
  obtain ⟨⟨⟨tk, ck, rn, an, sp, ln, lf⟩, ⟨nd, dm⟩, ⟨nc, km⟩⟩, ⟨nu, uq⟩, ⟨ns, st⟩⟩ := σ
  refine g_met (rm := ({ frames := 1, cells := 0, slots := 0, locals := 22 } : Room)) (av := [.ref y, .int (nI pt)]) (lv := [(0, .ref y), (1, .int (nI pt))]) (by decide) (Nat.le_of_ble_eq_true rfl) rfl ?_
  intro p e s m below meth c ls hx hb hr hlk hml hin hts hown hE hI hL hS hl
  have hMR0 := hMR
  obtain ⟨hy, hla, hsk, hta, hsw, hnb⟩ := hMR0
  have hy : G y = some ((4, 0, 0), mO th (nI nd) (nI ns) (nI nu) la sk ta sw nb) := hy
  have hla : G la = some ((4, 1, 0), iO E 40 (lampF dm)) := hla
  have hsk : G sk = some ((4, 2, 0), iO E 40 (skyF st)) := hsk
  have hta : G ta = some ((4, 3, 0), iO E 36 (tailF km)) := hta
  have hsw : G sw = some ((4, 4, 0), iO E 96 (showF uq)) := hsw
  have hnb : G nb = some ((4, 5, 0), iO E 8 (numF (tk, ck, rn, an, sp, ln, lf) nc)) := hnb
  have hFr : Fr (Ow 4) G G := Fr.rf
  have hnd : nd ≤ 8 := hO.nd
  refine lv_iconst (v := 0) hx hb dX3_glareOf_0 (by decide) ?_
  refine lv_istore_n (lv' := [(2, .int 0), (0, .ref y), (1, .int (nI pt))]) hx hb dX3_glareOf_1 rfl hl (by decide) rfl (fun ls hl => ?_)
  refine lv_iconst (v := 0) hx hb dX3_glareOf_2 (by decide) ?_
  refine lv_istore_n (lv' := [(3, .int 0), (2, .int 0), (0, .ref y), (1, .int (nI pt))]) hx hb dX3_glareOf_3 rfl hl (by decide) rfl (fun ls hl => ?_)
  refine g_loop1 (A1 := Nat) (fun i H locs ls => i ≤ nd ∧ Inv E G H ∧ va_S (eA E) s.heap H locs ∧ lv_has ls 5 [(0, .ref y), (1, .int (nI pt)), (2, .int (glS dm (nI pt) i)), (3, .int (nI i))]) (fun i => 0) (fun i => 0) (fun i => nd - i) ?_ 0 _ _ _ ⟨Nat.zero_le _, hI, hS, lv_sub hl [2, 3, 1, 0] rfl⟩
  intro i ih1 H locs ls hst
  obtain ⟨hi, hI, hS, hl⟩ := hst
  refine lv_iload_n hx hb dX3_glareOf_4 rfl (lv_at hl 3 rfl) ?_
  refine lv_aload_n hx hb dX3_glareOf_5 rfl (lv_at hl 0 rfl) ?_
  refine g_get (C := RX3) (T := TX3) (N := 9) (v := .int (nI nd)) hx hb hts in_X3 hown hE hI hy rfl 1 (by decide) q844 (fun _ h9 => h9) rfl dX3_glareOf_6 ?_
  refine lv_icmp_ge (tgt := 76) hx hb dX3_glareOf_9 (by decide) (fun c1 => ?_) (fun c1 => ?_)
  · have ei : i = nd := (Nat.lt_or_ge i nd).elim (fun z => absurd c1 (nI_ge z (by omega))) (fun z => by omega)
    refine lv_iload_n hx hb dX3_glareOf_76 rfl (lv_at hl 2 rfl) ?_
    exact g_iret hx hb hr hlk hI hS dX3_glareOf_77 (Nat.le_of_ble_eq_true rfl) (Nat.le_of_ble_eq_true rfl) (⟨by rw [ei], rfl⟩)
  · have hlt : i < nd := (Nat.lt_or_ge i nd).elim id (fun z => absurd (nI_le z (by omega)) c1)
    obtain ⟨q, hq, hdq⟩ := (hO.dm i hlt).1
    have hdq : (dm i).1 = nI q := hdq
    have hg1 : glS dm (nI pt) (i + 1) = glS dm (nI pt) i + (if iR (nI q - nI pt + 12) 12 = 0 then (dm i).2.2.1 else if iR (nI q - nI pt + 12) 12 = 1 then (dm i).2.2.1 / 4 else if iR (nI q - nI pt + 12) 12 = 11 then (dm i).2.2.1 / 4 else 0) := by rw [glS, hdq, glr_M hq hp]
    refine lv_aload_n hx hb dX3_glareOf_12 rfl (lv_at hl 0 rfl) ?_
    refine lv_iload_n hx hb dX3_glareOf_13 rfl (lv_at hl 3 rfl) ?_
    refine lv_iconst (v := 0) hx hb dX3_glareOf_14 (by decide) ?_
    refine g_ci0 (G := G) (v := lampF dm (5 * i + 0)) hS (va_runV (As := [.int (nI i), .int 0]) (rest := []) ⟨hx, hb, hml, hown, hts⟩ (k_la l E G y (la, sk, ta, sw, nb) _ ((((tk, ck, rn, an, sp, ln, lf), (nd, dm), (nc, km)), (nu, uq), (ns, st)) : Sy) hMR i 0 (by omega) (by decide)) (cwV 2 hts (lw_V q896 q898 qs15 q36 q899) rfl rfl rfl (by decide +kernel) ⟨Nat.le_of_ble_eq_true rfl, Nat.le_of_ble_eq_true rfl⟩) (g_preV hE hI (g_recv hE hI hy rfl)) rfl rfl hl.1 rfl (lv_room (Nat.le_of_ble_eq_true rfl)) dX3_glareOf_15 ⟨Nat.le_of_ble_eq_true rfl, Nat.le_of_ble_eq_true rfl⟩) (fun H locs hI hS => ?_)
    rw [lampF_0]
    rw [hdq]
    refine lv_iload_n hx hb dX3_glareOf_18 rfl (lv_at hl 1 rfl) ?_
    refine lv_isub hx hb dX3_glareOf_19 ?_
    refine lv_bipush (v := 12) hx hb dX3_glareOf_20 (by decide) ?_
    refine lv_iadd hx hb dX3_glareOf_22 ?_
    refine lv_bipush (v := 12) hx hb dX3_glareOf_23 (by decide) ?_
    refine lv_irem hx hb dX3_glareOf_25 (by decide) ?_
    refine lv_istore (lv' := [(4, .int (((nI q - nI pt) + 12) - ((nI q - nI pt) + 12) / 12 * 12)), (0, .ref y), (1, .int (nI pt)), (2, .int (glS dm (nI pt) i)), (3, .int (nI i))]) hx hb dX3_glareOf_26 hl (by decide) rfl (fun ls hl => ?_)
    refine lv_iload_n hx hb dX3_glareOf_28 rfl (lv_at hl 3 rfl) ?_
    refine lv_iload hx hb dX3_glareOf_29 (lv_at hl 0 rfl) ?_
    refine lv_if_ne (tgt := 43) hx hb dX3_glareOf_31 (by decide) (fun c2 => ?_) (fun c2 => ?_)
    · refine lv_iload hx hb dX3_glareOf_43 (lv_at hl 0 rfl) ?_
      refine lv_iconst (v := 1) hx hb dX3_glareOf_45 (by decide) ?_
      refine lv_icmp_eq (tgt := 56) hx hb dX3_glareOf_46 (by decide) (fun c3 => ?_) (fun c3 => ?_)
      · refine lv_aload_n hx hb dX3_glareOf_56 rfl (lv_at hl 1 rfl) ?_
        refine lv_iload_n hx hb dX3_glareOf_57 rfl (lv_at hl 4 rfl) ?_
        refine lv_iconst (v := 1) hx hb dX3_glareOf_58 (by decide) ?_
        refine g_ci0 (G := G) (v := lampF dm (5 * i + 1)) hS (va_runV (As := [.int (nI i), .int 1]) (rest := [.int (glS dm (nI pt) i)]) ⟨hx, hb, hml, hown, hts⟩ (k_la l E G y (la, sk, ta, sw, nb) _ ((((tk, ck, rn, an, sp, ln, lf), (nd, dm), (nc, km)), (nu, uq), (ns, st)) : Sy) hMR i 1 (by omega) (by decide)) (cwV 2 hts (lw_V q896 q898 qs15 q36 q899) rfl rfl rfl (by decide +kernel) ⟨Nat.le_of_ble_eq_true rfl, Nat.le_of_ble_eq_true rfl⟩) (g_preV hE hI (g_recv hE hI hy rfl)) rfl rfl hl.1 rfl (lv_room (Nat.le_of_ble_eq_true rfl)) dX3_glareOf_59 ⟨Nat.le_of_ble_eq_true rfl, Nat.le_of_ble_eq_true rfl⟩) (fun H locs hI hS => ?_)
        rw [lampF_1]
        rw [if_neg c2, if_pos c3] at hg1
        refine lv_iconst (v := 4) hx hb dX3_glareOf_62 (by decide) ?_
        refine lv_idiv hx hb dX3_glareOf_63 (by decide) ?_
        refine lv_goto (tgt := 68) hx hb dX3_glareOf_64 (by decide) ?_
        refine lv_iadd hx hb dX3_glareOf_68 ?_
        refine lv_istore_n (lv' := [(2, .int ((glS dm (nI pt) i) + ((dm i).2.2.1 / 4))), (4, .int (((nI q - nI pt) + 12) - ((nI q - nI pt) + 12) / 12 * 12)), (0, .ref y), (1, .int (nI pt)), (3, .int (nI i))]) hx hb dX3_glareOf_69 rfl hl (by decide) rfl (fun ls hl => ?_)
        refine lv_iinc (v := nI (i + 1)) (lv' := [(3, .int (nI (i + 1))), (2, .int ((glS dm (nI pt) i) + ((dm i).2.2.1 / 4))), (4, .int (((nI q - nI pt) + 12) - ((nI q - nI pt) + 12) / 12 * 12)), (0, .ref y), (1, .int (nI pt))]) hx hb dX3_glareOf_70 hl (k := 4) rfl (nI_1 (i)) (by decide) rfl (fun ls hl => ?_)
        refine lv_goto (tgt := 4) hx hb dX3_glareOf_73 (by decide) ?_
        have hl : lv_has ls 5 [(3, .int (nI (i + 1))), (2, .int (glS dm (nI pt) (i + 1))), (4, .int (((nI q - nI pt) + 12) - ((nI q - nI pt) + 12) / 12 * 12)), (0, .ref y), (1, .int (nI pt))] := by rw [hg1]; exact hl
        exact ih1 (i + 1) _ _ _ (by omega) ⟨hlt, hI, hS, lv_sub hl [3, 4, 1, 0] rfl⟩
      · refine lv_iload hx hb dX3_glareOf_49 (lv_at hl 0 rfl) ?_
        refine lv_bipush (v := 11) hx hb dX3_glareOf_51 (by decide) ?_
        refine lv_icmp_ne (tgt := 67) hx hb dX3_glareOf_53 (by decide) (fun c4 => ?_) (fun c4 => ?_)
        · rw [if_neg c2, if_neg c3, if_neg c4] at hg1
          refine lv_iconst (v := 0) hx hb dX3_glareOf_67 (by decide) ?_
          refine lv_iadd hx hb dX3_glareOf_68 ?_
          refine lv_istore_n (lv' := [(2, .int ((glS dm (nI pt) i) + 0)), (4, .int (((nI q - nI pt) + 12) - ((nI q - nI pt) + 12) / 12 * 12)), (0, .ref y), (1, .int (nI pt)), (3, .int (nI i))]) hx hb dX3_glareOf_69 rfl hl (by decide) rfl (fun ls hl => ?_)
          refine lv_iinc (v := nI (i + 1)) (lv' := [(3, .int (nI (i + 1))), (2, .int ((glS dm (nI pt) i) + 0)), (4, .int (((nI q - nI pt) + 12) - ((nI q - nI pt) + 12) / 12 * 12)), (0, .ref y), (1, .int (nI pt))]) hx hb dX3_glareOf_70 hl (k := 4) rfl (nI_1 (i)) (by decide) rfl (fun ls hl => ?_)
          refine lv_goto (tgt := 4) hx hb dX3_glareOf_73 (by decide) ?_
          have hl : lv_has ls 5 [(3, .int (nI (i + 1))), (2, .int (glS dm (nI pt) (i + 1))), (4, .int (((nI q - nI pt) + 12) - ((nI q - nI pt) + 12) / 12 * 12)), (0, .ref y), (1, .int (nI pt))] := by rw [hg1]; exact hl
          exact ih1 (i + 1) _ _ _ (by omega) ⟨hlt, hI, hS, lv_sub hl [3, 4, 1, 0] rfl⟩
        · refine lv_aload_n hx hb dX3_glareOf_56 rfl (lv_at hl 1 rfl) ?_
          refine lv_iload_n hx hb dX3_glareOf_57 rfl (lv_at hl 4 rfl) ?_
          refine lv_iconst (v := 1) hx hb dX3_glareOf_58 (by decide) ?_
          refine g_ci0 (G := G) (v := lampF dm (5 * i + 1)) hS (va_runV (As := [.int (nI i), .int 1]) (rest := [.int (glS dm (nI pt) i)]) ⟨hx, hb, hml, hown, hts⟩ (k_la l E G y (la, sk, ta, sw, nb) _ ((((tk, ck, rn, an, sp, ln, lf), (nd, dm), (nc, km)), (nu, uq), (ns, st)) : Sy) hMR i 1 (by omega) (by decide)) (cwV 2 hts (lw_V q896 q898 qs15 q36 q899) rfl rfl rfl (by decide +kernel) ⟨Nat.le_of_ble_eq_true rfl, Nat.le_of_ble_eq_true rfl⟩) (g_preV hE hI (g_recv hE hI hy rfl)) rfl rfl hl.1 rfl (lv_room (Nat.le_of_ble_eq_true rfl)) dX3_glareOf_59 ⟨Nat.le_of_ble_eq_true rfl, Nat.le_of_ble_eq_true rfl⟩) (fun H locs hI hS => ?_)
          rw [lampF_1]
          rw [if_neg c2, if_neg c3, if_pos c4] at hg1
          refine lv_iconst (v := 4) hx hb dX3_glareOf_62 (by decide) ?_
          refine lv_idiv hx hb dX3_glareOf_63 (by decide) ?_
          refine lv_goto (tgt := 68) hx hb dX3_glareOf_64 (by decide) ?_
          refine lv_iadd hx hb dX3_glareOf_68 ?_
          refine lv_istore_n (lv' := [(2, .int ((glS dm (nI pt) i) + ((dm i).2.2.1 / 4))), (4, .int (((nI q - nI pt) + 12) - ((nI q - nI pt) + 12) / 12 * 12)), (0, .ref y), (1, .int (nI pt)), (3, .int (nI i))]) hx hb dX3_glareOf_69 rfl hl (by decide) rfl (fun ls hl => ?_)
          refine lv_iinc (v := nI (i + 1)) (lv' := [(3, .int (nI (i + 1))), (2, .int ((glS dm (nI pt) i) + ((dm i).2.2.1 / 4))), (4, .int (((nI q - nI pt) + 12) - ((nI q - nI pt) + 12) / 12 * 12)), (0, .ref y), (1, .int (nI pt))]) hx hb dX3_glareOf_70 hl (k := 4) rfl (nI_1 (i)) (by decide) rfl (fun ls hl => ?_)
          refine lv_goto (tgt := 4) hx hb dX3_glareOf_73 (by decide) ?_
          have hl : lv_has ls 5 [(3, .int (nI (i + 1))), (2, .int (glS dm (nI pt) (i + 1))), (4, .int (((nI q - nI pt) + 12) - ((nI q - nI pt) + 12) / 12 * 12)), (0, .ref y), (1, .int (nI pt))] := by rw [hg1]; exact hl
          exact ih1 (i + 1) _ _ _ (by omega) ⟨hlt, hI, hS, lv_sub hl [3, 4, 1, 0] rfl⟩
    · refine lv_aload_n hx hb dX3_glareOf_34 rfl (lv_at hl 1 rfl) ?_
      refine lv_iload_n hx hb dX3_glareOf_35 rfl (lv_at hl 4 rfl) ?_
      refine lv_iconst (v := 1) hx hb dX3_glareOf_36 (by decide) ?_
      refine g_ci0 (G := G) (v := lampF dm (5 * i + 1)) hS (va_runV (As := [.int (nI i), .int 1]) (rest := [.int (glS dm (nI pt) i)]) ⟨hx, hb, hml, hown, hts⟩ (k_la l E G y (la, sk, ta, sw, nb) _ ((((tk, ck, rn, an, sp, ln, lf), (nd, dm), (nc, km)), (nu, uq), (ns, st)) : Sy) hMR i 1 (by omega) (by decide)) (cwV 2 hts (lw_V q896 q898 qs15 q36 q899) rfl rfl rfl (by decide +kernel) ⟨Nat.le_of_ble_eq_true rfl, Nat.le_of_ble_eq_true rfl⟩) (g_preV hE hI (g_recv hE hI hy rfl)) rfl rfl hl.1 rfl (lv_room (Nat.le_of_ble_eq_true rfl)) dX3_glareOf_37 ⟨Nat.le_of_ble_eq_true rfl, Nat.le_of_ble_eq_true rfl⟩) (fun H locs hI hS => ?_)
      rw [lampF_1]
      rw [if_pos c2] at hg1
      refine lv_goto (tgt := 68) hx hb dX3_glareOf_40 (by decide) ?_
      refine lv_iadd hx hb dX3_glareOf_68 ?_
      refine lv_istore_n (lv' := [(2, .int ((glS dm (nI pt) i) + (dm i).2.2.1)), (4, .int (((nI q - nI pt) + 12) - ((nI q - nI pt) + 12) / 12 * 12)), (0, .ref y), (1, .int (nI pt)), (3, .int (nI i))]) hx hb dX3_glareOf_69 rfl hl (by decide) rfl (fun ls hl => ?_)
      refine lv_iinc (v := nI (i + 1)) (lv' := [(3, .int (nI (i + 1))), (2, .int ((glS dm (nI pt) i) + (dm i).2.2.1)), (4, .int (((nI q - nI pt) + 12) - ((nI q - nI pt) + 12) / 12 * 12)), (0, .ref y), (1, .int (nI pt))]) hx hb dX3_glareOf_70 hl (k := 4) rfl (nI_1 (i)) (by decide) rfl (fun ls hl => ?_)
      refine lv_goto (tgt := 4) hx hb dX3_glareOf_73 (by decide) ?_
      have hl : lv_has ls 5 [(3, .int (nI (i + 1))), (2, .int (glS dm (nI pt) (i + 1))), (4, .int (((nI q - nI pt) + 12) - ((nI q - nI pt) + 12) / 12 * 12)), (0, .ref y), (1, .int (nI pt))] := by rw [hg1]; exact hl
      exact ih1 (i + 1) _ _ _ (by omega) ⟨hlt, hI, hS, lv_sub hl [3, 4, 1, 0] rfl⟩
