/-! CONTRACTS of the small classes: Dimmer, Comet, Star, Cue; StarConsole.isIn, round. Printed by gen/p20.py -/
set_option maxHeartbeats 4000000 in
set_option maxRecDepth 100000 in
theorem m_isIn (l : Launch) (E : EnvT) (G : Gh) (v lo hi : Int32) : Met l yX1_isIn (ws_ yX1_isIn cX1_isIn 3 (some .boolean)) ({ frames := 0, cells := 0, slots := 0, locals := 0 } : Room) (cP E G [.int v, .int lo, .int hi]) (cI E (fun r G' => r = isInV v lo hi ∧ G' = G)) 0 0 (eA E) := by
  refine g_met (rm := ({ frames := 0, cells := 0, slots := 0, locals := 0 } : Room)) (av := [.int v, .int lo, .int hi]) (lv := [(0, .int v), (1, .int lo), (2, .int hi)]) (by decide) (Nat.le_of_ble_eq_true rfl) rfl ?_
  intro p e s m below meth c ls hx hb hr hlk hml hin hts hown hE hI hL hS hl
  refine lv_iload_n hx hb dX1_isIn_0 rfl (lv_at hl 0 rfl) ?_
  refine lv_iload_n hx hb dX1_isIn_1 rfl (lv_at hl 1 rfl) ?_
  refine lv_icmp_lt (tgt := 14) hx hb dX1_isIn_2 (by decide) (fun c1 => ?_) (fun c1 => ?_)
  · refine lv_iconst (v := 0) hx hb dX1_isIn_14 (by decide) ?_
    exact g_zret hx hb hr hlk hI hS dX1_isIn_15 (Nat.le_of_ble_eq_true rfl) (Nat.le_of_ble_eq_true rfl) rfl (⟨(if_pos c1).symm, rfl⟩)
  · refine lv_iload_n hx hb dX1_isIn_5 rfl (lv_at hl 0 rfl) ?_
    refine lv_iload_n hx hb dX1_isIn_6 rfl (lv_at hl 2 rfl) ?_
    refine lv_icmp_gt (tgt := 14) hx hb dX1_isIn_7 (by decide) (fun c2 => ?_) (fun c2 => ?_)
    · refine lv_iconst (v := 0) hx hb dX1_isIn_14 (by decide) ?_
      exact g_zret hx hb hr hlk hI hS dX1_isIn_15 (Nat.le_of_ble_eq_true rfl) (Nat.le_of_ble_eq_true rfl) rfl (⟨((if_neg c1).trans (if_pos c2)).symm, rfl⟩)
    · refine lv_iconst (v := 1) hx hb dX1_isIn_10 (by decide) ?_
      refine lv_goto (tgt := 15) hx hb dX1_isIn_11 (by decide) ?_
      exact g_zret hx hb hr hlk hI hS dX1_isIn_15 (Nat.le_of_ble_eq_true rfl) (Nat.le_of_ble_eq_true rfl) rfl (⟨((if_neg c1).trans (if_neg c2)).symm, rfl⟩)
set_option maxHeartbeats 4000000 in
set_option maxRecDepth 100000 in
theorem m_round (l : Launch) (E : EnvT) (G : Gh) (x : Int32) : Met l yX1_round (ws_ yX1_round cX1_round 1 (some .int)) ({ frames := 0, cells := 0, slots := 0, locals := 0 } : Room) (cP E G [.int x]) (cI E (fun r G' => r = rnd x ∧ G' = G)) 0 0 (eA E) := by
  refine g_met (rm := ({ frames := 0, cells := 0, slots := 0, locals := 0 } : Room)) (av := [.int x]) (lv := [(0, .int x)]) (by decide) (Nat.le_of_ble_eq_true rfl) rfl ?_
  intro p e s m below meth c ls hx hb hr hlk hml hin hts hown hE hI hL hS hl
  refine lv_iload_n hx hb dX1_round_0 rfl (lv_at hl 0 rfl) ?_
  refine lv_sipush (v := 360) hx hb dX1_round_1 (by decide) ?_
  refine lv_irem hx hb dX1_round_4 (by decide) ?_
  refine lv_sipush (v := 360) hx hb dX1_round_5 (by decide) ?_
  refine lv_iadd hx hb dX1_round_8 ?_
  refine lv_sipush (v := 360) hx hb dX1_round_9 (by decide) ?_
  refine lv_irem hx hb dX1_round_12 (by decide) ?_
  exact g_iret hx hb hr hlk hI hS dX1_round_13 (Nat.le_of_ble_eq_true rfl) (Nat.le_of_ble_eq_true rfl) (⟨rfl, rfl⟩)
set_option maxHeartbeats 4000000 in
set_option maxRecDepth 100000 in
theorem m_Dglare (l : Launch) (E : EnvT) (G : Gh) (h : Nat) (t : Tg) (pt pa lv am lf : Int32) (hg : G h = some (t, dO pt pa lv am lf)) (of : Int32) : Met l yX4_glare (ws_ yX4_glare cX4_glare 3 (some .int)) ({ frames := 0, cells := 0, slots := 0, locals := 0 } : Room) (cP E G [.ref h, .int of]) (cI E (fun r G' => r = glr pt lv of ∧ G' = G)) 0 0 (eA E) := by
  refine g_met (rm := ({ frames := 0, cells := 0, slots := 0, locals := 0 } : Room)) (av := [.ref h, .int of]) (lv := [(0, .ref h), (1, .int of)]) (by decide) (Nat.le_of_ble_eq_true rfl) rfl ?_
  intro p e s m below meth c ls hx hb hr hlk hml hin hts hown hE hI hL hS hl
  refine lv_iload_n hx hb dX4_glare_0 rfl (lv_at hl 1 rfl) ?_
  refine lv_aload_n hx hb dX4_glare_1 rfl (lv_at hl 0 rfl) ?_
  refine g_get (C := RX4) (T := TX4) (N := 5) (v := .int pt) hx hb hts in_X4 hown hE hI hg rfl 0 (by decide) q398 (fun _ h9 => h9) rfl dX4_glare_2 ?_
  refine lv_isub hx hb dX4_glare_5 ?_
  refine lv_bipush (v := 12) hx hb dX4_glare_6 (by decide) ?_
  refine lv_iadd hx hb dX4_glare_8 ?_
  refine lv_bipush (v := 12) hx hb dX4_glare_9 (by decide) ?_
  refine lv_irem hx hb dX4_glare_11 (by decide) ?_
  refine lv_topi (fun fa efa => ?_)
  refine lv_istore_n (lv' := [(2, .int fa), (0, .ref h), (1, .int of)]) hx hb dX4_glare_12 rfl hl (by decide) rfl (fun ls hl => ?_)
  refine lv_iload_n hx hb dX4_glare_13 rfl (lv_at hl 0 rfl) ?_
  refine lv_if_ne (tgt := 24) hx hb dX4_glare_14 (by decide) (fun c1 => ?_) (fun c1 => ?_)
  · refine lv_iload_n hx hb dX4_glare_24 rfl (lv_at hl 0 rfl) ?_
    refine lv_iconst (v := 1) hx hb dX4_glare_25 (by decide) ?_
    refine lv_icmp_eq (tgt := 35) hx hb dX4_glare_26 (by decide) (fun c2 => ?_) (fun c2 => ?_)
    · refine lv_aload_n hx hb dX4_glare_35 rfl (lv_at hl 1 rfl) ?_
      refine g_get (C := RX4) (T := TX4) (N := 5) (v := .int lv) hx hb hts in_X4 hown hE hI hg rfl 2 (by decide) q402 (fun _ h9 => h9) rfl dX4_glare_36 ?_
      refine lv_iconst (v := 4) hx hb dX4_glare_39 (by decide) ?_
      refine lv_idiv hx hb dX4_glare_40 (by decide) ?_
      refine lv_goto (tgt := 45) hx hb dX4_glare_41 (by decide) ?_
      exact g_iret hx hb hr hlk hI hS dX4_glare_45 (Nat.le_of_ble_eq_true rfl) (Nat.le_of_ble_eq_true rfl) (⟨by unfold glr; rw [show iR (of - pt + 12) 12 = fa from efa.symm, if_neg c1, if_pos c2], rfl⟩)
    · refine lv_iload_n hx hb dX4_glare_29 rfl (lv_at hl 0 rfl) ?_
      refine lv_bipush (v := 11) hx hb dX4_glare_30 (by decide) ?_
      refine lv_icmp_ne (tgt := 44) hx hb dX4_glare_32 (by decide) (fun c3 => ?_) (fun c3 => ?_)
      · refine lv_iconst (v := 0) hx hb dX4_glare_44 (by decide) ?_
        exact g_iret hx hb hr hlk hI hS dX4_glare_45 (Nat.le_of_ble_eq_true rfl) (Nat.le_of_ble_eq_true rfl) (⟨by unfold glr; rw [show iR (of - pt + 12) 12 = fa from efa.symm, if_neg c1, if_neg c2, if_neg c3], rfl⟩)
      · refine lv_aload_n hx hb dX4_glare_35 rfl (lv_at hl 1 rfl) ?_
        refine g_get (C := RX4) (T := TX4) (N := 5) (v := .int lv) hx hb hts in_X4 hown hE hI hg rfl 2 (by decide) q402 (fun _ h9 => h9) rfl dX4_glare_36 ?_
        refine lv_iconst (v := 4) hx hb dX4_glare_39 (by decide) ?_
        refine lv_idiv hx hb dX4_glare_40 (by decide) ?_
        refine lv_goto (tgt := 45) hx hb dX4_glare_41 (by decide) ?_
        exact g_iret hx hb hr hlk hI hS dX4_glare_45 (Nat.le_of_ble_eq_true rfl) (Nat.le_of_ble_eq_true rfl) (⟨by unfold glr; rw [show iR (of - pt + 12) 12 = fa from efa.symm, if_neg c1, if_neg c2, if_pos c3], rfl⟩)
  · refine lv_aload_n hx hb dX4_glare_17 rfl (lv_at hl 1 rfl) ?_
    refine g_get (C := RX4) (T := TX4) (N := 5) (v := .int lv) hx hb hts in_X4 hown hE hI hg rfl 2 (by decide) q402 (fun _ h9 => h9) rfl dX4_glare_18 ?_
    refine lv_goto (tgt := 45) hx hb dX4_glare_21 (by decide) ?_
    exact g_iret hx hb hr hlk hI hS dX4_glare_45 (Nat.le_of_ble_eq_true rfl) (Nat.le_of_ble_eq_true rfl) (⟨by unfold glr; rw [show iR (of - pt + 12) 12 = fa from efa.symm, if_pos c1], rfl⟩)
set_option maxHeartbeats 4000000 in
set_option maxRecDepth 100000 in
theorem m_Dinit (l : Launch) (E : EnvT) (G : Gh) (h : Nat) (t : Tg) (p0 p1 p2 : Int32) (hg : G h = some (t, dO 0 0 0 0 0)) : Met l yX4_init (ws_ yX4_init cX4_init 4 none) ({ frames := 1, cells := 0, slots := 0, locals := 12 } : Room) (cP E G [.ref h, .int p0, .int p1, .int p2]) (cV E (fun G' => G' = gU G h (t, dO p0 p1 0 0 p2))) 0 0 (eA E) := by
  refine g_met (rm := ({ frames := 1, cells := 0, slots := 0, locals := 12 } : Room)) (av := [.ref h, .int p0, .int p1, .int p2]) (lv := [(0, .ref h), (1, .int p0), (2, .int p1), (3, .int p2)]) (by decide) (Nat.le_of_ble_eq_true rfl) rfl ?_
  intro p e s m below meth c ls hx hb hr hlk hml hin hts hown hE hI hL hS hl
  refine lv_aload_n hx hb dX4_init_0 rfl (lv_at hl 0 rfl) ?_
  refine W.objInit hx hb hown (hts _ q397) (hts _ q64) (hts _ q65) rfl (by rw [hml]; exact hl.1) rfl dX4_init_1 (Nat.le_of_ble_eq_true rfl) (Nat.le_of_ble_eq_true rfl) ?_
  refine W.eq (g2 := F0 m 4 ls []) rfl ?_
  refine lv_aload_n hx hb dX4_init_4 rfl (lv_at hl 0 rfl) ?_
  refine lv_iload_n hx hb dX4_init_5 rfl (lv_at hl 1 rfl) ?_
  refine g_putF (C := RX4) (T := TX4) (N := 5) (v := .int p0) (ty := .int) (fs' := [.int p0, .int 0, .int 0, .int 0, .int 0]) hx hb hts in_X4 tyX4 tyX4_ok nmX4 hown hE hI hS hL hg rfl 0 (by decide) q398 (fun _ h9 => h9) rfl hin rfl (by decide +kernel) rfl rfl (Nat.le_of_ble_eq_true rfl) rfl dX4_init_6 (fun H locs hI hS => ?_)
  have hg : (gU G h (t, .inr (2, [.int p0, .int 0, .int 0, .int 0, .int 0]))) h = some (t, .inr (2, [.int p0, .int 0, .int 0, .int 0, .int 0])) := gU_self
  refine lv_aload_n hx hb dX4_init_9 rfl (lv_at hl 0 rfl) ?_
  refine lv_iload_n hx hb dX4_init_10 rfl (lv_at hl 2 rfl) ?_
  refine g_putF (C := RX4) (T := TX4) (N := 5) (v := .int p1) (ty := .int) (fs' := [.int p0, .int p1, .int 0, .int 0, .int 0]) hx hb hts in_X4 tyX4 tyX4_ok nmX4 hown hE hI hS hL hg rfl 1 (by decide) q400 (fun _ h9 => h9) rfl hin rfl (by decide +kernel) rfl rfl (Nat.le_of_ble_eq_true rfl) rfl dX4_init_11 (fun H locs hI hS => ?_)
  have hg : (gU (gU G h (t, .inr (2, [.int p0, .int 0, .int 0, .int 0, .int 0]))) h (t, .inr (2, [.int p0, .int p1, .int 0, .int 0, .int 0]))) h = some (t, .inr (2, [.int p0, .int p1, .int 0, .int 0, .int 0])) := gU_self
  refine lv_aload_n hx hb dX4_init_14 rfl (lv_at hl 0 rfl) ?_
  refine lv_iload_n hx hb dX4_init_15 rfl (lv_at hl 3 rfl) ?_
  refine g_put (C := RX4) (T := TX4) (N := 5) (v := .int p2) (ty := .int) (fs' := [.int p0, .int p1, .int 0, .int 0, .int p2]) hx hb hts in_X4 tyX4 tyX4_ok nmX4 hown hE hI hS hL hg rfl 4 (by decide) q407 (fun _ h9 => h9) rfl (by decide +kernel) rfl rfl (Nat.le_of_ble_eq_true rfl) rfl dX4_init_16 (fun H locs hI hS => ?_)
  have hg : (gU (gU (gU G h (t, .inr (2, [.int p0, .int 0, .int 0, .int 0, .int 0]))) h (t, .inr (2, [.int p0, .int p1, .int 0, .int 0, .int 0]))) h (t, .inr (2, [.int p0, .int p1, .int 0, .int 0, .int p2]))) h = some (t, .inr (2, [.int p0, .int p1, .int 0, .int 0, .int p2])) := gU_self
  exact g_vret hx hb hr hlk hI hS dX4_init_19 (Nat.le_of_ble_eq_true rfl) (Nat.le_of_ble_eq_true rfl) (by simp only [gU_gU])
set_option maxHeartbeats 4000000 in
set_option maxRecDepth 100000 in
theorem m_darken (l : Launch) (E : EnvT) (G : Gh) (h : Nat) (t : Tg) (pt pa lv am lf : Int32) (hg : G h = some (t, dO pt pa lv am lf)) : Met l yX4_darken (ws_ yX4_darken cX4_darken 1 none) ({ frames := 0, cells := 0, slots := 0, locals := 0 } : Room) (cP E G [.ref h]) (cV E (fun G' => G' = gU G h (t, dO pt pa (lvEnd lv lf) am lf))) 0 0 (eA E) := by
  refine g_met (rm := ({ frames := 0, cells := 0, slots := 0, locals := 0 } : Room)) (av := [.ref h]) (lv := [(0, .ref h)]) (by decide) (Nat.le_of_ble_eq_true rfl) rfl ?_
  intro p e s m below meth c ls hx hb hr hlk hml hin hts hown hE hI hL hS hl
  refine lv_aload_n hx hb dX4_darken_0 rfl (lv_at hl 0 rfl) ?_
  refine g_get (C := RX4) (T := TX4) (N := 5) (v := .int lf) hx hb hts in_X4 hown hE hI hg rfl 4 (by decide) q407 (fun _ h9 => h9) rfl dX4_darken_1 ?_
  refine lv_if_ne (tgt := 12) hx hb dX4_darken_4 (by decide) (fun c1 => ?_) (fun c1 => ?_)
  · exact g_vret hx hb hr hlk hI hS dX4_darken_12 (Nat.le_of_ble_eq_true rfl) (Nat.le_of_ble_eq_true rfl) (by rw [show lvEnd lv lf = lv from if_neg c1]; exact (gU_id hg).symm)
  · refine lv_aload_n hx hb dX4_darken_7 rfl (lv_at hl 0 rfl) ?_
    refine lv_iconst (v := 0) hx hb dX4_darken_8 (by decide) ?_
    refine g_put (C := RX4) (T := TX4) (N := 5) (v := .int 0) (ty := .int) (fs' := [.int pt, .int pa, .int 0, .int am, .int lf]) hx hb hts in_X4 tyX4 tyX4_ok nmX4 hown hE hI hS hL hg rfl 2 (by decide) q402 (fun _ h9 => h9) rfl (by decide +kernel) rfl rfl (Nat.le_of_ble_eq_true rfl) rfl dX4_darken_9 (fun H locs hI hS => ?_)
    have hg : (gU G h (t, .inr (2, [.int pt, .int pa, .int 0, .int am, .int lf]))) h = some (t, .inr (2, [.int pt, .int pa, .int 0, .int am, .int lf])) := gU_self
    exact g_vret hx hb hr hlk hI hS dX4_darken_12 (Nat.le_of_ble_eq_true rfl) (Nat.le_of_ble_eq_true rfl) (by rw [show lvEnd lv lf = 0 from if_pos c1])
set_option maxHeartbeats 4000000 in
set_option maxRecDepth 100000 in
theorem m_change (l : Launch) (E : EnvT) (G : Gh) (h : Nat) (t : Tg) (pt pa lv am lf : Int32) (hg : G h = some (t, dO pt pa lv am lf)) (z : Int32) : Met l yX4_change (ws_ yX4_change cX4_change 2 none) ({ frames := 1, cells := 0, slots := 0, locals := 20 } : Room) (cP E G [.ref h, .int z]) (cV E (fun G' => G' = gU G h (t, dO pt pa (lvEnd lv z) am z))) 0 0 (eA E) := by
  refine g_met (rm := ({ frames := 1, cells := 0, slots := 0, locals := 20 } : Room)) (av := [.ref h, .int z]) (lv := [(0, .ref h), (1, .int z)]) (by decide) (Nat.le_of_ble_eq_true rfl) rfl ?_
  intro p e s m below meth c ls hx hb hr hlk hml hin hts hown hE hI hL hS hl
  refine lv_aload_n hx hb dX4_change_0 rfl (lv_at hl 0 rfl) ?_
  refine lv_iload_n hx hb dX4_change_1 rfl (lv_at hl 1 rfl) ?_
  refine g_put (C := RX4) (T := TX4) (N := 5) (v := .int z) (ty := .int) (fs' := [.int pt, .int pa, .int lv, .int am, .int z]) hx hb hts in_X4 tyX4 tyX4_ok nmX4 hown hE hI hS hL hg rfl 4 (by decide) q407 (fun _ h9 => h9) rfl (by decide +kernel) rfl rfl (Nat.le_of_ble_eq_true rfl) rfl dX4_change_2 (fun H locs hI hS => ?_)
  have hg : (gU G h (t, .inr (2, [.int pt, .int pa, .int lv, .int am, .int z]))) h = some (t, .inr (2, [.int pt, .int pa, .int lv, .int am, .int z])) := gU_self
  refine lv_aload_n hx hb dX4_change_5 rfl (lv_at hl 0 rfl) ?_
  refine g_cv0 hS (va_runV (As := []) (rest := []) ⟨hx, hb, hml, hown, hts⟩ (m_darken l E (gU G h (t, .inr (2, [.int pt, .int pa, .int lv, .int am, .int z]))) h t pt pa lv am z hg) (cwV 0 hts (lw_V q564 q566 qs8 q42 q567) rfl rfl rfl (by decide +kernel) ⟨Nat.le_of_ble_eq_true rfl, Nat.le_of_ble_eq_true rfl⟩) (g_preV hE hI (g_recv hE hI hg rfl)) rfl rfl hl.1 rfl (lv_room (Nat.le_of_ble_eq_true rfl)) dX4_change_6 ⟨Nat.le_of_ble_eq_true rfl, Nat.le_of_ble_eq_true rfl⟩) (fun H locs hI hS => ?_)
  exact g_vret hx hb hr hlk hI hS dX4_change_9 (Nat.le_of_ble_eq_true rfl) (Nat.le_of_ble_eq_true rfl) (by simp only [gU_gU])
set_option maxHeartbeats 4000000 in
set_option maxRecDepth 100000 in
theorem m_Dpass (l : Launch) (E : EnvT) (G : Gh) (h : Nat) (t : Tg) (pt pa lv am lf : Int32) (hg : G h = some (t, dO pt pa lv am lf)) : Met l yX4_pass (ws_ yX4_pass cX4_pass 1 none) ({ frames := 1, cells := 0, slots := 0, locals := 20 } : Room) (cP E G [.ref h]) (cV E (fun G' => G' = gU G h (t, dO pt pa (lvEnd (lvGo pa lv am) (lfGo (lvGo pa lv am) lf)) am (lfGo (lvGo pa lv am) lf)))) 0 0 (eA E) := by
  refine g_met (rm := ({ frames := 1, cells := 0, slots := 0, locals := 20 } : Room)) (av := [.ref h]) (lv := [(0, .ref h)]) (by decide) (Nat.le_of_ble_eq_true rfl) rfl ?_
  intro p e s m below meth c ls hx hb hr hlk hml hin hts hown hE hI hL hS hl
  refine lv_aload_n hx hb dX4_pass_0 rfl (lv_at hl 0 rfl) ?_
  refine lv_aload_n hx hb dX4_pass_1 rfl (lv_at hl 0 rfl) ?_
  refine g_get (C := RX4) (T := TX4) (N := 5) (v := .int lv) hx hb hts in_X4 hown hE hI hg rfl 2 (by decide) q402 (fun _ h9 => h9) rfl dX4_pass_2 ?_
  refine lv_aload_n hx hb dX4_pass_5 rfl (lv_at hl 0 rfl) ?_
  refine g_get (C := RX4) (T := TX4) (N := 5) (v := .int am) hx hb hts in_X4 hown hE hI hg rfl 3 (by decide) q404 (fun _ h9 => h9) rfl dX4_pass_6 ?_
  refine lv_icmp_ge (tgt := 31) hx hb dX4_pass_9 (by decide) (fun c1 => ?_) (fun c1 => ?_)
  · refine lv_aload_n hx hb dX4_pass_31 rfl (lv_at hl 0 rfl) ?_
    refine g_get (C := RX4) (T := TX4) (N := 5) (v := .int am) hx hb hts in_X4 hown hE hI hg rfl 3 (by decide) q404 (fun _ h9 => h9) rfl dX4_pass_32 ?_
    refine lv_aload_n hx hb dX4_pass_35 rfl (lv_at hl 0 rfl) ?_
    refine g_get (C := RX4) (T := TX4) (N := 5) (v := .int lv) hx hb hts in_X4 hown hE hI hg rfl 2 (by decide) q402 (fun _ h9 => h9) rfl dX4_pass_36 ?_
    refine lv_aload_n hx hb dX4_pass_39 rfl (lv_at hl 0 rfl) ?_
    refine g_get (C := RX4) (T := TX4) (N := 5) (v := .int pa) hx hb hts in_X4 hown hE hI hg rfl 1 (by decide) q400 (fun _ h9 => h9) rfl dX4_pass_40 ?_
    refine lv_isub hx hb dX4_pass_43 ?_
    refine va_mmax hx hb (hml.trans hl.1.symm) hown (hts _ q740) (hts _ q440) (hts _ q44) (hts _ q441) (Nat.le_of_ble_eq_true rfl) (Nat.le_of_ble_eq_true rfl) (Nat.le_of_ble_eq_true rfl) (Nat.le_of_ble_eq_true rfl) dX4_pass_44 ?_
    have e1 : lvGo pa lv am = _ := if_pos c1
    refine lv_topi (fun l1 el1 => ?_)
    rw [← e1] at el1
    refine g_put (C := RX4) (T := TX4) (N := 5) (v := .int l1) (ty := .int) (fs' := [.int pt, .int pa, .int l1, .int am, .int lf]) hx hb hts in_X4 tyX4 tyX4_ok nmX4 hown hE hI hS hL hg rfl 2 (by decide) q402 (fun _ h9 => h9) rfl (by decide +kernel) rfl rfl (Nat.le_of_ble_eq_true rfl) rfl dX4_pass_47 (fun H locs hI hS => ?_)
    have hg : (gU G h (t, .inr (2, [.int pt, .int pa, .int l1, .int am, .int lf]))) h = some (t, .inr (2, [.int pt, .int pa, .int l1, .int am, .int lf])) := gU_self
    refine lv_aload_n hx hb dX4_pass_50 rfl (lv_at hl 0 rfl) ?_
    refine lv_iconst (v := 0) hx hb dX4_pass_51 (by decide) ?_
    refine lv_aload_n hx hb dX4_pass_52 rfl (lv_at hl 0 rfl) ?_
    refine g_get (C := RX4) (T := TX4) (N := 5) (v := .int lf) hx hb hts in_X4 hown hE hI hg rfl 4 (by decide) q407 (fun _ h9 => h9) rfl dX4_pass_53 ?_
    refine lv_aload_n hx hb dX4_pass_56 rfl (lv_at hl 0 rfl) ?_
    refine g_get (C := RX4) (T := TX4) (N := 5) (v := .int l1) hx hb hts in_X4 hown hE hI hg rfl 2 (by decide) q402 (fun _ h9 => h9) rfl dX4_pass_57 ?_
    refine lv_bipush (v := 10) hx hb dX4_pass_60 (by decide) ?_
    refine lv_idiv hx hb dX4_pass_62 (by decide) ?_
    refine lv_isub hx hb dX4_pass_63 ?_
    refine va_mmax hx hb (hml.trans hl.1.symm) hown (hts _ q740) (hts _ q440) (hts _ q44) (hts _ q441) (Nat.le_of_ble_eq_true rfl) (Nat.le_of_ble_eq_true rfl) (Nat.le_of_ble_eq_true rfl) (Nat.le_of_ble_eq_true rfl) dX4_pass_64 ?_
    refine lv_topi (fun f1 ef1 => ?_)
    refine g_put (C := RX4) (T := TX4) (N := 5) (v := .int f1) (ty := .int) (fs' := [.int pt, .int pa, .int l1, .int am, .int f1]) hx hb hts in_X4 tyX4 tyX4_ok nmX4 hown hE hI hS hL hg rfl 4 (by decide) q407 (fun _ h9 => h9) rfl (by decide +kernel) rfl rfl (Nat.le_of_ble_eq_true rfl) rfl dX4_pass_67 (fun H locs hI hS => ?_)
    have hg : (gU (gU G h (t, .inr (2, [.int pt, .int pa, .int l1, .int am, .int lf]))) h (t, .inr (2, [.int pt, .int pa, .int l1, .int am, .int f1]))) h = some (t, .inr (2, [.int pt, .int pa, .int l1, .int am, .int f1])) := gU_self
    refine lv_aload_n hx hb dX4_pass_70 rfl (lv_at hl 0 rfl) ?_
    refine g_cv0 hS (va_runV (As := []) (rest := []) ⟨hx, hb, hml, hown, hts⟩ (m_darken l E (gU (gU G h (t, .inr (2, [.int pt, .int pa, .int l1, .int am, .int lf]))) h (t, .inr (2, [.int pt, .int pa, .int l1, .int am, .int f1]))) h t pt pa l1 am f1 hg) (cwV 0 hts (lw_V q564 q566 qs8 q42 q567) rfl rfl rfl (by decide +kernel) ⟨Nat.le_of_ble_eq_true rfl, Nat.le_of_ble_eq_true rfl⟩) (g_preV hE hI (g_recv hE hI hg rfl)) rfl rfl hl.1 rfl (lv_room (Nat.le_of_ble_eq_true rfl)) dX4_pass_71 ⟨Nat.le_of_ble_eq_true rfl, Nat.le_of_ble_eq_true rfl⟩) (fun H locs hI hS => ?_)
    exact g_vret hx hb hr hlk hI hS dX4_pass_74 (Nat.le_of_ble_eq_true rfl) (Nat.le_of_ble_eq_true rfl) (by subst el1; simp only [gU_gU, ef1, lfGo])
  · refine lv_aload_n hx hb dX4_pass_12 rfl (lv_at hl 0 rfl) ?_
    refine g_get (C := RX4) (T := TX4) (N := 5) (v := .int am) hx hb hts in_X4 hown hE hI hg rfl 3 (by decide) q404 (fun _ h9 => h9) rfl dX4_pass_13 ?_
    refine lv_aload_n hx hb dX4_pass_16 rfl (lv_at hl 0 rfl) ?_
    refine g_get (C := RX4) (T := TX4) (N := 5) (v := .int lv) hx hb hts in_X4 hown hE hI hg rfl 2 (by decide) q402 (fun _ h9 => h9) rfl dX4_pass_17 ?_
    refine lv_aload_n hx hb dX4_pass_20 rfl (lv_at hl 0 rfl) ?_
    refine g_get (C := RX4) (T := TX4) (N := 5) (v := .int pa) hx hb hts in_X4 hown hE hI hg rfl 1 (by decide) q400 (fun _ h9 => h9) rfl dX4_pass_21 ?_
    refine lv_iadd hx hb dX4_pass_24 ?_
    refine va_mmin hx hb (hml.trans hl.1.symm) hown (hts _ q739) (hts _ q477) (hts _ q44) (hts _ q478) (Nat.le_of_ble_eq_true rfl) (Nat.le_of_ble_eq_true rfl) (Nat.le_of_ble_eq_true rfl) (Nat.le_of_ble_eq_true rfl) dX4_pass_25 ?_
    refine lv_goto (tgt := 47) hx hb dX4_pass_28 (by decide) ?_
    have e1 : lvGo pa lv am = _ := if_neg c1
    refine lv_topi (fun l1 el1 => ?_)
    rw [← e1] at el1
    refine g_put (C := RX4) (T := TX4) (N := 5) (v := .int l1) (ty := .int) (fs' := [.int pt, .int pa, .int l1, .int am, .int lf]) hx hb hts in_X4 tyX4 tyX4_ok nmX4 hown hE hI hS hL hg rfl 2 (by decide) q402 (fun _ h9 => h9) rfl (by decide +kernel) rfl rfl (Nat.le_of_ble_eq_true rfl) rfl dX4_pass_47 (fun H locs hI hS => ?_)
    have hg : (gU G h (t, .inr (2, [.int pt, .int pa, .int l1, .int am, .int lf]))) h = some (t, .inr (2, [.int pt, .int pa, .int l1, .int am, .int lf])) := gU_self
    refine lv_aload_n hx hb dX4_pass_50 rfl (lv_at hl 0 rfl) ?_
    refine lv_iconst (v := 0) hx hb dX4_pass_51 (by decide) ?_
    refine lv_aload_n hx hb dX4_pass_52 rfl (lv_at hl 0 rfl) ?_
    refine g_get (C := RX4) (T := TX4) (N := 5) (v := .int lf) hx hb hts in_X4 hown hE hI hg rfl 4 (by decide) q407 (fun _ h9 => h9) rfl dX4_pass_53 ?_
    refine lv_aload_n hx hb dX4_pass_56 rfl (lv_at hl 0 rfl) ?_
    refine g_get (C := RX4) (T := TX4) (N := 5) (v := .int l1) hx hb hts in_X4 hown hE hI hg rfl 2 (by decide) q402 (fun _ h9 => h9) rfl dX4_pass_57 ?_
    refine lv_bipush (v := 10) hx hb dX4_pass_60 (by decide) ?_
    refine lv_idiv hx hb dX4_pass_62 (by decide) ?_
    refine lv_isub hx hb dX4_pass_63 ?_
    refine va_mmax hx hb (hml.trans hl.1.symm) hown (hts _ q740) (hts _ q440) (hts _ q44) (hts _ q441) (Nat.le_of_ble_eq_true rfl) (Nat.le_of_ble_eq_true rfl) (Nat.le_of_ble_eq_true rfl) (Nat.le_of_ble_eq_true rfl) dX4_pass_64 ?_
    refine lv_topi (fun f1 ef1 => ?_)
    refine g_put (C := RX4) (T := TX4) (N := 5) (v := .int f1) (ty := .int) (fs' := [.int pt, .int pa, .int l1, .int am, .int f1]) hx hb hts in_X4 tyX4 tyX4_ok nmX4 hown hE hI hS hL hg rfl 4 (by decide) q407 (fun _ h9 => h9) rfl (by decide +kernel) rfl rfl (Nat.le_of_ble_eq_true rfl) rfl dX4_pass_67 (fun H locs hI hS => ?_)
    have hg : (gU (gU G h (t, .inr (2, [.int pt, .int pa, .int l1, .int am, .int lf]))) h (t, .inr (2, [.int pt, .int pa, .int l1, .int am, .int f1]))) h = some (t, .inr (2, [.int pt, .int pa, .int l1, .int am, .int f1])) := gU_self
    refine lv_aload_n hx hb dX4_pass_70 rfl (lv_at hl 0 rfl) ?_
    refine g_cv0 hS (va_runV (As := []) (rest := []) ⟨hx, hb, hml, hown, hts⟩ (m_darken l E (gU (gU G h (t, .inr (2, [.int pt, .int pa, .int l1, .int am, .int lf]))) h (t, .inr (2, [.int pt, .int pa, .int l1, .int am, .int f1]))) h t pt pa l1 am f1 hg) (cwV 0 hts (lw_V q564 q566 qs8 q42 q567) rfl rfl rfl (by decide +kernel) ⟨Nat.le_of_ble_eq_true rfl, Nat.le_of_ble_eq_true rfl⟩) (g_preV hE hI (g_recv hE hI hg rfl)) rfl rfl hl.1 rfl (lv_room (Nat.le_of_ble_eq_true rfl)) dX4_pass_71 ⟨Nat.le_of_ble_eq_true rfl, Nat.le_of_ble_eq_true rfl⟩) (fun H locs hI hS => ?_)
    exact g_vret hx hb hr hlk hI hS dX4_pass_74 (Nat.le_of_ble_eq_true rfl) (Nat.le_of_ble_eq_true rfl) (by subst el1; simp only [gU_gU, ef1, lfGo])
set_option maxHeartbeats 4000000 in
set_option maxRecDepth 100000 in
theorem m_Dcopy (l : Launch) (E : EnvT) (G : Gh) (h : Nat) (t : Tg) (pt pa lv am lf : Int32) (hg : G h = some (t, dO pt pa lv am lf)) (u : Tg) : Met l yX4_copy (ws_ yX4_copy cX4_copy 2 (some (.object "StarConsole$Dimmer"))) ({ frames := 2, cells := 1, slots := 5, locals := 35 } : Room) (cP E G [.ref h]) (cR E (fun r G' => G r = none ∧ G' = gU G r (u, dO pt pa lv am lf))) 1 5 (eA E) := by
  refine g_met (rm := ({ frames := 2, cells := 1, slots := 5, locals := 35 } : Room)) (av := [.ref h]) (lv := [(0, .ref h)]) (by decide) (Nat.le_of_ble_eq_true rfl) rfl ?_
  intro p e s m below meth c ls hx hb hr hlk hml hin hts hown hE hI hL hS hl
  have hg0 := hg
  refine g_new (C := RX4) (T := TX4) (N := 5) (ci := 2) (fs := [.int 0, .int 0, .int 0, .int 0, .int 0]) u hx hb hts in_X4 tyX4 tyX4_ok hown q818 q393 q42 hE hI hS hL rfl (fun j hj => by rcases (show j = 0 ∨ j = 1 ∨ j = 2 ∨ j = 3 ∨ j = 4 by omega) with rfl | rfl | rfl | rfl | rfl <;> rfl) (Nat.le_of_ble_eq_true rfl) (Nat.le_of_ble_eq_true rfl) dX4_copy_0 (fun q H hnq hI hS => ?_)
  have ne1 : h ≠ q := g_fne hnq hg
  have hg := gU_ne (x := (u, .inr (2, [.int 0, .int 0, .int 0, .int 0, .int 0]))) ne1 hg
  have h_q : (gU G q (u, .inr (2, [.int 0, .int 0, .int 0, .int 0, .int 0]))) q = some (u, .inr (2, [.int 0, .int 0, .int 0, .int 0, .int 0])) := gU_self
  refine lv_dup hx hb dX4_copy_3 rfl ?_
  refine lv_aload_n hx hb dX4_copy_4 rfl (lv_at hl 0 rfl) ?_
  refine g_get (C := RX4) (T := TX4) (N := 5) (v := .int pt) hx hb hts in_X4 hown hE hI hg rfl 0 (by decide) q398 (fun _ h9 => h9) rfl dX4_copy_5 ?_
  refine lv_aload_n hx hb dX4_copy_8 rfl (lv_at hl 0 rfl) ?_
  refine g_get (C := RX4) (T := TX4) (N := 5) (v := .int pa) hx hb hts in_X4 hown hE hI hg rfl 1 (by decide) q400 (fun _ h9 => h9) rfl dX4_copy_9 ?_
  refine lv_aload_n hx hb dX4_copy_12 rfl (lv_at hl 0 rfl) ?_
  refine g_get (C := RX4) (T := TX4) (N := 5) (v := .int lf) hx hb hts in_X4 hown hE hI hg rfl 4 (by decide) q407 (fun _ h9 => h9) rfl dX4_copy_13 ?_
  refine g_cv0 hS (va_runI (As := [.int pt, .int pa, .int lf]) (rest := [.ref q]) ⟨hx, hb, hml, hown, hts⟩ (m_Dinit l E (gU G q (u, .inr (2, [.int 0, .int 0, .int 0, .int 0, .int 0]))) q u pt pa lf h_q) (cwI 3 hts (lw_meth q396) rfl rfl rfl (hts _ q42) (hts _ q819) (hts _ q395) rfl (by decide +kernel) ⟨Nat.le_of_ble_eq_true rfl, Nat.le_of_ble_eq_true rfl⟩) (g_preS hE hI) rfl rfl hl.1 rfl (lv_room (Nat.le_of_ble_eq_true rfl)) dX4_copy_16 ⟨Nat.le_of_ble_eq_true rfl, Nat.le_of_ble_eq_true rfl⟩) (fun H locs hI hS => ?_)
  rw [gU_gU] at hI
  have hg : (gU G q (u, dO pt pa 0 0 lf)) h = some (t, dO pt pa lv am lf) := gU_ne ne1 hg0
  have h_q : (gU G q (u, dO pt pa 0 0 lf)) q = some (u, dO pt pa 0 0 lf) := gU_self
  refine lv_astore_n (lv' := [(1, .ref q), (0, .ref h)]) hx hb dX4_copy_19 rfl hl (by decide) rfl (fun ls hl => ?_)
  refine lv_aload_n hx hb dX4_copy_20 rfl (lv_at hl 0 rfl) ?_
  refine lv_aload_n hx hb dX4_copy_21 rfl (lv_at hl 1 rfl) ?_
  refine g_get (C := RX4) (T := TX4) (N := 5) (v := .int lv) hx hb hts in_X4 hown hE hI hg rfl 2 (by decide) q402 (fun _ h9 => h9) rfl dX4_copy_22 ?_
  refine g_put (C := RX4) (T := TX4) (N := 5) (v := .int lv) (ty := .int) (fs' := [.int pt, .int pa, .int lv, .int 0, .int lf]) hx hb hts in_X4 tyX4 tyX4_ok nmX4 hown hE hI hS hL h_q rfl 2 (by decide) q402 (fun _ h9 => h9) rfl (by decide +kernel) rfl rfl (Nat.le_of_ble_eq_true rfl) rfl dX4_copy_25 (fun H locs hI hS => ?_)
  have hg := gU_ne (x := (u, .inr (2, [.int pt, .int pa, .int lv, .int 0, .int lf]))) ne1 hg
  have h_q : (gU (gU G q (u, dO pt pa 0 0 lf)) q (u, .inr (2, [.int pt, .int pa, .int lv, .int 0, .int lf]))) q = some (u, .inr (2, [.int pt, .int pa, .int lv, .int 0, .int lf])) := gU_self
  refine lv_aload_n hx hb dX4_copy_28 rfl (lv_at hl 0 rfl) ?_
  refine lv_aload_n hx hb dX4_copy_29 rfl (lv_at hl 1 rfl) ?_
  refine g_get (C := RX4) (T := TX4) (N := 5) (v := .int am) hx hb hts in_X4 hown hE hI hg rfl 3 (by decide) q404 (fun _ h9 => h9) rfl dX4_copy_30 ?_
  refine g_put (C := RX4) (T := TX4) (N := 5) (v := .int am) (ty := .int) (fs' := [.int pt, .int pa, .int lv, .int am, .int lf]) hx hb hts in_X4 tyX4 tyX4_ok nmX4 hown hE hI hS hL h_q rfl 3 (by decide) q404 (fun _ h9 => h9) rfl (by decide +kernel) rfl rfl (Nat.le_of_ble_eq_true rfl) rfl dX4_copy_33 (fun H locs hI hS => ?_)
  have hg := gU_ne (x := (u, .inr (2, [.int pt, .int pa, .int lv, .int am, .int lf]))) ne1 hg
  have h_q : (gU (gU (gU G q (u, dO pt pa 0 0 lf)) q (u, .inr (2, [.int pt, .int pa, .int lv, .int 0, .int lf]))) q (u, .inr (2, [.int pt, .int pa, .int lv, .int am, .int lf]))) q = some (u, .inr (2, [.int pt, .int pa, .int lv, .int am, .int lf])) := gU_self
  refine lv_aload_n hx hb dX4_copy_36 rfl (lv_at hl 0 rfl) ?_
  exact g_aret hx hb hr (Or.inl ⟨_, rfl⟩) hlk hI hS dX4_copy_37 (Nat.le_of_ble_eq_true rfl) (Nat.le_of_ble_eq_true rfl) (⟨hnq, by simp only [gU_gU]⟩)
set_option maxHeartbeats 4000000 in
set_option maxRecDepth 100000 in
theorem m_isGone (l : Launch) (E : EnvT) (G : Gh) (h : Nat) (t : Tg) (sp an lf : Int32) (hg : G h = some (t, kO sp an lf)) : Met l yX8_isGone (ws_ yX8_isGone cX8_isGone 1 (some .boolean)) ({ frames := 0, cells := 0, slots := 0, locals := 0 } : Room) (cP E G [.ref h]) (cI E (fun r G' => r = goneV lf ∧ G' = G)) 0 0 (eA E) := by
  refine g_met (rm := ({ frames := 0, cells := 0, slots := 0, locals := 0 } : Room)) (av := [.ref h]) (lv := [(0, .ref h)]) (by decide) (Nat.le_of_ble_eq_true rfl) rfl ?_
  intro p e s m below meth c ls hx hb hr hlk hml hin hts hown hE hI hL hS hl
  refine lv_aload_n hx hb dX8_isGone_0 rfl (lv_at hl 0 rfl) ?_
  refine g_get (C := RX8) (T := TX8) (N := 3) (v := .int lf) hx hb hts in_X8 hown hE hI hg rfl 2 (by decide) q719 (fun _ h9 => h9) rfl dX8_isGone_1 ?_
  refine lv_if_ne (tgt := 11) hx hb dX8_isGone_4 (by decide) (fun c1 => ?_) (fun c1 => ?_)
  · refine lv_iconst (v := 0) hx hb dX8_isGone_11 (by decide) ?_
    exact g_zret hx hb hr hlk hI hS dX8_isGone_12 (Nat.le_of_ble_eq_true rfl) (Nat.le_of_ble_eq_true rfl) rfl (⟨(if_neg c1).symm, rfl⟩)
  · refine lv_iconst (v := 1) hx hb dX8_isGone_7 (by decide) ?_
    refine lv_goto (tgt := 12) hx hb dX8_isGone_8 (by decide) ?_
    exact g_zret hx hb hr hlk hI hS dX8_isGone_12 (Nat.le_of_ble_eq_true rfl) (Nat.le_of_ble_eq_true rfl) rfl (⟨(if_pos c1).symm, rfl⟩)
set_option maxHeartbeats 4000000 in
set_option maxRecDepth 100000 in
theorem m_Kinit (l : Launch) (E : EnvT) (G : Gh) (h : Nat) (t : Tg) (p0 p1 : Int32) (hg : G h = some (t, kO 0 0 0)) : Met l yX8_init (ws_ yX8_init cX8_init 3 none) ({ frames := 1, cells := 0, slots := 0, locals := 12 } : Room) (cP E G [.ref h, .int p0, .int p1]) (cV E (fun G' => G' = gU G h (t, kO p1 p0 20))) 0 0 (eA E) := by
  refine g_met (rm := ({ frames := 1, cells := 0, slots := 0, locals := 12 } : Room)) (av := [.ref h, .int p0, .int p1]) (lv := [(0, .ref h), (1, .int p0), (2, .int p1)]) (by decide) (Nat.le_of_ble_eq_true rfl) rfl ?_
  intro p e s m below meth c ls hx hb hr hlk hml hin hts hown hE hI hL hS hl
  refine lv_aload_n hx hb dX8_init_0 rfl (lv_at hl 0 rfl) ?_
  refine W.objInit hx hb hown (hts _ q713) (hts _ q64) (hts _ q65) rfl (by rw [hml]; exact hl.1) rfl dX8_init_1 (Nat.le_of_ble_eq_true rfl) (Nat.le_of_ble_eq_true rfl) ?_
  refine W.eq (g2 := F0 m 4 ls []) rfl ?_
  refine lv_aload_n hx hb dX8_init_4 rfl (lv_at hl 0 rfl) ?_
  refine lv_bipush (v := 20) hx hb dX8_init_5 (by decide) ?_
  refine g_put (C := RX8) (T := TX8) (N := 3) (v := .int 20) (ty := .int) (fs' := [.int 0, .int 0, .int 20]) hx hb hts in_X8 tyX8 tyX8_ok nmX8 hown hE hI hS hL hg rfl 2 (by decide) q719 (fun _ h9 => h9) rfl (by decide +kernel) rfl rfl (Nat.le_of_ble_eq_true rfl) rfl dX8_init_7 (fun H locs hI hS => ?_)
  have hg : (gU G h (t, .inr (3, [.int 0, .int 0, .int 20]))) h = some (t, .inr (3, [.int 0, .int 0, .int 20])) := gU_self
  refine lv_aload_n hx hb dX8_init_10 rfl (lv_at hl 0 rfl) ?_
  refine lv_iload_n hx hb dX8_init_11 rfl (lv_at hl 1 rfl) ?_
  refine g_put (C := RX8) (T := TX8) (N := 3) (v := .int p0) (ty := .int) (fs' := [.int 0, .int p0, .int 20]) hx hb hts in_X8 tyX8 tyX8_ok nmX8 hown hE hI hS hL hg rfl 1 (by decide) q716 (fun _ h9 => h9) rfl (by decide +kernel) rfl rfl (Nat.le_of_ble_eq_true rfl) rfl dX8_init_12 (fun H locs hI hS => ?_)
  have hg : (gU (gU G h (t, .inr (3, [.int 0, .int 0, .int 20]))) h (t, .inr (3, [.int 0, .int p0, .int 20]))) h = some (t, .inr (3, [.int 0, .int p0, .int 20])) := gU_self
  refine lv_aload_n hx hb dX8_init_15 rfl (lv_at hl 0 rfl) ?_
  refine lv_iload_n hx hb dX8_init_16 rfl (lv_at hl 2 rfl) ?_
  refine g_putF (C := RX8) (T := TX8) (N := 3) (v := .int p1) (ty := .int) (fs' := [.int p1, .int p0, .int 20]) hx hb hts in_X8 tyX8 tyX8_ok nmX8 hown hE hI hS hL hg rfl 0 (by decide) q714 (fun _ h9 => h9) rfl hin rfl (by decide +kernel) rfl rfl (Nat.le_of_ble_eq_true rfl) rfl dX8_init_17 (fun H locs hI hS => ?_)
  have hg : (gU (gU (gU G h (t, .inr (3, [.int 0, .int 0, .int 20]))) h (t, .inr (3, [.int 0, .int p0, .int 20]))) h (t, .inr (3, [.int p1, .int p0, .int 20]))) h = some (t, .inr (3, [.int p1, .int p0, .int 20])) := gU_self
  exact g_vret hx hb hr hlk hI hS dX8_init_20 (Nat.le_of_ble_eq_true rfl) (Nat.le_of_ble_eq_true rfl) (by simp only [gU_gU])
set_option maxHeartbeats 4000000 in
set_option maxRecDepth 100000 in
theorem m_Kpass (l : Launch) (E : EnvT) (G : Gh) (h : Nat) (t : Tg) (sp an lf : Int32) (hg : G h = some (t, kO sp an lf)) : Met l yX8_pass (ws_ yX8_pass cX8_pass 1 none) ({ frames := 1, cells := 0, slots := 0, locals := 20 } : Room) (cP E G [.ref h]) (cV E (fun G' => G' = gU G h (t, kO sp (cpsA sp an lf) (cpsL lf)))) 0 0 (eA E) := by
  refine g_met (rm := ({ frames := 1, cells := 0, slots := 0, locals := 20 } : Room)) (av := [.ref h]) (lv := [(0, .ref h)]) (by decide) (Nat.le_of_ble_eq_true rfl) rfl ?_
  intro p e s m below meth c ls hx hb hr hlk hml hin hts hown hE hI hL hS hl
  refine lv_aload_n hx hb dX8_pass_0 rfl (lv_at hl 0 rfl) ?_
  refine g_ci0 (G := G) (v := goneV lf) hS (va_runV (As := []) (rest := []) ⟨hx, hb, hml, hown, hts⟩ (m_isGone l E G h t sp an lf hg) (cwV 0 hts (lw_V q746 q252 q253 q57 q254) rfl rfl rfl (by decide +kernel) ⟨Nat.le_of_ble_eq_true rfl, Nat.le_of_ble_eq_true rfl⟩) (g_preV hE hI (g_recv hE hI hg rfl)) rfl rfl hl.1 rfl (lv_room (Nat.le_of_ble_eq_true rfl)) dX8_pass_1 ⟨Nat.le_of_ble_eq_true rfl, Nat.le_of_ble_eq_true rfl⟩) (fun H locs hI hS => ?_)
  refine lv_if_eq (tgt := 8) hx hb dX8_pass_4 (by decide) (fun c1 => ?_) (fun c1 => ?_)
  · have c2 : ¬ lf = 0 := fun z => absurd c1 (by rw [show goneV lf = 1 from if_pos z]; decide)
    refine lv_aload_n hx hb dX8_pass_8 rfl (lv_at hl 0 rfl) ?_
    refine lv_aload_n hx hb dX8_pass_9 rfl (lv_at hl 0 rfl) ?_
    refine g_get (C := RX8) (T := TX8) (N := 3) (v := .int an) hx hb hts in_X8 hown hE hI hg rfl 1 (by decide) q716 (fun _ h9 => h9) rfl dX8_pass_10 ?_
    refine lv_aload_n hx hb dX8_pass_13 rfl (lv_at hl 0 rfl) ?_
    refine g_get (C := RX8) (T := TX8) (N := 3) (v := .int sp) hx hb hts in_X8 hown hE hI hg rfl 0 (by decide) q714 (fun _ h9 => h9) rfl dX8_pass_14 ?_
    refine lv_iadd hx hb dX8_pass_17 ?_
    refine g_ci0 (G := G) (v := rnd (an + sp)) hS (va_runSN (As := [.int (an + sp)]) (rest := [.ref h]) ⟨hx, hb, hml, hown, hts⟩ (m_round l E G (an + sp)) ⟨va_cnB 1 hts (lw_meth q233) rfl rfl rfl (hE.nw q747 rfl) (hts _ q31) (by decide +kernel) ⟨Nat.le_of_ble_eq_true rfl, Nat.le_of_ble_eq_true rfl⟩, hts _ q232, trivial⟩ (g_preS hE hI) rfl rfl hl.1 rfl (lv_room (Nat.le_of_ble_eq_true rfl)) dX8_pass_18 ⟨Nat.le_of_ble_eq_true rfl, Nat.le_of_ble_eq_true rfl⟩) (fun H locs hI hS => ?_)
    refine g_put (C := RX8) (T := TX8) (N := 3) (v := .int (rnd (an + sp))) (ty := .int) (fs' := [.int sp, .int (rnd (an + sp)), .int lf]) hx hb hts in_X8 tyX8 tyX8_ok nmX8 hown hE hI hS hL hg rfl 1 (by decide) q716 (fun _ h9 => h9) rfl (by decide +kernel) rfl rfl (Nat.le_of_ble_eq_true rfl) rfl dX8_pass_21 (fun H locs hI hS => ?_)
    have hg : (gU G h (t, .inr (3, [.int sp, .int (rnd (an + sp)), .int lf]))) h = some (t, .inr (3, [.int sp, .int (rnd (an + sp)), .int lf])) := gU_self
    refine lv_aload_n hx hb dX8_pass_24 rfl (lv_at hl 0 rfl) ?_
    refine lv_dup hx hb dX8_pass_25 rfl ?_
    refine g_get (C := RX8) (T := TX8) (N := 3) (v := .int lf) hx hb hts in_X8 hown hE hI hg rfl 2 (by decide) q719 (fun _ h9 => h9) rfl dX8_pass_26 ?_
    refine lv_iconst (v := 1) hx hb dX8_pass_29 (by decide) ?_
    refine lv_isub hx hb dX8_pass_30 ?_
    refine g_put (C := RX8) (T := TX8) (N := 3) (v := .int (lf - 1)) (ty := .int) (fs' := [.int sp, .int (rnd (an + sp)), .int (lf - 1)]) hx hb hts in_X8 tyX8 tyX8_ok nmX8 hown hE hI hS hL hg rfl 2 (by decide) q719 (fun _ h9 => h9) rfl (by decide +kernel) rfl rfl (Nat.le_of_ble_eq_true rfl) rfl dX8_pass_31 (fun H locs hI hS => ?_)
    have hg : (gU (gU G h (t, .inr (3, [.int sp, .int (rnd (an + sp)), .int lf]))) h (t, .inr (3, [.int sp, .int (rnd (an + sp)), .int (lf - 1)]))) h = some (t, .inr (3, [.int sp, .int (rnd (an + sp)), .int (lf - 1)])) := gU_self
    exact g_vret hx hb hr hlk hI hS dX8_pass_34 (Nat.le_of_ble_eq_true rfl) (Nat.le_of_ble_eq_true rfl) (by rw [show cpsA sp an lf = rnd (an + sp) from if_neg c2, show cpsL lf = lf - 1 from if_neg c2]; simp only [gU_gU])
  · have c2 : lf = 0 := Decidable.byContradiction (fun z => c1 (if_neg z))
    exact g_vret hx hb hr hlk hI hS dX8_pass_7 (Nat.le_of_ble_eq_true rfl) (Nat.le_of_ble_eq_true rfl) (by rw [show cpsA sp an lf = an from if_pos c2, show cpsL lf = lf from if_pos c2]; exact (gU_id hg).symm)
set_option maxHeartbeats 4000000 in
set_option maxRecDepth 100000 in
theorem m_Kcopy (l : Launch) (E : EnvT) (G : Gh) (h : Nat) (t : Tg) (sp an lf : Int32) (hg : G h = some (t, kO sp an lf)) (u : Tg) : Met l yX8_copy (ws_ yX8_copy cX8_copy 2 (some (.object "StarConsole$Comet"))) ({ frames := 2, cells := 1, slots := 3, locals := 34 } : Room) (cP E G [.ref h]) (cR E (fun r G' => G r = none ∧ G' = gU G r (u, kO sp an lf))) 1 3 (eA E) := by
  refine g_met (rm := ({ frames := 2, cells := 1, slots := 3, locals := 34 } : Room)) (av := [.ref h]) (lv := [(0, .ref h)]) (by decide) (Nat.le_of_ble_eq_true rfl) rfl ?_
  intro p e s m below meth c ls hx hb hr hlk hml hin hts hown hE hI hL hS hl
  have hg0 := hg
  refine g_new (C := RX8) (T := TX8) (N := 3) (ci := 3) (fs := [.int 0, .int 0, .int 0]) u hx hb hts in_X8 tyX8 tyX8_ok hown q825 q709 q57 hE hI hS hL rfl (fun j hj => by rcases (show j = 0 ∨ j = 1 ∨ j = 2 by omega) with rfl | rfl | rfl <;> rfl) (Nat.le_of_ble_eq_true rfl) (Nat.le_of_ble_eq_true rfl) dX8_copy_0 (fun q H hnq hI hS => ?_)
  have ne1 : h ≠ q := g_fne hnq hg
  have hg := gU_ne (x := (u, .inr (3, [.int 0, .int 0, .int 0]))) ne1 hg
  have h_q : (gU G q (u, .inr (3, [.int 0, .int 0, .int 0]))) q = some (u, .inr (3, [.int 0, .int 0, .int 0])) := gU_self
  refine lv_dup hx hb dX8_copy_3 rfl ?_
  refine lv_aload_n hx hb dX8_copy_4 rfl (lv_at hl 0 rfl) ?_
  refine g_get (C := RX8) (T := TX8) (N := 3) (v := .int an) hx hb hts in_X8 hown hE hI hg rfl 1 (by decide) q716 (fun _ h9 => h9) rfl dX8_copy_5 ?_
  refine lv_aload_n hx hb dX8_copy_8 rfl (lv_at hl 0 rfl) ?_
  refine g_get (C := RX8) (T := TX8) (N := 3) (v := .int sp) hx hb hts in_X8 hown hE hI hg rfl 0 (by decide) q714 (fun _ h9 => h9) rfl dX8_copy_9 ?_
  refine g_cv0 hS (va_runI (As := [.int an, .int sp]) (rest := [.ref q]) ⟨hx, hb, hml, hown, hts⟩ (m_Kinit l E (gU G q (u, .inr (3, [.int 0, .int 0, .int 0]))) q u an sp h_q) (cwI 2 hts (lw_meth q712) rfl rfl rfl (hts _ q57) (hts _ q826) (hts _ q711) rfl (by decide +kernel) ⟨Nat.le_of_ble_eq_true rfl, Nat.le_of_ble_eq_true rfl⟩) (g_preS hE hI) rfl rfl hl.1 rfl (lv_room (Nat.le_of_ble_eq_true rfl)) dX8_copy_12 ⟨Nat.le_of_ble_eq_true rfl, Nat.le_of_ble_eq_true rfl⟩) (fun H locs hI hS => ?_)
  rw [gU_gU] at hI
  have hg : (gU G q (u, kO sp an 20)) h = some (t, kO sp an lf) := gU_ne ne1 hg0
  have h_q : (gU G q (u, kO sp an 20)) q = some (u, kO sp an 20) := gU_self
  refine lv_astore_n (lv' := [(1, .ref q), (0, .ref h)]) hx hb dX8_copy_15 rfl hl (by decide) rfl (fun ls hl => ?_)
  refine lv_aload_n hx hb dX8_copy_16 rfl (lv_at hl 0 rfl) ?_
  refine lv_aload_n hx hb dX8_copy_17 rfl (lv_at hl 1 rfl) ?_
  refine g_get (C := RX8) (T := TX8) (N := 3) (v := .int lf) hx hb hts in_X8 hown hE hI hg rfl 2 (by decide) q719 (fun _ h9 => h9) rfl dX8_copy_18 ?_
  refine g_put (C := RX8) (T := TX8) (N := 3) (v := .int lf) (ty := .int) (fs' := [.int sp, .int an, .int lf]) hx hb hts in_X8 tyX8 tyX8_ok nmX8 hown hE hI hS hL h_q rfl 2 (by decide) q719 (fun _ h9 => h9) rfl (by decide +kernel) rfl rfl (Nat.le_of_ble_eq_true rfl) rfl dX8_copy_21 (fun H locs hI hS => ?_)
  have hg := gU_ne (x := (u, .inr (3, [.int sp, .int an, .int lf]))) ne1 hg
  have h_q : (gU (gU G q (u, kO sp an 20)) q (u, .inr (3, [.int sp, .int an, .int lf]))) q = some (u, .inr (3, [.int sp, .int an, .int lf])) := gU_self
  refine lv_aload_n hx hb dX8_copy_24 rfl (lv_at hl 0 rfl) ?_
  exact g_aret hx hb hr (Or.inl ⟨_, rfl⟩) hlk hI hS dX8_copy_25 (Nat.le_of_ble_eq_true rfl) (Nat.le_of_ble_eq_true rfl) (⟨hnq, by simp only [gU_gU]⟩)
set_option maxHeartbeats 4000000 in
set_option maxRecDepth 100000 in
theorem m_Record (l : Launch) (E : EnvT) (G : Gh) (h : Nat) : Met l yJ16_init (ws_ yJ16_init cJ16_init 1 none) ({ frames := 1, cells := 0, slots := 0, locals := 12 } : Room) (cP E G [.ref h]) (cV E (fun G' => G' = G)) 0 0 (eA E) := by
  refine g_met (rm := ({ frames := 1, cells := 0, slots := 0, locals := 12 } : Room)) (av := [.ref h]) (lv := [(0, .ref h)]) (by decide) (Nat.le_of_ble_eq_true rfl) rfl ?_
  intro p e s m below meth c ls hx hb hr hlk hml hin hts hown hE hI hL hS hl
  refine lv_aload_n hx hb dJ16_init_0 rfl (lv_at hl 0 rfl) ?_
  refine W.objInit hx hb hown (hts _ q582) (hts _ q64) (hts _ q65) rfl (by rw [hml]; exact hl.1) rfl dJ16_init_1 (Nat.le_of_ble_eq_true rfl) (Nat.le_of_ble_eq_true rfl) ?_
  refine W.eq (g2 := F0 m 4 ls []) rfl ?_
  exact g_vret hx hb hr hlk hI hS dJ16_init_4 (Nat.le_of_ble_eq_true rfl) (Nat.le_of_ble_eq_true rfl) rfl
set_option maxHeartbeats 4000000 in
set_option maxRecDepth 100000 in
theorem m_degree (l : Launch) (E : EnvT) (G : Gh) (h : Nat) (t : Tg) (dg lt : Int32) (hg : G h = some (t, sO dg lt)) : Met l yX5_degree (ws_ yX5_degree cX5_degree 1 (some .int)) ({ frames := 0, cells := 0, slots := 0, locals := 0 } : Room) (cP E G [.ref h]) (cI E (fun r G' => r = dg ∧ G' = G)) 0 0 (eA E) := by
  refine g_met (rm := ({ frames := 0, cells := 0, slots := 0, locals := 0 } : Room)) (av := [.ref h]) (lv := [(0, .ref h)]) (by decide) (Nat.le_of_ble_eq_true rfl) rfl ?_
  intro p e s m below meth c ls hx hb hr hlk hml hin hts hown hE hI hL hS hl
  refine lv_aload_n hx hb dX5_degree_0 rfl (lv_at hl 0 rfl) ?_
  refine g_get (C := RX5) (T := TX5) (N := 2) (v := .int dg) hx hb hts in_X5 hown hE hI hg rfl 0 (by decide) q583 (fun _ h9 => h9) rfl dX5_degree_1 ?_
  exact g_iret hx hb hr hlk hI hS dX5_degree_4 (Nat.le_of_ble_eq_true rfl) (Nat.le_of_ble_eq_true rfl) (⟨rfl, rfl⟩)
set_option maxHeartbeats 4000000 in
set_option maxRecDepth 100000 in
theorem m_light (l : Launch) (E : EnvT) (G : Gh) (h : Nat) (t : Tg) (dg lt : Int32) (hg : G h = some (t, sO dg lt)) : Met l yX5_light (ws_ yX5_light cX5_light 1 (some .int)) ({ frames := 0, cells := 0, slots := 0, locals := 0 } : Room) (cP E G [.ref h]) (cI E (fun r G' => r = lt ∧ G' = G)) 0 0 (eA E) := by
  refine g_met (rm := ({ frames := 0, cells := 0, slots := 0, locals := 0 } : Room)) (av := [.ref h]) (lv := [(0, .ref h)]) (by decide) (Nat.le_of_ble_eq_true rfl) rfl ?_
  intro p e s m below meth c ls hx hb hr hlk hml hin hts hown hE hI hL hS hl
  refine lv_aload_n hx hb dX5_light_0 rfl (lv_at hl 0 rfl) ?_
  refine g_get (C := RX5) (T := TX5) (N := 2) (v := .int lt) hx hb hts in_X5 hown hE hI hg rfl 1 (by decide) q584 (fun _ h9 => h9) rfl dX5_light_1 ?_
  exact g_iret hx hb hr hlk hI hS dX5_light_4 (Nat.le_of_ble_eq_true rfl) (Nat.le_of_ble_eq_true rfl) (⟨rfl, rfl⟩)
set_option maxHeartbeats 4000000 in
set_option maxRecDepth 100000 in
theorem m_Sinit (l : Launch) (E : EnvT) (G : Gh) (h : Nat) (t : Tg) (p0 p1 : Int32) (hg : G h = some (t, sO 0 0)) : Met l yX5_init (ws_ yX5_init cX5_init 3 none) ({ frames := 2, cells := 0, slots := 0, locals := 32 } : Room) (cP E G [.ref h, .int p0, .int p1]) (cV E (fun G' => G' = gU G h (t, sO p0 p1))) 0 0 (eA E) := by
  refine g_met (rm := ({ frames := 2, cells := 0, slots := 0, locals := 32 } : Room)) (av := [.ref h, .int p0, .int p1]) (lv := [(0, .ref h), (1, .int p0), (2, .int p1)]) (by decide) (Nat.le_of_ble_eq_true rfl) rfl ?_
  intro p e s m below meth c ls hx hb hr hlk hml hin hts hown hE hI hL hS hl
  refine lv_aload_n hx hb dX5_init_0 rfl (lv_at hl 0 rfl) ?_
  refine g_cv0 hS (va_runI (As := []) (rest := []) ⟨hx, hb, hml, hown, hts⟩ (m_Record l E G h) (cwI 0 hts (lw_meth q581) rfl rfl rfl (hts _ q52) (hts _ q579) (hts _ q580) rfl (by decide +kernel) ⟨Nat.le_of_ble_eq_true rfl, Nat.le_of_ble_eq_true rfl⟩) (g_preS hE hI) rfl rfl hl.1 rfl (lv_room (Nat.le_of_ble_eq_true rfl)) dX5_init_1 ⟨Nat.le_of_ble_eq_true rfl, Nat.le_of_ble_eq_true rfl⟩) (fun H locs hI hS => ?_)
  refine lv_aload_n hx hb dX5_init_4 rfl (lv_at hl 0 rfl) ?_
  refine lv_iload_n hx hb dX5_init_5 rfl (lv_at hl 1 rfl) ?_
  refine g_putF (C := RX5) (T := TX5) (N := 2) (v := .int p0) (ty := .int) (fs' := [.int p0, .int 0]) hx hb hts in_X5 tyX5 tyX5_ok nmX5 hown hE hI hS hL hg rfl 0 (by decide) q583 (fun _ h9 => h9) rfl hin rfl (by decide +kernel) rfl rfl (Nat.le_of_ble_eq_true rfl) rfl dX5_init_6 (fun H locs hI hS => ?_)
  have hg : (gU G h (t, .inr (4, [.int p0, .int 0]))) h = some (t, .inr (4, [.int p0, .int 0])) := gU_self
  refine lv_aload_n hx hb dX5_init_9 rfl (lv_at hl 0 rfl) ?_
  refine lv_iload_n hx hb dX5_init_10 rfl (lv_at hl 2 rfl) ?_
  refine g_putF (C := RX5) (T := TX5) (N := 2) (v := .int p1) (ty := .int) (fs' := [.int p0, .int p1]) hx hb hts in_X5 tyX5 tyX5_ok nmX5 hown hE hI hS hL hg rfl 1 (by decide) q584 (fun _ h9 => h9) rfl hin rfl (by decide +kernel) rfl rfl (Nat.le_of_ble_eq_true rfl) rfl dX5_init_11 (fun H locs hI hS => ?_)
  have hg : (gU (gU G h (t, .inr (4, [.int p0, .int 0]))) h (t, .inr (4, [.int p0, .int p1]))) h = some (t, .inr (4, [.int p0, .int p1])) := gU_self
  exact g_vret hx hb hr hlk hI hS dX5_init_14 (Nat.le_of_ble_eq_true rfl) (Nat.le_of_ble_eq_true rfl) (by simp only [gU_gU])
set_option maxHeartbeats 4000000 in
set_option maxRecDepth 100000 in
theorem m_Utime (l : Launch) (E : EnvT) (G : Gh) (h : Nat) (t : Tg) (tm : Int32) (k : Nat) (a b : Int32) (hg : G h = some (t, uO tm k a b)) : Met l yX7_time (ws_ yX7_time cX7_time 1 (some .int)) ({ frames := 0, cells := 0, slots := 0, locals := 0 } : Room) (cP E G [.ref h]) (cI E (fun r G' => r = tm ∧ G' = G)) 0 0 (eA E) := by
  refine g_met (rm := ({ frames := 0, cells := 0, slots := 0, locals := 0 } : Room)) (av := [.ref h]) (lv := [(0, .ref h)]) (by decide) (Nat.le_of_ble_eq_true rfl) rfl ?_
  intro p e s m below meth c ls hx hb hr hlk hml hin hts hown hE hI hL hS hl
  refine lv_aload_n hx hb dX7_time_0 rfl (lv_at hl 0 rfl) ?_
  refine g_get (C := RX7) (T := TX7) (N := 4) (v := .int tm) hx hb hts in_X7 hown hE hI hg rfl 0 (by decide) q638 (fun _ h9 => h9) rfl dX7_time_1 ?_
  exact g_iret hx hb hr hlk hI hS dX7_time_4 (Nat.le_of_ble_eq_true rfl) (Nat.le_of_ble_eq_true rfl) (⟨rfl, rfl⟩)
set_option maxHeartbeats 4000000 in
set_option maxRecDepth 100000 in
theorem m_Ukind (l : Launch) (E : EnvT) (G : Gh) (h : Nat) (t : Tg) (tm : Int32) (k : Nat) (a b : Int32) (hg : G h = some (t, uO tm k a b)) : Met l yX7_kind (ws_ yX7_kind cX7_kind 1 (some (.object "StarConsole$Kind"))) ({ frames := 0, cells := 0, slots := 0, locals := 0 } : Room) (cP E G [.ref h]) (cR E (fun r G' => r = k ∧ G' = G)) 0 0 (eA E) := by
  refine g_met (rm := ({ frames := 0, cells := 0, slots := 0, locals := 0 } : Room)) (av := [.ref h]) (lv := [(0, .ref h)]) (by decide) (Nat.le_of_ble_eq_true rfl) rfl ?_
  intro p e s m below meth c ls hx hb hr hlk hml hin hts hown hE hI hL hS hl
  refine lv_aload_n hx hb dX7_kind_0 rfl (lv_at hl 0 rfl) ?_
  refine g_get (C := RX7) (T := TX7) (N := 4) (v := .ref k) hx hb hts in_X7 hown hE hI hg rfl 1 (by decide) q639 (fun _ h9 => h9) rfl dX7_kind_1 ?_
  exact g_aret hx hb hr (Or.inl ⟨_, rfl⟩) hlk hI hS dX7_kind_4 (Nat.le_of_ble_eq_true rfl) (Nat.le_of_ble_eq_true rfl) (⟨rfl, rfl⟩)
set_option maxHeartbeats 4000000 in
set_option maxRecDepth 100000 in
theorem m_Ua (l : Launch) (E : EnvT) (G : Gh) (h : Nat) (t : Tg) (tm : Int32) (k : Nat) (a b : Int32) (hg : G h = some (t, uO tm k a b)) : Met l yX7_a (ws_ yX7_a cX7_a 1 (some .int)) ({ frames := 0, cells := 0, slots := 0, locals := 0 } : Room) (cP E G [.ref h]) (cI E (fun r G' => r = a ∧ G' = G)) 0 0 (eA E) := by
  refine g_met (rm := ({ frames := 0, cells := 0, slots := 0, locals := 0 } : Room)) (av := [.ref h]) (lv := [(0, .ref h)]) (by decide) (Nat.le_of_ble_eq_true rfl) rfl ?_
  intro p e s m below meth c ls hx hb hr hlk hml hin hts hown hE hI hL hS hl
  refine lv_aload_n hx hb dX7_a_0 rfl (lv_at hl 0 rfl) ?_
  refine g_get (C := RX7) (T := TX7) (N := 4) (v := .int a) hx hb hts in_X7 hown hE hI hg rfl 2 (by decide) q640 (fun _ h9 => h9) rfl dX7_a_1 ?_
  exact g_iret hx hb hr hlk hI hS dX7_a_4 (Nat.le_of_ble_eq_true rfl) (Nat.le_of_ble_eq_true rfl) (⟨rfl, rfl⟩)
set_option maxHeartbeats 4000000 in
set_option maxRecDepth 100000 in
theorem m_Ub (l : Launch) (E : EnvT) (G : Gh) (h : Nat) (t : Tg) (tm : Int32) (k : Nat) (a b : Int32) (hg : G h = some (t, uO tm k a b)) : Met l yX7_b (ws_ yX7_b cX7_b 1 (some .int)) ({ frames := 0, cells := 0, slots := 0, locals := 0 } : Room) (cP E G [.ref h]) (cI E (fun r G' => r = b ∧ G' = G)) 0 0 (eA E) := by
  refine g_met (rm := ({ frames := 0, cells := 0, slots := 0, locals := 0 } : Room)) (av := [.ref h]) (lv := [(0, .ref h)]) (by decide) (Nat.le_of_ble_eq_true rfl) rfl ?_
  intro p e s m below meth c ls hx hb hr hlk hml hin hts hown hE hI hL hS hl
  refine lv_aload_n hx hb dX7_b_0 rfl (lv_at hl 0 rfl) ?_
  refine g_get (C := RX7) (T := TX7) (N := 4) (v := .int b) hx hb hts in_X7 hown hE hI hg rfl 3 (by decide) q641 (fun _ h9 => h9) rfl dX7_b_1 ?_
  exact g_iret hx hb hr hlk hI hS dX7_b_4 (Nat.le_of_ble_eq_true rfl) (Nat.le_of_ble_eq_true rfl) (⟨rfl, rfl⟩)
set_option maxHeartbeats 4000000 in
set_option maxRecDepth 100000 in
theorem m_Uinit (l : Launch) (E : EnvT) (G : Gh) (h : Nat) (t : Tg) (p0 : Int32) (p1 : Nat) (p2 p3 : Int32) (hg : G h = some (t, .inr (5, [.int 0, .null, .int 0, .int 0]))) : Met l yX7_init (ws_ yX7_init cX7_init 5 none) ({ frames := 2, cells := 0, slots := 0, locals := 32 } : Room) (cP E G [.ref h, .int p0, .ref p1, .int p2, .int p3]) (cV E (fun G' => G' = gU G h (t, uO p0 p1 p2 p3))) 0 0 (eA E) := by
  refine g_met (rm := ({ frames := 2, cells := 0, slots := 0, locals := 32 } : Room)) (av := [.ref h, .int p0, .ref p1, .int p2, .int p3]) (lv := [(0, .ref h), (1, .int p0), (2, .ref p1), (3, .int p2), (4, .int p3)]) (by decide) (Nat.le_of_ble_eq_true rfl) rfl ?_
  intro p e s m below meth c ls hx hb hr hlk hml hin hts hown hE hI hL hS hl
  refine lv_aload_n hx hb dX7_init_0 rfl (lv_at hl 0 rfl) ?_
  refine g_cv0 hS (va_runI (As := []) (rest := []) ⟨hx, hb, hml, hown, hts⟩ (m_Record l E G h) (cwI 0 hts (lw_meth q581) rfl rfl rfl (hts _ q52) (hts _ q637) (hts _ q580) rfl (by decide +kernel) ⟨Nat.le_of_ble_eq_true rfl, Nat.le_of_ble_eq_true rfl⟩) (g_preS hE hI) rfl rfl hl.1 rfl (lv_room (Nat.le_of_ble_eq_true rfl)) dX7_init_1 ⟨Nat.le_of_ble_eq_true rfl, Nat.le_of_ble_eq_true rfl⟩) (fun H locs hI hS => ?_)
  refine lv_aload_n hx hb dX7_init_4 rfl (lv_at hl 0 rfl) ?_
  refine lv_iload_n hx hb dX7_init_5 rfl (lv_at hl 1 rfl) ?_
  refine g_putF (C := RX7) (T := TX7) (N := 4) (v := .int p0) (ty := .int) (fs' := [.int p0, .null, .int 0, .int 0]) hx hb hts in_X7 tyX7 tyX7_ok nmX7 hown hE hI hS hL hg rfl 0 (by decide) q638 (fun _ h9 => h9) rfl hin rfl (by decide +kernel) rfl rfl (Nat.le_of_ble_eq_true rfl) rfl dX7_init_6 (fun H locs hI hS => ?_)
  have hg : (gU G h (t, .inr (5, [.int p0, .null, .int 0, .int 0]))) h = some (t, .inr (5, [.int p0, .null, .int 0, .int 0])) := gU_self
  refine lv_aload_n hx hb dX7_init_9 rfl (lv_at hl 0 rfl) ?_
  refine lv_aload_n hx hb dX7_init_10 rfl (lv_at hl 2 rfl) ?_
  refine g_putF (C := RX7) (T := TX7) (N := 4) (v := .ref p1) (ty := .object "StarConsole$Kind") (fs' := [.int p0, .ref p1, .int 0, .int 0]) hx hb hts in_X7 tyX7 tyX7_ok nmX7 hown hE hI hS hL hg rfl 1 (by decide) q639 (fun _ h9 => h9) rfl hin rfl (by decide +kernel) rfl rfl (Nat.le_of_ble_eq_true rfl) rfl dX7_init_11 (fun H locs hI hS => ?_)
  have hg : (gU (gU G h (t, .inr (5, [.int p0, .null, .int 0, .int 0]))) h (t, .inr (5, [.int p0, .ref p1, .int 0, .int 0]))) h = some (t, .inr (5, [.int p0, .ref p1, .int 0, .int 0])) := gU_self
  refine lv_aload_n hx hb dX7_init_14 rfl (lv_at hl 0 rfl) ?_
  refine lv_iload_n hx hb dX7_init_15 rfl (lv_at hl 3 rfl) ?_
  refine g_putF (C := RX7) (T := TX7) (N := 4) (v := .int p2) (ty := .int) (fs' := [.int p0, .ref p1, .int p2, .int 0]) hx hb hts in_X7 tyX7 tyX7_ok nmX7 hown hE hI hS hL hg rfl 2 (by decide) q640 (fun _ h9 => h9) rfl hin rfl (by decide +kernel) rfl rfl (Nat.le_of_ble_eq_true rfl) rfl dX7_init_16 (fun H locs hI hS => ?_)
  have hg : (gU (gU (gU G h (t, .inr (5, [.int p0, .null, .int 0, .int 0]))) h (t, .inr (5, [.int p0, .ref p1, .int 0, .int 0]))) h (t, .inr (5, [.int p0, .ref p1, .int p2, .int 0]))) h = some (t, .inr (5, [.int p0, .ref p1, .int p2, .int 0])) := gU_self
  refine lv_aload_n hx hb dX7_init_19 rfl (lv_at hl 0 rfl) ?_
  refine lv_iload hx hb dX7_init_20 (lv_at hl 4 rfl) ?_
  refine g_putF (C := RX7) (T := TX7) (N := 4) (v := .int p3) (ty := .int) (fs' := [.int p0, .ref p1, .int p2, .int p3]) hx hb hts in_X7 tyX7 tyX7_ok nmX7 hown hE hI hS hL hg rfl 3 (by decide) q641 (fun _ h9 => h9) rfl hin rfl (by decide +kernel) rfl rfl (Nat.le_of_ble_eq_true rfl) rfl dX7_init_22 (fun H locs hI hS => ?_)
  have hg : (gU (gU (gU (gU G h (t, .inr (5, [.int p0, .null, .int 0, .int 0]))) h (t, .inr (5, [.int p0, .ref p1, .int 0, .int 0]))) h (t, .inr (5, [.int p0, .ref p1, .int p2, .int 0]))) h (t, .inr (5, [.int p0, .ref p1, .int p2, .int p3]))) h = some (t, .inr (5, [.int p0, .ref p1, .int p2, .int p3])) := gU_self
  exact g_vret hx hb hr hlk hI hS dX7_init_25 (Nat.le_of_ble_eq_true rfl) (Nat.le_of_ble_eq_true rfl) (by simp only [gU_gU])
