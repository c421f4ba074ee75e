/-! CONTRACTS of the console's constructor and copy. Printed by gen/p26.py -/
theorem LRep.nil {E : EnvT} {G : Gh} {tl ta : Tg} {a : Nat} {ad : Nat → Nat} (h : G a = some (tl, aO 0 (eK E 6) 0)) : LRep E G tl ta a (eK E 6) 0 ad := ⟨0, 0, fun _ => none, by rw [nI_0]; exact h, Nat.le_refl _, by omega, fun k hk => absurd hk (Nat.not_lt_zero k), Or.inl ⟨rfl, rfl⟩⟩
theorem Fr.news {P : Tg → Prop} {G : Gh} {q : Nat} {x y : Tg × va_E} (hq : G q = none) : Fr P G (gU (gU G q x) q y) := by rw [gU_gU]; exact Fr.new hq
set_option maxHeartbeats 4000000 in
set_option maxRecDepth 100000 in
theorem m_Cinit (l : Launch) (E : EnvT) (G : Gh) (o con : Nat) (dA kA : Nat → Nat) (dm : Nat → Dm) (km : Nat → Km) (hg : G con = some ((o, 0, 0), .inr (1, [.int 0, .int 0, .int 0, .int 0, .int 0, .int 0, .int 0, .null, .null]))) : Met l yX2_init (ws_ yX2_init cX2_init 1 none) ({ frames := 4, cells := 2, slots := 6, locals := 72 } : Room) (cP E G [.ref con]) (cV E (fun G' => ∃ ld lc, CRep E G' o (con, ld, lc, dA, kA) ((0, 0, 0, 0, 0, -1, 0), (0, dm), (0, km)) ∧ Fr (Ow o) G G')) 2 6 (eA E) := by
  refine g_met (rm := ({ frames := 4, cells := 2, slots := 6, locals := 72 } : Room)) (av := [.ref con]) (lv := [(0, .ref con)]) (by decide) (Nat.le_of_ble_eq_true rfl) rfl ?_
  intro p e s m below meth c ls hx hb hr hlk hml hin hts hown hE hI hL hS hl
  have hFr : Fr (Ow o) G G := Fr.rf
  have hg0 := hg
  refine lv_aload_n hx hb dX2_init_0 rfl (lv_at hl 0 rfl) ?_
  refine W.objInit hx hb hown (hts _ q97) (hts _ q64) (hts _ q65) rfl (by rw [hml]; exact hl.1) rfl dX2_init_1 (Nat.le_of_ble_eq_true rfl) (Nat.le_of_ble_eq_true rfl) ?_
  refine W.eq (g2 := F0 m 4 ls []) rfl ?_
  refine lv_aload_n hx hb dX2_init_4 rfl (lv_at hl 0 rfl) ?_
  refine lv_iconst (v := -1) hx hb dX2_init_5 (by decide) ?_
  refine g_put (C := RX2) (T := TX2) (N := 9) (v := .int (-1)) (ty := .int) (fs' := [.int 0, .int 0, .int 0, .int 0, .int 0, .int (-1), .int 0, .null, .null]) hx hb hts in_X2 tyX2 tyX2_ok nmX2 hown hE hI hS hL hg rfl 5 (by decide) q112 (fun _ h9 => h9) rfl (by decide +kernel) rfl rfl (Nat.le_of_ble_eq_true rfl) rfl dX2_init_6 (fun H locs hI hS => ?_)
  have hFr : Fr (Ow o) G (gU G con ((o, 0, 0), .inr (1, [.int 0, .int 0, .int 0, .int 0, .int 0, .int (-1), .int 0, .null, .null]))) := Fr.trans hFr (Fr.put (x := ((o, 0, 0), .inr (1, [.int 0, .int 0, .int 0, .int 0, .int 0, .int (-1), .int 0, .null, .null]))) hg rfl)
  have hg : (gU G con ((o, 0, 0), .inr (1, [.int 0, .int 0, .int 0, .int 0, .int 0, .int (-1), .int 0, .null, .null]))) con = some ((o, 0, 0), .inr (1, [.int 0, .int 0, .int 0, .int 0, .int 0, .int (-1), .int 0, .null, .null])) := gU_self
  refine lv_aload_n hx hb dX2_init_9 rfl (lv_at hl 0 rfl) ?_
  have k2 := hg
  refine g_new (C := RJ2) (T := TJ2) (N := 3) (ci := 6) (fs := [.int 0, .null, .int 0]) (o, 1, 0) hx hb hts in_J2 tyJ2 tyJ2_ok hown q98 q67 q34 hE hI hS hL rfl (fun j hj => by rcases (show j = 0 ∨ j = 1 ∨ j = 2 by omega) with rfl | rfl | rfl <;> rfl) (Nat.le_of_ble_eq_true rfl) (Nat.le_of_ble_eq_true rfl) dX2_init_10 (fun ld H hnld hI hS => ?_)
  have ne3 : con ≠ ld := g_fne hnld hg
  have hg := gU_ne (x := ((o, 1, 0), .inr (6, [.int 0, .null, .int 0]))) ne3 hg
  have hFr0 := hFr
  have hFr : Fr (Ow o) G (gU (gU G con ((o, 0, 0), .inr (1, [.int 0, .int 0, .int 0, .int 0, .int 0, .int (-1), .int 0, .null, .null]))) ld ((o, 1, 0), .inr (6, [.int 0, .null, .int 0]))) := Fr.trans hFr (Fr.new (x := ((o, 1, 0), .inr (6, [.int 0, .null, .int 0]))) hnld)
  have h_ld : (gU (gU G con ((o, 0, 0), .inr (1, [.int 0, .int 0, .int 0, .int 0, .int 0, .int (-1), .int 0, .null, .null]))) ld ((o, 1, 0), .inr (6, [.int 0, .null, .int 0]))) ld = some ((o, 1, 0), .inr (6, [.int 0, .null, .int 0])) := gU_self
  refine lv_dup hx hb dX2_init_13 rfl ?_
  refine g_cv0 hS (va_runI (As := []) (rest := [.ref ld, .ref con]) ⟨hx, hb, hml, hown, hts⟩ (m_ALinit l E (gU (gU G con ((o, 0, 0), .inr (1, [.int 0, .int 0, .int 0, .int 0, .int 0, .int (-1), .int 0, .null, .null]))) ld ((o, 1, 0), .inr (6, [.int 0, .null, .int 0]))) ld (o, 1, 0) h_ld) (cwI 0 hts (lw_meth q70) rfl rfl rfl (hts _ q34) (hts _ q99) (hts _ q69) rfl (by decide +kernel) ⟨Nat.le_of_ble_eq_true rfl, Nat.le_of_ble_eq_true rfl⟩) (g_preS hE hI) rfl rfl hl.1 rfl (lv_room (Nat.le_of_ble_eq_true rfl)) dX2_init_14 ⟨Nat.le_of_ble_eq_true rfl, Nat.le_of_ble_eq_true rfl⟩) (fun H locs hI hS => ?_)
  rw [gU_gU] at hI
  have hFr : Fr (Ow o) G (gU (gU G con ((o, 0, 0), .inr (1, [.int 0, .int 0, .int 0, .int 0, .int 0, .int (-1), .int 0, .null, .null]))) ld ((o, 1, 0), aO 0 (eK E 6) 0)) := Fr.trans hFr0 (Fr.new hnld)
  have hg := gU_ne (x := ((o, 1, 0), aO 0 (eK E 6) 0)) ne3 k2
  have h_ld : (gU (gU G con ((o, 0, 0), .inr (1, [.int 0, .int 0, .int 0, .int 0, .int 0, .int (-1), .int 0, .null, .null]))) ld ((o, 1, 0), aO 0 (eK E 6) 0)) ld = some ((o, 1, 0), aO 0 (eK E 6) 0) := gU_self
  refine g_putF (C := RX2) (T := TX2) (N := 9) (v := .ref ld) (ty := .object "java/util/ArrayList") (fs' := [.int 0, .int 0, .int 0, .int 0, .int 0, .int (-1), .int 0, .ref ld, .null]) hx hb hts in_X2 tyX2 tyX2_ok nmX2 hown hE hI hS hL hg rfl 7 (by decide) q118 (fun _ h9 => h9) rfl hin rfl (by decide +kernel) rfl rfl (Nat.le_of_ble_eq_true rfl) rfl dX2_init_17 (fun H locs hI hS => ?_)
  have h_ld := gU_ne (x := ((o, 0, 0), .inr (1, [.int 0, .int 0, .int 0, .int 0, .int 0, .int (-1), .int 0, .ref ld, .null]))) ne3.symm h_ld
  have hFr : Fr (Ow o) G (gU (gU (gU G con ((o, 0, 0), .inr (1, [.int 0, .int 0, .int 0, .int 0, .int 0, .int (-1), .int 0, .null, .null]))) ld ((o, 1, 0), aO 0 (eK E 6) 0)) con ((o, 0, 0), .inr (1, [.int 0, .int 0, .int 0, .int 0, .int 0, .int (-1), .int 0, .ref ld, .null]))) := Fr.trans hFr (Fr.put (x := ((o, 0, 0), .inr (1, [.int 0, .int 0, .int 0, .int 0, .int 0, .int (-1), .int 0, .ref ld, .null]))) hg rfl)
  have hg : (gU (gU (gU G con ((o, 0, 0), .inr (1, [.int 0, .int 0, .int 0, .int 0, .int 0, .int (-1), .int 0, .null, .null]))) ld ((o, 1, 0), aO 0 (eK E 6) 0)) con ((o, 0, 0), .inr (1, [.int 0, .int 0, .int 0, .int 0, .int 0, .int (-1), .int 0, .ref ld, .null]))) con = some ((o, 0, 0), .inr (1, [.int 0, .int 0, .int 0, .int 0, .int 0, .int (-1), .int 0, .ref ld, .null])) := gU_self
  refine lv_aload_n hx hb dX2_init_20 rfl (lv_at hl 0 rfl) ?_
  have k5 := hg
  have k6 := h_ld
  refine g_new (C := RJ2) (T := TJ2) (N := 3) (ci := 6) (fs := [.int 0, .null, .int 0]) (o, 3, 0) hx hb hts in_J2 tyJ2 tyJ2_ok hown q98 q67 q34 hE hI hS hL rfl (fun j hj => by rcases (show j = 0 ∨ j = 1 ∨ j = 2 by omega) with rfl | rfl | rfl <;> rfl) (Nat.le_of_ble_eq_true rfl) (Nat.le_of_ble_eq_true rfl) dX2_init_21 (fun lc H hnlc hI hS => ?_)
  have ne7 : con ≠ lc := g_fne hnlc hg
  have hg := gU_ne (x := ((o, 3, 0), .inr (6, [.int 0, .null, .int 0]))) ne7 hg
  have ne8 : ld ≠ lc := g_fne hnlc h_ld
  have h_ld := gU_ne (x := ((o, 3, 0), .inr (6, [.int 0, .null, .int 0]))) ne8 h_ld
  have hFr0 := hFr
  have hFr : Fr (Ow o) G (gU (gU (gU (gU G con ((o, 0, 0), .inr (1, [.int 0, .int 0, .int 0, .int 0, .int 0, .int (-1), .int 0, .null, .null]))) ld ((o, 1, 0), aO 0 (eK E 6) 0)) con ((o, 0, 0), .inr (1, [.int 0, .int 0, .int 0, .int 0, .int 0, .int (-1), .int 0, .ref ld, .null]))) lc ((o, 3, 0), .inr (6, [.int 0, .null, .int 0]))) := Fr.trans hFr (Fr.new (x := ((o, 3, 0), .inr (6, [.int 0, .null, .int 0]))) hnlc)
  have h_lc : (gU (gU (gU (gU G con ((o, 0, 0), .inr (1, [.int 0, .int 0, .int 0, .int 0, .int 0, .int (-1), .int 0, .null, .null]))) ld ((o, 1, 0), aO 0 (eK E 6) 0)) con ((o, 0, 0), .inr (1, [.int 0, .int 0, .int 0, .int 0, .int 0, .int (-1), .int 0, .ref ld, .null]))) lc ((o, 3, 0), .inr (6, [.int 0, .null, .int 0]))) lc = some ((o, 3, 0), .inr (6, [.int 0, .null, .int 0])) := gU_self
  refine lv_dup hx hb dX2_init_24 rfl ?_
  refine g_cv0 hS (va_runI (As := []) (rest := [.ref lc, .ref con]) ⟨hx, hb, hml, hown, hts⟩ (m_ALinit l E (gU (gU (gU (gU G con ((o, 0, 0), .inr (1, [.int 0, .int 0, .int 0, .int 0, .int 0, .int (-1), .int 0, .null, .null]))) ld ((o, 1, 0), aO 0 (eK E 6) 0)) con ((o, 0, 0), .inr (1, [.int 0, .int 0, .int 0, .int 0, .int 0, .int (-1), .int 0, .ref ld, .null]))) lc ((o, 3, 0), .inr (6, [.int 0, .null, .int 0]))) lc (o, 3, 0) h_lc) (cwI 0 hts (lw_meth q70) rfl rfl rfl (hts _ q34) (hts _ q99) (hts _ q69) rfl (by decide +kernel) ⟨Nat.le_of_ble_eq_true rfl, Nat.le_of_ble_eq_true rfl⟩) (g_preS hE hI) rfl rfl hl.1 rfl (lv_room (Nat.le_of_ble_eq_true rfl)) dX2_init_25 ⟨Nat.le_of_ble_eq_true rfl, Nat.le_of_ble_eq_true rfl⟩) (fun H locs hI hS => ?_)
  rw [gU_gU] at hI
  have hFr : Fr (Ow o) G (gU (gU (gU (gU G con ((o, 0, 0), .inr (1, [.int 0, .int 0, .int 0, .int 0, .int 0, .int (-1), .int 0, .null, .null]))) ld ((o, 1, 0), aO 0 (eK E 6) 0)) con ((o, 0, 0), .inr (1, [.int 0, .int 0, .int 0, .int 0, .int 0, .int (-1), .int 0, .ref ld, .null]))) lc ((o, 3, 0), aO 0 (eK E 6) 0)) := Fr.trans hFr0 (Fr.new hnlc)
  have hg := gU_ne (x := ((o, 3, 0), aO 0 (eK E 6) 0)) ne7 k5
  have h_ld := gU_ne (x := ((o, 3, 0), aO 0 (eK E 6) 0)) ne8 k6
  have h_lc : (gU (gU (gU (gU G con ((o, 0, 0), .inr (1, [.int 0, .int 0, .int 0, .int 0, .int 0, .int (-1), .int 0, .null, .null]))) ld ((o, 1, 0), aO 0 (eK E 6) 0)) con ((o, 0, 0), .inr (1, [.int 0, .int 0, .int 0, .int 0, .int 0, .int (-1), .int 0, .ref ld, .null]))) lc ((o, 3, 0), aO 0 (eK E 6) 0)) lc = some ((o, 3, 0), aO 0 (eK E 6) 0) := gU_self
  refine g_putF (C := RX2) (T := TX2) (N := 9) (v := .ref lc) (ty := .object "java/util/ArrayList") (fs' := [.int 0, .int 0, .int 0, .int 0, .int 0, .int (-1), .int 0, .ref ld, .ref lc]) hx hb hts in_X2 tyX2 tyX2_ok nmX2 hown hE hI hS hL hg rfl 8 (by decide) q121 (fun _ h9 => h9) rfl hin rfl (by decide +kernel) rfl rfl (Nat.le_of_ble_eq_true rfl) rfl dX2_init_28 (fun H locs hI hS => ?_)
  have h_ld := gU_ne (x := ((o, 0, 0), .inr (1, [.int 0, .int 0, .int 0, .int 0, .int 0, .int (-1), .int 0, .ref ld, .ref lc]))) ne3.symm h_ld
  have h_lc := gU_ne (x := ((o, 0, 0), .inr (1, [.int 0, .int 0, .int 0, .int 0, .int 0, .int (-1), .int 0, .ref ld, .ref lc]))) ne7.symm h_lc
  have hFr : Fr (Ow o) G (gU (gU (gU (gU (gU G con ((o, 0, 0), .inr (1, [.int 0, .int 0, .int 0, .int 0, .int 0, .int (-1), .int 0, .null, .null]))) ld ((o, 1, 0), aO 0 (eK E 6) 0)) con ((o, 0, 0), .inr (1, [.int 0, .int 0, .int 0, .int 0, .int 0, .int (-1), .int 0, .ref ld, .null]))) lc ((o, 3, 0), aO 0 (eK E 6) 0)) con ((o, 0, 0), .inr (1, [.int 0, .int 0, .int 0, .int 0, .int 0, .int (-1), .int 0, .ref ld, .ref lc]))) := Fr.trans hFr (Fr.put (x := ((o, 0, 0), .inr (1, [.int 0, .int 0, .int 0, .int 0, .int 0, .int (-1), .int 0, .ref ld, .ref lc]))) hg rfl)
  have hg : (gU (gU (gU (gU (gU G con ((o, 0, 0), .inr (1, [.int 0, .int 0, .int 0, .int 0, .int 0, .int (-1), .int 0, .null, .null]))) ld ((o, 1, 0), aO 0 (eK E 6) 0)) con ((o, 0, 0), .inr (1, [.int 0, .int 0, .int 0, .int 0, .int 0, .int (-1), .int 0, .ref ld, .null]))) lc ((o, 3, 0), aO 0 (eK E 6) 0)) con ((o, 0, 0), .inr (1, [.int 0, .int 0, .int 0, .int 0, .int 0, .int (-1), .int 0, .ref ld, .ref lc]))) con = some ((o, 0, 0), .inr (1, [.int 0, .int 0, .int 0, .int 0, .int 0, .int (-1), .int 0, .ref ld, .ref lc])) := gU_self
  exact g_vret hx hb hr hlk hI hS dX2_init_31 (Nat.le_of_ble_eq_true rfl) (Nat.le_of_ble_eq_true rfl) (⟨ld, lc, ⟨hg, ⟨_, LRep.nil h_ld⟩, ⟨_, LRep.nil h_lc⟩, fun k hk => absurd hk (Nat.not_lt_zero k), fun k hk => absurd hk (Nat.not_lt_zero k)⟩, hFr⟩)
set_option maxHeartbeats 4000000 in
set_option maxRecDepth 100000 in
theorem m_Ccopy (l : Launch) (E : EnvT) (G : Gh) (o : Nat) (A : CA) (w : Cn) (hR : CRep E G o A w) (o2 : Nat) (hoo : o ≠ o2) (hnd : w.2.1.1 ≤ 8) (hnc : w.2.2.1 ≤ 12) (hrn : w.1.2.2.1 = 0 ∨ w.1.2.2.1 = 1) : Met l yX2_copy (ws_ yX2_copy cX2_copy 3 (some (.object "StarConsole$Console"))) ({ frames := 7, cells := 3 + 2 * w.2.1.1 + 2 * w.2.2.1, slots := 15 + 41 * w.2.1.1 + 39 * w.2.2.1, locals := 171 } : Room) (cP E G [.ref A.1]) (cR E (fun r G' => ∃ A2 : CA, A2.1 = r ∧ CRep E G' o2 A2 w ∧ Fr (Ow o2) G G')) (3 + 2 * w.2.1.1 + 2 * w.2.2.1) (15 + 41 * w.2.1.1 + 39 * w.2.2.1) (eA E) := by
  obtain ⟨con, ld, lc, dA, kA⟩ := A
  obtain ⟨⟨tk, ck, rn, an, sp, ln, lf⟩, ⟨nd, dm⟩, ⟨nc, km⟩⟩ := w
  refine g_met (av := [.ref con]) (lv := [(0, .ref con)]) (by decide) (Nat.le_of_ble_eq_true rfl) rfl ?_
  intro p e s m below meth c ls hx hb hr hlk hml hin hts hown hE hI hL hS hl
  have hR0 := hR
  obtain ⟨hcon, ⟨ed, hld⟩, ⟨ec, hlc⟩, hd, hk⟩ := hR0
  have hcon : G con = some ((o, 0, 0), coO tk ck rn an sp ln lf ld lc) := hcon
  have hld : LRep E G (o, 1, 0) (o, 2, 0) ld ed nd dA := hld
  have hlc : LRep E G (o, 3, 0) (o, 4, 0) lc ec nc kA := hlc
  have hd : ∀ k, k < nd → G (dA k) = some ((o, 5, k), dOt (dm k)) := hd
  have hk : ∀ k, k < nc → G (kA k) = some ((o, 6, k), kOt (km k)) := hk
  have hn1 : nd ≤ 36 := hld.n36
  have hn2 : nc ≤ 36 := hlc.n36
  have hnd : nd ≤ 8 := hnd
  have hnc : nc ≤ 12 := hnc
  have hrn : rn = 0 ∨ rn = 1 := hrn
  have zn : narrow .boolean (.int rn) = .int rn := by rcases hrn with z | z <;> rw [z] <;> rfl
  have zf : fits .boolean (.int rn) = true := by rcases hrn with z | z <;> rw [z] <;> rfl
  refine g_new (C := RX2) (T := TX2) (N := 9) (ci := 1) (fs := [.int 0, .int 0, .int 0, .int 0, .int 0, .int 0, .int 0, .null, .null]) (o2, 0, 0) hx hb hts in_X2 tyX2 tyX2_ok hown q812 q93 q35 hE hI hS hL rfl (fun j hj => by rcases (show j = 0 ∨ j = 1 ∨ j = 2 ∨ j = 3 ∨ j = 4 ∨ j = 5 ∨ j = 6 ∨ j = 7 ∨ j = 8 by omega) with rfl | rfl | rfl | rfl | rfl | rfl | rfl | rfl | rfl <;> rfl) ((by show _ ≤ 3 + 2 * nd + 2 * nc; omega)) ((by show _ ≤ 15 + 41 * nd + 39 * nc; omega)) dX2_copy_0 (fun c2 H hnc2 hI hS => ?_)
  have ne1 : con ≠ c2 := g_fne hnc2 hcon
  have hcon := gU_ne (x := ((o2, 0, 0), .inr (1, [.int 0, .int 0, .int 0, .int 0, .int 0, .int 0, .int 0, .null, .null]))) ne1 hcon
  have h_c2 : (gU G c2 ((o2, 0, 0), .inr (1, [.int 0, .int 0, .int 0, .int 0, .int 0, .int 0, .int 0, .null, .null]))) c2 = some ((o2, 0, 0), .inr (1, [.int 0, .int 0, .int 0, .int 0, .int 0, .int 0, .int 0, .null, .null])) := gU_self
  refine lv_dup hx hb dX2_copy_3 rfl ?_
  refine g_cv hS (va_runI (As := []) (rest := [.ref c2]) ⟨hx, hb, hml, hown, hts⟩ (m_Cinit l E (gU G c2 ((o2, 0, 0), .inr (1, [.int 0, .int 0, .int 0, .int 0, .int 0, .int 0, .int 0, .null, .null]))) o2 c2 dA kA dm km h_c2) (cwI 0 hts (lw_meth q96) rfl rfl rfl (hts _ q35) (hts _ q813) (hts _ q95) rfl (by decide +kernel) ⟨Nat.le_of_ble_eq_true rfl, Nat.le_of_ble_eq_true rfl⟩) (g_preS hE hI) rfl rfl hl.1 rfl (lv_room (Nat.le_of_ble_eq_true rfl)) dX2_copy_4 ⟨(by show _ ≤ 3 + 2 * nd + 2 * nc; omega), (by show _ ≤ 15 + 41 * nd + 39 * nc; omega)⟩) (fun G1 H locs hp hI hS => ?_)
  obtain ⟨ld2, lc2, hC2, hF2⟩ := hp
  have hF1 : Fr (Ow o2) G G1 := Fr.trans (Fr.new hnc2) hF2
  have hR1 := hR.fr hF1 (Ow.ne hoo)
  have hcon : G1 con = some ((o, 0, 0), coO tk ck rn an sp ln lf ld lc) := hR1.1
  have hc2 : G1 c2 = some ((o2, 0, 0), coO 0 0 0 0 0 (-1) 0 ld2 lc2) := hC2.1
  refine lv_astore_n (lv' := [(1, .ref c2), (0, .ref con)]) hx hb dX2_copy_7 rfl hl (by decide) rfl (fun ls hl => ?_)
  refine lv_aload_n hx hb dX2_copy_8 rfl (lv_at hl 0 rfl) ?_
  refine lv_aload_n hx hb dX2_copy_9 rfl (lv_at hl 1 rfl) ?_
  refine g_get (C := RX2) (T := TX2) (N := 9) (v := .int tk) hx hb hts in_X2 hown hE hI hcon rfl 0 (by decide) q100 (fun _ h9 => h9) rfl dX2_copy_10 ?_
  refine g_put (C := RX2) (T := TX2) (N := 9) (v := .int tk) (ty := .int) (fs' := [.int tk, .int 0, .int 0, .int 0, .int 0, .int (-1), .int 0, .ref ld2, .ref lc2]) hx hb hts in_X2 tyX2 tyX2_ok nmX2 hown hE hI hS hL hc2 rfl 0 (by decide) q100 (fun _ h9 => h9) rfl (by decide +kernel) rfl rfl (Nat.le_of_ble_eq_true rfl) rfl dX2_copy_13 (fun H locs hI hS => ?_)
  have hcon := gU_o (x := ((o2, 0, 0), .inr (1, [.int tk, .int 0, .int 0, .int 0, .int 0, .int (-1), .int 0, .ref ld2, .ref lc2]))) hc2 hcon (by simp [hoo])
  have hc2 : (gU G1 c2 ((o2, 0, 0), .inr (1, [.int tk, .int 0, .int 0, .int 0, .int 0, .int (-1), .int 0, .ref ld2, .ref lc2]))) c2 = some ((o2, 0, 0), .inr (1, [.int tk, .int 0, .int 0, .int 0, .int 0, .int (-1), .int 0, .ref ld2, .ref lc2])) := gU_self
  refine lv_aload_n hx hb dX2_copy_16 rfl (lv_at hl 0 rfl) ?_
  refine lv_aload_n hx hb dX2_copy_17 rfl (lv_at hl 1 rfl) ?_
  refine g_get (C := RX2) (T := TX2) (N := 9) (v := .int ck) hx hb hts in_X2 hown hE hI hcon rfl 1 (by decide) q102 (fun _ h9 => h9) rfl dX2_copy_18 ?_
  refine g_put (C := RX2) (T := TX2) (N := 9) (v := .int ck) (ty := .int) (fs' := [.int tk, .int ck, .int 0, .int 0, .int 0, .int (-1), .int 0, .ref ld2, .ref lc2]) hx hb hts in_X2 tyX2 tyX2_ok nmX2 hown hE hI hS hL hc2 rfl 1 (by decide) q102 (fun _ h9 => h9) rfl (by decide +kernel) rfl rfl (Nat.le_of_ble_eq_true rfl) rfl dX2_copy_21 (fun H locs hI hS => ?_)
  have hcon := gU_o (x := ((o2, 0, 0), .inr (1, [.int tk, .int ck, .int 0, .int 0, .int 0, .int (-1), .int 0, .ref ld2, .ref lc2]))) hc2 hcon (by simp [hoo])
  have hc2 : (gU (gU G1 c2 ((o2, 0, 0), .inr (1, [.int tk, .int 0, .int 0, .int 0, .int 0, .int (-1), .int 0, .ref ld2, .ref lc2]))) c2 ((o2, 0, 0), .inr (1, [.int tk, .int ck, .int 0, .int 0, .int 0, .int (-1), .int 0, .ref ld2, .ref lc2]))) c2 = some ((o2, 0, 0), .inr (1, [.int tk, .int ck, .int 0, .int 0, .int 0, .int (-1), .int 0, .ref ld2, .ref lc2])) := gU_self
  refine lv_aload_n hx hb dX2_copy_24 rfl (lv_at hl 0 rfl) ?_
  refine lv_aload_n hx hb dX2_copy_25 rfl (lv_at hl 1 rfl) ?_
  refine g_get (C := RX2) (T := TX2) (N := 9) (v := .int rn) hx hb hts in_X2 hown hE hI hcon rfl 2 (by decide) q104 (fun _ h9 => h9) rfl dX2_copy_26 ?_
  refine g_put (C := RX2) (T := TX2) (N := 9) (v := .int rn) (ty := .boolean) (fs' := [.int tk, .int ck, .int rn, .int 0, .int 0, .int (-1), .int 0, .ref ld2, .ref lc2]) hx hb hts in_X2 tyX2 tyX2_ok nmX2 hown hE hI hS hL hc2 rfl 2 (by decide) q104 (fun _ h9 => h9) rfl (by decide +kernel) zn zf (Nat.le_of_ble_eq_true rfl) rfl dX2_copy_29 (fun H locs hI hS => ?_)
  have hcon := gU_o (x := ((o2, 0, 0), .inr (1, [.int tk, .int ck, .int rn, .int 0, .int 0, .int (-1), .int 0, .ref ld2, .ref lc2]))) hc2 hcon (by simp [hoo])
  have hc2 : (gU (gU (gU G1 c2 ((o2, 0, 0), .inr (1, [.int tk, .int 0, .int 0, .int 0, .int 0, .int (-1), .int 0, .ref ld2, .ref lc2]))) c2 ((o2, 0, 0), .inr (1, [.int tk, .int ck, .int 0, .int 0, .int 0, .int (-1), .int 0, .ref ld2, .ref lc2]))) c2 ((o2, 0, 0), .inr (1, [.int tk, .int ck, .int rn, .int 0, .int 0, .int (-1), .int 0, .ref ld2, .ref lc2]))) c2 = some ((o2, 0, 0), .inr (1, [.int tk, .int ck, .int rn, .int 0, .int 0, .int (-1), .int 0, .ref ld2, .ref lc2])) := gU_self
  refine lv_aload_n hx hb dX2_copy_32 rfl (lv_at hl 0 rfl) ?_
  refine lv_aload_n hx hb dX2_copy_33 rfl (lv_at hl 1 rfl) ?_
  refine g_get (C := RX2) (T := TX2) (N := 9) (v := .int an) hx hb hts in_X2 hown hE hI hcon rfl 3 (by decide) q107 (fun _ h9 => h9) rfl dX2_copy_34 ?_
  refine g_put (C := RX2) (T := TX2) (N := 9) (v := .int an) (ty := .int) (fs' := [.int tk, .int ck, .int rn, .int an, .int 0, .int (-1), .int 0, .ref ld2, .ref lc2]) hx hb hts in_X2 tyX2 tyX2_ok nmX2 hown hE hI hS hL hc2 rfl 3 (by decide) q107 (fun _ h9 => h9) rfl (by decide +kernel) rfl rfl (Nat.le_of_ble_eq_true rfl) rfl dX2_copy_37 (fun H locs hI hS => ?_)
  have hcon := gU_o (x := ((o2, 0, 0), .inr (1, [.int tk, .int ck, .int rn, .int an, .int 0, .int (-1), .int 0, .ref ld2, .ref lc2]))) hc2 hcon (by simp [hoo])
  have hc2 : (gU (gU (gU (gU G1 c2 ((o2, 0, 0), .inr (1, [.int tk, .int 0, .int 0, .int 0, .int 0, .int (-1), .int 0, .ref ld2, .ref lc2]))) c2 ((o2, 0, 0), .inr (1, [.int tk, .int ck, .int 0, .int 0, .int 0, .int (-1), .int 0, .ref ld2, .ref lc2]))) c2 ((o2, 0, 0), .inr (1, [.int tk, .int ck, .int rn, .int 0, .int 0, .int (-1), .int 0, .ref ld2, .ref lc2]))) c2 ((o2, 0, 0), .inr (1, [.int tk, .int ck, .int rn, .int an, .int 0, .int (-1), .int 0, .ref ld2, .ref lc2]))) c2 = some ((o2, 0, 0), .inr (1, [.int tk, .int ck, .int rn, .int an, .int 0, .int (-1), .int 0, .ref ld2, .ref lc2])) := gU_self
  refine lv_aload_n hx hb dX2_copy_40 rfl (lv_at hl 0 rfl) ?_
  refine lv_aload_n hx hb dX2_copy_41 rfl (lv_at hl 1 rfl) ?_
  refine g_get (C := RX2) (T := TX2) (N := 9) (v := .int sp) hx hb hts in_X2 hown hE hI hcon rfl 4 (by decide) q109 (fun _ h9 => h9) rfl dX2_copy_42 ?_
  refine g_put (C := RX2) (T := TX2) (N := 9) (v := .int sp) (ty := .int) (fs' := [.int tk, .int ck, .int rn, .int an, .int sp, .int (-1), .int 0, .ref ld2, .ref lc2]) hx hb hts in_X2 tyX2 tyX2_ok nmX2 hown hE hI hS hL hc2 rfl 4 (by decide) q109 (fun _ h9 => h9) rfl (by decide +kernel) rfl rfl (Nat.le_of_ble_eq_true rfl) rfl dX2_copy_45 (fun H locs hI hS => ?_)
  have hcon := gU_o (x := ((o2, 0, 0), .inr (1, [.int tk, .int ck, .int rn, .int an, .int sp, .int (-1), .int 0, .ref ld2, .ref lc2]))) hc2 hcon (by simp [hoo])
  have hc2 : (gU (gU (gU (gU (gU G1 c2 ((o2, 0, 0), .inr (1, [.int tk, .int 0, .int 0, .int 0, .int 0, .int (-1), .int 0, .ref ld2, .ref lc2]))) c2 ((o2, 0, 0), .inr (1, [.int tk, .int ck, .int 0, .int 0, .int 0, .int (-1), .int 0, .ref ld2, .ref lc2]))) c2 ((o2, 0, 0), .inr (1, [.int tk, .int ck, .int rn, .int 0, .int 0, .int (-1), .int 0, .ref ld2, .ref lc2]))) c2 ((o2, 0, 0), .inr (1, [.int tk, .int ck, .int rn, .int an, .int 0, .int (-1), .int 0, .ref ld2, .ref lc2]))) c2 ((o2, 0, 0), .inr (1, [.int tk, .int ck, .int rn, .int an, .int sp, .int (-1), .int 0, .ref ld2, .ref lc2]))) c2 = some ((o2, 0, 0), .inr (1, [.int tk, .int ck, .int rn, .int an, .int sp, .int (-1), .int 0, .ref ld2, .ref lc2])) := gU_self
  refine lv_aload_n hx hb dX2_copy_48 rfl (lv_at hl 0 rfl) ?_
  refine lv_aload_n hx hb dX2_copy_49 rfl (lv_at hl 1 rfl) ?_
  refine g_get (C := RX2) (T := TX2) (N := 9) (v := .int ln) hx hb hts in_X2 hown hE hI hcon rfl 5 (by decide) q112 (fun _ h9 => h9) rfl dX2_copy_50 ?_
  refine g_put (C := RX2) (T := TX2) (N := 9) (v := .int ln) (ty := .int) (fs' := [.int tk, .int ck, .int rn, .int an, .int sp, .int ln, .int 0, .ref ld2, .ref lc2]) hx hb hts in_X2 tyX2 tyX2_ok nmX2 hown hE hI hS hL hc2 rfl 5 (by decide) q112 (fun _ h9 => h9) rfl (by decide +kernel) rfl rfl (Nat.le_of_ble_eq_true rfl) rfl dX2_copy_53 (fun H locs hI hS => ?_)
  have hcon := gU_o (x := ((o2, 0, 0), .inr (1, [.int tk, .int ck, .int rn, .int an, .int sp, .int ln, .int 0, .ref ld2, .ref lc2]))) hc2 hcon (by simp [hoo])
  have hc2 : (gU (gU (gU (gU (gU (gU G1 c2 ((o2, 0, 0), .inr (1, [.int tk, .int 0, .int 0, .int 0, .int 0, .int (-1), .int 0, .ref ld2, .ref lc2]))) c2 ((o2, 0, 0), .inr (1, [.int tk, .int ck, .int 0, .int 0, .int 0, .int (-1), .int 0, .ref ld2, .ref lc2]))) c2 ((o2, 0, 0), .inr (1, [.int tk, .int ck, .int rn, .int 0, .int 0, .int (-1), .int 0, .ref ld2, .ref lc2]))) c2 ((o2, 0, 0), .inr (1, [.int tk, .int ck, .int rn, .int an, .int 0, .int (-1), .int 0, .ref ld2, .ref lc2]))) c2 ((o2, 0, 0), .inr (1, [.int tk, .int ck, .int rn, .int an, .int sp, .int (-1), .int 0, .ref ld2, .ref lc2]))) c2 ((o2, 0, 0), .inr (1, [.int tk, .int ck, .int rn, .int an, .int sp, .int ln, .int 0, .ref ld2, .ref lc2]))) c2 = some ((o2, 0, 0), .inr (1, [.int tk, .int ck, .int rn, .int an, .int sp, .int ln, .int 0, .ref ld2, .ref lc2])) := gU_self
  refine lv_aload_n hx hb dX2_copy_56 rfl (lv_at hl 0 rfl) ?_
  refine lv_aload_n hx hb dX2_copy_57 rfl (lv_at hl 1 rfl) ?_
  refine g_get (C := RX2) (T := TX2) (N := 9) (v := .int lf) hx hb hts in_X2 hown hE hI hcon rfl 6 (by decide) q115 (fun _ h9 => h9) rfl dX2_copy_58 ?_
  refine g_put (C := RX2) (T := TX2) (N := 9) (v := .int lf) (ty := .int) (fs' := [.int tk, .int ck, .int rn, .int an, .int sp, .int ln, .int lf, .ref ld2, .ref lc2]) hx hb hts in_X2 tyX2 tyX2_ok nmX2 hown hE hI hS hL hc2 rfl 6 (by decide) q115 (fun _ h9 => h9) rfl (by decide +kernel) rfl rfl (Nat.le_of_ble_eq_true rfl) rfl dX2_copy_61 (fun H locs hI hS => ?_)
  have hcon := gU_o (x := ((o2, 0, 0), .inr (1, [.int tk, .int ck, .int rn, .int an, .int sp, .int ln, .int lf, .ref ld2, .ref lc2]))) hc2 hcon (by simp [hoo])
  have hc2 : (gU (gU (gU (gU (gU (gU (gU G1 c2 ((o2, 0, 0), .inr (1, [.int tk, .int 0, .int 0, .int 0, .int 0, .int (-1), .int 0, .ref ld2, .ref lc2]))) c2 ((o2, 0, 0), .inr (1, [.int tk, .int ck, .int 0, .int 0, .int 0, .int (-1), .int 0, .ref ld2, .ref lc2]))) c2 ((o2, 0, 0), .inr (1, [.int tk, .int ck, .int rn, .int 0, .int 0, .int (-1), .int 0, .ref ld2, .ref lc2]))) c2 ((o2, 0, 0), .inr (1, [.int tk, .int ck, .int rn, .int an, .int 0, .int (-1), .int 0, .ref ld2, .ref lc2]))) c2 ((o2, 0, 0), .inr (1, [.int tk, .int ck, .int rn, .int an, .int sp, .int (-1), .int 0, .ref ld2, .ref lc2]))) c2 ((o2, 0, 0), .inr (1, [.int tk, .int ck, .int rn, .int an, .int sp, .int ln, .int 0, .ref ld2, .ref lc2]))) c2 ((o2, 0, 0), .inr (1, [.int tk, .int ck, .int rn, .int an, .int sp, .int ln, .int lf, .ref ld2, .ref lc2]))) c2 = some ((o2, 0, 0), .inr (1, [.int tk, .int ck, .int rn, .int an, .int sp, .int ln, .int lf, .ref ld2, .ref lc2])) := gU_self
  simp only [gU_gU] at hI
  have hz := hC2.setC (tk, ck, rn, an, sp, ln, lf)
  have hz1 : CRep E (gU G1 c2 ((o2, 0, 0), coO tk ck rn an sp ln lf ld2 lc2)) o2 (c2, ld2, lc2, dA, kA) ((tk, ck, rn, an, sp, ln, lf), (0, dm), (0, km)) := hz.1
  have hF3 : Fr (Ow o2) G (gU G1 c2 ((o2, 0, 0), coO tk ck rn an sp ln lf ld2 lc2)) := Fr.trans hF1 hz.2
  refine lv_iconst (v := 0) hx hb dX2_copy_64 (by decide) ?_
  refine lv_istore_n (lv' := [(2, .int 0), (1, .ref c2), (0, .ref con)]) hx hb dX2_copy_65 rfl hl (by decide) rfl (fun ls hl => ?_)
  refine W.widen (k := 3 + 2 * 0) (n := 15 + 41 * 0) (by omega) (by omega) ?_
  refine g_loop3 (A1 := Nat) (A2 := Gh) (A3 := (Nat → Nat)) (fun i Gi dB H locs ls => i ≤ nd ∧ CRep E Gi o2 (c2, ld2, lc2, dB, kA) ((tk, ck, rn, an, sp, ln, lf), (i, dm), (0, km)) ∧ Fr (Ow o2) G Gi ∧ Inv E Gi H ∧ va_S (eA E) s.heap H locs ∧ lv_has ls 3 [(0, .ref con), (1, .ref c2), (2, .int (nI i))]) (fun i Gi dB => 3 + 2 * i) (fun i Gi dB => 15 + 41 * i) (fun i Gi dB => nd - i) ?_ 0 (gU G1 c2 ((o2, 0, 0), coO tk ck rn an sp ln lf ld2 lc2)) dA _ _ _ ⟨Nat.zero_le _, hz1, hF3, hI, hS, lv_sub hl [2, 1, 0] rfl⟩
  intro i Gi dB ih9 H locs ls hst
  obtain ⟨hi, hCr, hFr, hI, hS, hl⟩ := hst
  have hRi := hR.fr hFr (Ow.ne hoo)
  have hRq := hRi
  obtain ⟨hcon, ⟨ed, hld⟩, ⟨ec, hlc⟩, hd, hk⟩ := hRq
  have hcon : Gi con = some ((o, 0, 0), coO tk ck rn an sp ln lf ld lc) := hcon
  have hld : LRep E Gi (o, 1, 0) (o, 2, 0) ld ed nd dA := hld
  have hlc : LRep E Gi (o, 3, 0) (o, 4, 0) lc ec nc kA := hlc
  have hd : ∀ k, k < nd → Gi (dA k) = some ((o, 5, k), dOt (dm k)) := hd
  have hk : ∀ k, k < nc → Gi (kA k) = some ((o, 6, k), kOt (km k)) := hk
  have hc2 : Gi c2 = some ((o2, 0, 0), coO tk ck rn an sp ln lf ld2 lc2) := hCr.1
  refine lv_iload_n hx hb dX2_copy_66 rfl (lv_at hl 2 rfl) ?_
  refine lv_aload_n hx hb dX2_copy_67 rfl (lv_at hl 0 rfl) ?_
  refine g_get (C := RX2) (T := TX2) (N := 9) (v := .ref ld) hx hb hts in_X2 hown hE hI hcon rfl 7 (by decide) q118 (fun _ h9 => h9) rfl dX2_copy_68 ?_
  refine g_ci0 (G := Gi) (v := nI nd) hS (va_runV (As := []) (rest := [.int (nI i)]) ⟨hx, hb, hml, hown, hts⟩ (m_size l E Gi (o, 1, 0) (o, 2, 0) ld ed nd dA hld) (cwV 0 hts (lw_V q192 q162 q163 q34 q164) rfl rfl rfl (by decide +kernel) ⟨Nat.le_of_ble_eq_true rfl, Nat.le_of_ble_eq_true rfl⟩) (g_preV hE hI (hld.recv hE hI)) rfl rfl hl.1 rfl (lv_room (Nat.le_of_ble_eq_true rfl)) dX2_copy_71 ⟨(by show _ ≤ 3 + 2 * nd + 2 * nc; omega), (by show _ ≤ 15 + 41 * nd + 39 * nc; omega)⟩) (fun H locs hI hS => ?_)
  refine lv_icmp_ge (tgt := 105) hx hb dX2_copy_74 (by decide) (fun c1 => ?_) (fun c1 => ?_)
  · have ei : i = nd := (Nat.lt_or_ge i nd).elim (fun z => absurd c1 (nI_ge z (by omega))) (fun z => by omega)
    subst ei
    refine lv_iconst (v := 0) hx hb dX2_copy_105 (by decide) ?_
    refine lv_istore_n (lv' := [(2, .int 0), (0, .ref con), (1, .ref c2)]) hx hb dX2_copy_106 rfl hl (by decide) rfl (fun ls hl => ?_)
    refine W.widen (k := 3 + 2 * i + 2 * 0) (n := 15 + 41 * i + 39 * 0) (by omega) (by omega) ?_
    refine g_loop3 (A1 := Nat) (A2 := Gh) (A3 := (Nat → Nat)) (fun j Gj kB H locs ls => j ≤ nc ∧ CRep E Gj o2 (c2, ld2, lc2, dB, kB) ((tk, ck, rn, an, sp, ln, lf), (i, dm), (j, km)) ∧ Fr (Ow o2) G Gj ∧ Inv E Gj H ∧ va_S (eA E) s.heap H locs ∧ lv_has ls 3 [(0, .ref con), (1, .ref c2), (2, .int (nI j))]) (fun j Gj kB => 3 + 2 * i + 2 * j) (fun j Gj kB => 15 + 41 * i + 39 * j) (fun j Gj kB => nc - j) ?_ 0 Gi kA _ _ _ ⟨Nat.zero_le _, hCr, hFr, hI, hS, lv_sub hl [1, 2, 0] rfl⟩
    intro j Gj kB ih10 H locs ls hst
    obtain ⟨hj, hCr, hFr, hI, hS, hl⟩ := hst
    have hRj := hR.fr hFr (Ow.ne hoo)
    have hRq := hRj
    obtain ⟨hcon, ⟨ed, hld⟩, ⟨ec, hlc⟩, hd, hk⟩ := hRq
    have hcon : Gj con = some ((o, 0, 0), coO tk ck rn an sp ln lf ld lc) := hcon
    have hld : LRep E Gj (o, 1, 0) (o, 2, 0) ld ed i dA := hld
    have hlc : LRep E Gj (o, 3, 0) (o, 4, 0) lc ec nc kA := hlc
    have hd : ∀ k, k < i → Gj (dA k) = some ((o, 5, k), dOt (dm k)) := hd
    have hk : ∀ k, k < nc → Gj (kA k) = some ((o, 6, k), kOt (km k)) := hk
    have hc2 : Gj c2 = some ((o2, 0, 0), coO tk ck rn an sp ln lf ld2 lc2) := hCr.1
    refine lv_iload_n hx hb dX2_copy_107 rfl (lv_at hl 2 rfl) ?_
    refine lv_aload_n hx hb dX2_copy_108 rfl (lv_at hl 0 rfl) ?_
    refine g_get (C := RX2) (T := TX2) (N := 9) (v := .ref lc) hx hb hts in_X2 hown hE hI hcon rfl 8 (by decide) q121 (fun _ h9 => h9) rfl dX2_copy_109 ?_
    refine g_ci0 (G := Gj) (v := nI nc) hS (va_runV (As := []) (rest := [.int (nI j)]) ⟨hx, hb, hml, hown, hts⟩ (m_size l E Gj (o, 3, 0) (o, 4, 0) lc ec nc kA hlc) (cwV 0 hts (lw_V q192 q162 q163 q34 q164) rfl rfl rfl (by decide +kernel) ⟨Nat.le_of_ble_eq_true rfl, Nat.le_of_ble_eq_true rfl⟩) (g_preV hE hI (hlc.recv hE hI)) rfl rfl hl.1 rfl (lv_room (Nat.le_of_ble_eq_true rfl)) dX2_copy_112 ⟨(by show _ ≤ 3 + 2 * i + 2 * nc; omega), (by show _ ≤ 15 + 41 * i + 39 * nc; omega)⟩) (fun H locs hI hS => ?_)
    refine lv_icmp_ge (tgt := 146) hx hb dX2_copy_115 (by decide) (fun c2x => ?_) (fun c2x => ?_)
    · have ej : j = nc := (Nat.lt_or_ge j nc).elim (fun z => absurd c2x (nI_ge z (by omega))) (fun z => by omega)
      subst ej
      refine lv_aload_n hx hb dX2_copy_146 rfl (lv_at hl 1 rfl) ?_
      exact g_aret hx hb hr (Or.inl ⟨_, rfl⟩) hlk hI hS dX2_copy_147 (Nat.le_refl _) (Nat.le_refl _) (⟨(c2, ld2, lc2, dB, kB), rfl, hCr, hFr⟩)
    · have hlt : j < nc := (Nat.lt_or_ge j nc).elim id (fun z => absurd (nI_le z (by omega)) c2x)
      obtain ⟨ec2, hlc2⟩ := hCr.2.2.1
      have hlc2 : LRep E Gj (o2, 3, 0) (o2, 4, 0) lc2 ec2 j kB := hlc2
      refine lv_aload_n hx hb dX2_copy_118 rfl (lv_at hl 1 rfl) ?_
      refine g_get (C := RX2) (T := TX2) (N := 9) (v := .ref lc2) hx hb hts in_X2 hown hE hI hc2 rfl 8 (by decide) q121 (fun _ h9 => h9) rfl dX2_copy_119 ?_
      refine lv_aload_n hx hb dX2_copy_122 rfl (lv_at hl 0 rfl) ?_
      refine g_get (C := RX2) (T := TX2) (N := 9) (v := .ref lc) hx hb hts in_X2 hown hE hI hcon rfl 8 (by decide) q121 (fun _ h9 => h9) rfl dX2_copy_123 ?_
      refine lv_iload_n hx hb dX2_copy_126 rfl (lv_at hl 2 rfl) ?_
      refine g_cr0 (G := Gj) (v := kA j) hS (va_runV (As := [.int (nI j)]) (rest := [.ref lc2]) ⟨hx, hb, hml, hown, hts⟩ (m_get l E Gj (o, 3, 0) (o, 4, 0) lc ec nc kA hlc j hlt) (cwV 1 hts (lw_V q193 q166 q167 q34 q168) rfl rfl rfl (by decide +kernel) ⟨Nat.le_of_ble_eq_true rfl, Nat.le_of_ble_eq_true rfl⟩) (g_preV hE hI (hlc.recv hE hI)) rfl rfl hl.1 rfl (lv_room (Nat.le_of_ble_eq_true rfl)) dX2_copy_127 ⟨(by show _ ≤ 3 + 2 * i + 2 * nc; omega), (by show _ ≤ 15 + 41 * i + 39 * nc; omega)⟩) (fun H locs hI hS => ?_)
      refine g_cast hx hb hts hown q741 hE hI (hk j hlt) rfl rfl dX2_copy_130 ?_
      refine g_cr hS (va_runV (As := []) (rest := [.ref lc2]) ⟨hx, hb, hml, hown, hts⟩ (m_Kcopy l E Gj (kA j) (o, 6, j) (km j).1 (km j).2.1 (km j).2.2 (hk j hlt) (o2, 6, j)) (cwV 0 hts (lw_V q821 q822 q823 q57 q824) rfl rfl rfl (by decide +kernel) ⟨Nat.le_of_ble_eq_true rfl, Nat.le_of_ble_eq_true rfl⟩) (g_preV hE hI (g_recv hE hI (hk j hlt) rfl)) rfl rfl hl.1 rfl (lv_room (Nat.le_of_ble_eq_true rfl)) dX2_copy_133 ⟨(by show _ ≤ 3 + 2 * i + 2 * nc; omega), (by show _ ≤ 15 + 41 * i + 39 * nc; omega)⟩) (fun q G1 H locs hp hI hS => ?_)
      obtain ⟨hnq, rfl⟩ := hp
      have hFn : ∀ P, Fr P Gj (gU Gj q ((o2, 6, j), kOt (km j))) := fun P => Fr.new hnq
      have hq : gU Gj q ((o2, 6, j), kOt (km j)) q = some ((o2, 6, j), kOt (km j)) := gU_self
      have hlc3 := hlc2.fr (hFn (fun _ => False)) id id
      refine g_ci hS (va_runV (As := [.ref q]) (rest := []) ⟨hx, hb, hml, hown, hts⟩ (m_add l E (gU Gj q ((o2, 6, j), kOt (km j))) (o2, 3, 0) (o2, 4, 0) lc2 ec2 j kB hlc3 q 3 (o2, 6, j) _ (RX8, TX8, 3) (by simp) (by simp) (by simp) hq rfl (by omega) (fun k hk => ⟨(o2, 6, k), _, by simp, hFn (fun _ => False) _ _ _ id (hCr.2.2.2.2 k hk)⟩)) (cwV 1 hts (lw_V q820 q421 q422 q34 q423) rfl rfl rfl (by decide +kernel) ⟨Nat.le_of_ble_eq_true rfl, Nat.le_of_ble_eq_true rfl⟩) (g_preV hE hI (hlc3.recv hE hI)) rfl rfl hl.1 rfl (lv_room (Nat.le_of_ble_eq_true rfl)) dX2_copy_136 ⟨(by show _ ≤ 3 + 2 * i + 2 * nc; omega), (by show _ ≤ 15 + 41 * i + 39 * nc; omega)⟩) (fun r G2 H locs hp hI hS => ?_)
      obtain ⟨rfl, el', hL1, hF4⟩ := hp
      refine lv_pop hx hb dX2_copy_139 rfl ?_
      refine lv_iinc (v := nI (j + 1)) (lv' := [(2, .int (nI (j + 1))), (0, .ref con), (1, .ref c2)]) hx hb dX2_copy_140 hl (k := 2) rfl (nI_1 (j)) (by decide) rfl (fun ls hl => ?_)
      refine lv_goto (tgt := 107) hx hb dX2_copy_143 (by decide) ?_
      have hz := (hCr.fr (hFn (fun _ => False)) (fun _ z => z.elim)).addK (k := km j) hF4 (hF4 _ _ _ (by simp) hq) hL1
      dsimp only at hz
      rw [va_up_id] at hz
      refine W.widen (k := 3 + 2 * i + 2 * (j + 1)) (n := 15 + 41 * i + 39 * (j + 1)) (by omega) (by omega) ?_
      exact ih10 (j + 1) G2 (va_up kB j q) _ _ _ (by omega) ⟨hlt, hz, Fr.trans hFr (Fr.trans (hFn _) (hF4.mono (fun t z => by rcases z with z | z <;> rw [z]))), hI, hS, lv_sub hl [1, 2, 0] rfl⟩
  · have hlt : i < nd := (Nat.lt_or_ge i nd).elim id (fun z => absurd (nI_le z (by omega)) c1)
    obtain ⟨ed2, hld2⟩ := hCr.2.1
    have hld2 : LRep E Gi (o2, 1, 0) (o2, 2, 0) ld2 ed2 i dB := hld2
    refine lv_aload_n hx hb dX2_copy_77 rfl (lv_at hl 1 rfl) ?_
    refine g_get (C := RX2) (T := TX2) (N := 9) (v := .ref ld2) hx hb hts in_X2 hown hE hI hc2 rfl 7 (by decide) q118 (fun _ h9 => h9) rfl dX2_copy_78 ?_
    refine lv_aload_n hx hb dX2_copy_81 rfl (lv_at hl 0 rfl) ?_
    refine g_get (C := RX2) (T := TX2) (N := 9) (v := .ref ld) hx hb hts in_X2 hown hE hI hcon rfl 7 (by decide) q118 (fun _ h9 => h9) rfl dX2_copy_82 ?_
    refine lv_iload_n hx hb dX2_copy_85 rfl (lv_at hl 2 rfl) ?_
    refine g_cr0 (G := Gi) (v := dA i) hS (va_runV (As := [.int (nI i)]) (rest := [.ref ld2]) ⟨hx, hb, hml, hown, hts⟩ (m_get l E Gi (o, 1, 0) (o, 2, 0) ld ed nd dA hld i hlt) (cwV 1 hts (lw_V q193 q166 q167 q34 q168) rfl rfl rfl (by decide +kernel) ⟨Nat.le_of_ble_eq_true rfl, Nat.le_of_ble_eq_true rfl⟩) (g_preV hE hI (hld.recv hE hI)) rfl rfl hl.1 rfl (lv_room (Nat.le_of_ble_eq_true rfl)) dX2_copy_86 ⟨(by show _ ≤ 3 + 2 * nd + 2 * nc; omega), (by show _ ≤ 15 + 41 * nd + 39 * nc; omega)⟩) (fun H locs hI hS => ?_)
    refine g_cast hx hb hts hown q194 hE hI (hd i hlt) rfl rfl dX2_copy_89 ?_
    refine g_cr hS (va_runV (As := []) (rest := [.ref ld2]) ⟨hx, hb, hml, hown, hts⟩ (m_Dcopy l E Gi (dA i) (o, 5, i) (dm i).1 (dm i).2.1 (dm i).2.2.1 (dm i).2.2.2.1 (dm i).2.2.2.2 (hd i hlt) (o2, 5, i)) (cwV 0 hts (lw_V q814 q815 q816 q42 q817) rfl rfl rfl (by decide +kernel) ⟨Nat.le_of_ble_eq_true rfl, Nat.le_of_ble_eq_true rfl⟩) (g_preV hE hI (g_recv hE hI (hd i hlt) rfl)) rfl rfl hl.1 rfl (lv_room (Nat.le_of_ble_eq_true rfl)) dX2_copy_92 ⟨(by show _ ≤ 3 + 2 * nd + 2 * nc; omega), (by show _ ≤ 15 + 41 * nd + 39 * nc; omega)⟩) (fun q G1 H locs hp hI hS => ?_)
    obtain ⟨hnq, rfl⟩ := hp
    have hFn : ∀ P, Fr P Gi (gU Gi q ((o2, 5, i), dOt (dm i))) := fun P => Fr.new hnq
    have hq : gU Gi q ((o2, 5, i), dOt (dm i)) q = some ((o2, 5, i), dOt (dm i)) := gU_self
    have hld3 := hld2.fr (hFn (fun _ => False)) id id
    refine g_ci hS (va_runV (As := [.ref q]) (rest := []) ⟨hx, hb, hml, hown, hts⟩ (m_add l E (gU Gi q ((o2, 5, i), dOt (dm i))) (o2, 1, 0) (o2, 2, 0) ld2 ed2 i dB hld3 q 2 (o2, 5, i) _ (RX4, TX4, 5) (by simp) (by simp) (by simp) hq rfl (by omega) (fun k hk => ⟨(o2, 5, k), _, by simp, hFn (fun _ => False) _ _ _ id (hCr.2.2.2.1 k hk)⟩)) (cwV 1 hts (lw_V q820 q421 q422 q34 q423) rfl rfl rfl (by decide +kernel) ⟨Nat.le_of_ble_eq_true rfl, Nat.le_of_ble_eq_true rfl⟩) (g_preV hE hI (hld3.recv hE hI)) rfl rfl hl.1 rfl (lv_room (Nat.le_of_ble_eq_true rfl)) dX2_copy_95 ⟨(by show _ ≤ 3 + 2 * nd + 2 * nc; omega), (by show _ ≤ 15 + 41 * nd + 39 * nc; omega)⟩) (fun r G2 H locs hp hI hS => ?_)
    obtain ⟨rfl, el', hL1, hF4⟩ := hp
    refine lv_pop hx hb dX2_copy_98 rfl ?_
    refine lv_iinc (v := nI (i + 1)) (lv' := [(2, .int (nI (i + 1))), (0, .ref con), (1, .ref c2)]) hx hb dX2_copy_99 hl (k := 2) rfl (nI_1 (i)) (by decide) rfl (fun ls hl => ?_)
    refine lv_goto (tgt := 66) hx hb dX2_copy_102 (by decide) ?_
    have hz := (hCr.fr (hFn (fun _ => False)) (fun _ z => z.elim)).addD (k := dm i) hF4 (hF4 _ _ _ (by simp) hq) hL1
    dsimp only at hz
    rw [va_up_id] at hz
    refine W.widen (k := 3 + 2 * (i + 1)) (n := 15 + 41 * (i + 1)) (by omega) (by omega) ?_
    exact ih9 (i + 1) G2 (va_up dB i q) _ _ _ (by omega) ⟨hlt, hz, Fr.trans hFr (Fr.trans (hFn _) (hF4.mono (fun t z => by rcases z with z | z <;> rw [z]))), hI, hS, lv_sub hl [1, 2, 0] rfl⟩
