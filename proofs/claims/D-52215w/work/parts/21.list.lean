/-! CONTRACTS of ArrayList and what it calls. Printed by gen/p21.py -/
/-- a list object at a (tag tl), its array at el (tag ta, or the empty one), n elements at ad 0, ad 1 .. -/
def LRep (E : EnvT) (G : Gh) (tl ta : Tg) (a el n : Nat) (ad : Nat → Nat) : Prop := ∃ (mo : Int32) (cap : Nat) (f : Nat → Option Nat), G a = some (tl, aO mo el (nI n)) ∧ n ≤ cap ∧ cap ≤ 36 ∧ (∀ k, k < n → f k = some (ad k)) ∧ ((cap = 0 ∧ el = eK E 6) ∨ (0 < cap ∧ G el = some (ta, rO E cap f)))
theorem LRep.fr {E : EnvT} {P : Tg → Prop} {G G' : Gh} {tl ta : Tg} {a el n : Nat} {ad : Nat → Nat} (h : LRep E G tl ta a el n ad) (hF : Fr P G G') (h1 : ¬ P tl) (h2 : ¬ P ta) : LRep E G' tl ta a el n ad := by
  obtain ⟨mo, cap, f, g1, g2, g3, g4, g5⟩ := h
  refine ⟨mo, cap, f, hF _ _ _ h1 g1, g2, g3, g4, ?_⟩
  rcases g5 with g5 | ⟨g5, g6⟩
  · exact Or.inl g5
  · exact Or.inr ⟨g5, hF _ _ _ h2 g6⟩
theorem LRep.n36 {E : EnvT} {G : Gh} {tl ta : Tg} {a el n : Nat} {ad : Nat → Nat} (h : LRep E G tl ta a el n ad) : n ≤ 36 := by
  obtain ⟨mo, cap, f, g1, g2, g3, g4, g5⟩ := h
  omega
set_option maxHeartbeats 4000000 in
set_option maxRecDepth 100000 in
theorem m_AColl (l : Launch) (E : EnvT) (G : Gh) (h : Nat) : Met l yJ0_init (ws_ yJ0_init cJ0_init 1 none) ({ frames := 1, cells := 0, slots := 0, locals := 12 } : Room) (cP E G [.ref h]) (cV E (fun G' => G' = G)) 0 0 (eA E) := by
  refine g_met (rm := ({ frames := 1, cells := 0, slots := 0, locals := 12 } : Room)) (av := [.ref h]) (lv := [(0, .ref h)]) (by decide) (Nat.le_of_ble_eq_true rfl) rfl ?_
  intro p e s m below meth c ls hx hb hr hlk hml hin hts hown hE hI hL hS hl
  refine lv_aload_n hx hb dJ0_init_0 rfl (lv_at hl 0 rfl) ?_
  refine W.objInit hx hb hown (hts _ q77) (hts _ q64) (hts _ q65) rfl (by rw [hml]; exact hl.1) rfl dJ0_init_1 (Nat.le_of_ble_eq_true rfl) (Nat.le_of_ble_eq_true rfl) ?_
  refine W.eq (g2 := F0 m 4 ls []) rfl ?_
  exact g_vret hx hb hr hlk hI hS dJ0_init_4 (Nat.le_of_ble_eq_true rfl) (Nat.le_of_ble_eq_true rfl) rfl
set_option maxHeartbeats 4000000 in
set_option maxRecDepth 100000 in
theorem m_AList (l : Launch) (E : EnvT) (G : Gh) (h : Nat) (t : Tg) (hg : G h = some (t, .inr (6, [.int 0, .null, .int 0]))) : Met l yJ1_init (ws_ yJ1_init cJ1_init 1 none) ({ frames := 2, cells := 0, slots := 0, locals := 32 } : Room) (cP E G [.ref h]) (cV E (fun G' => G' = G)) 0 0 (eA E) := by
  refine g_met (rm := ({ frames := 2, cells := 0, slots := 0, locals := 32 } : Room)) (av := [.ref h]) (lv := [(0, .ref h)]) (by decide) (Nat.le_of_ble_eq_true rfl) rfl ?_
  intro p e s m below meth c ls hx hb hr hlk hml hin hts hown hE hI hL hS hl
  have hg0 := hg
  refine lv_aload_n hx hb dJ1_init_0 rfl (lv_at hl 0 rfl) ?_
  refine g_cv0 hS (va_runI (As := []) (rest := []) ⟨hx, hb, hml, hown, hts⟩ (m_AColl l E G h) (cwI 0 hts (lw_meth q76) rfl rfl rfl (hts _ q32) (hts _ q74) (hts _ q75) rfl (by decide +kernel) ⟨Nat.le_of_ble_eq_true rfl, Nat.le_of_ble_eq_true rfl⟩) (g_preS hE hI) rfl rfl hl.1 rfl (lv_room (Nat.le_of_ble_eq_true rfl)) dJ1_init_1 ⟨Nat.le_of_ble_eq_true rfl, Nat.le_of_ble_eq_true rfl⟩) (fun H locs hI hS => ?_)
  refine lv_aload_n hx hb dJ1_init_4 rfl (lv_at hl 0 rfl) ?_
  refine lv_iconst (v := 0) hx hb dJ1_init_5 (by decide) ?_
  refine g_put (C := RJ2) (T := TJ2) (N := 3) (v := .int 0) (ty := .int) (fs' := [.int 0, .null, .int 0]) hx hb hts in_J2 tyJ2 tyJ2_ok nmJ2 hown hE hI hS hL hg rfl 0 (by decide) q82 (fun _ h9 => h9) rfl (by decide +kernel) rfl rfl (Nat.le_of_ble_eq_true rfl) rfl dJ1_init_6 (fun H locs hI hS => ?_)
  have hg : (gU G h (t, .inr (6, [.int 0, .null, .int 0]))) h = some (t, .inr (6, [.int 0, .null, .int 0])) := gU_self
  exact g_vret hx hb hr hlk hI hS dJ1_init_9 (Nat.le_of_ble_eq_true rfl) (Nat.le_of_ble_eq_true rfl) (gU_id hg0)
set_option maxHeartbeats 4000000 in
set_option maxRecDepth 100000 in
theorem m_ALinit (l : Launch) (E : EnvT) (G : Gh) (h : Nat) (t : Tg) (hg : G h = some (t, .inr (6, [.int 0, .null, .int 0]))) : Met l yJ2_init (ws_ yJ2_init cJ2_init 1 none) ({ frames := 3, cells := 0, slots := 0, locals := 52 } : Room) (cP E G [.ref h]) (cV E (fun G' => G' = gU G h (t, aO 0 (eK E 6) 0))) 0 0 (eA E) := by
  refine g_met (rm := ({ frames := 3, cells := 0, slots := 0, locals := 52 } : Room)) (av := [.ref h]) (lv := [(0, .ref h)]) (by decide) (Nat.le_of_ble_eq_true rfl) rfl ?_
  intro p e s m below meth c ls hx hb hr hlk hml hin hts hown hE hI hL hS hl
  refine lv_aload_n hx hb dJ2_init_0 rfl (lv_at hl 0 rfl) ?_
  refine g_cv0 hS (va_runI (As := []) (rest := []) ⟨hx, hb, hml, hown, hts⟩ (m_AList l E G h t hg) (cwI 0 hts (lw_meth q73) rfl rfl rfl (hts _ q33) (hts _ q71) (hts _ q72) rfl (by decide +kernel) ⟨Nat.le_of_ble_eq_true rfl, Nat.le_of_ble_eq_true rfl⟩) (g_preS hE hI) rfl rfl hl.1 rfl (lv_room (Nat.le_of_ble_eq_true rfl)) dJ2_init_1 ⟨Nat.le_of_ble_eq_true rfl, Nat.le_of_ble_eq_true rfl⟩) (fun H locs hI hS => ?_)
  refine lv_aload_n hx hb dJ2_init_4 rfl (lv_at hl 0 rfl) ?_
  refine g_gets (C := "java/util/ArrayList") hx hb hts hE.St.1 hL hS hown q78 (fun _ h9 => h9) dJ2_init_5 ?_
  refine g_put (C := RJ2) (T := TJ2) (N := 3) (v := .ref (eK E 6)) (ty := .array (.object "java/lang/Object")) (fs' := [.int 0, .ref (eK E 6), .int 0]) hx hb hts in_J2 tyJ2 tyJ2_ok nmJ2 hown hE hI hS hL hg rfl 1 (by decide) q80 (fun _ h9 => h9) rfl (by decide +kernel) rfl rfl (Nat.le_of_ble_eq_true rfl) rfl dJ2_init_8 (fun H locs hI hS => ?_)
  have hg : (gU G h (t, .inr (6, [.int 0, .ref (eK E 6), .int 0]))) h = some (t, .inr (6, [.int 0, .ref (eK E 6), .int 0])) := gU_self
  exact g_vret hx hb hr hlk hI hS dJ2_init_11 (Nat.le_of_ble_eq_true rfl) (Nat.le_of_ble_eq_true rfl) rfl
set_option maxHeartbeats 4000000 in
set_option maxRecDepth 100000 in
theorem m_size (l : Launch) (E : EnvT) (G : Gh) (tl ta : Tg) (a el n : Nat) (ad : Nat → Nat) (hR : LRep E G tl ta a el n ad) : Met l yJ2_size (ws_ yJ2_size cJ2_size 1 (some .int)) ({ frames := 0, cells := 0, slots := 0, locals := 0 } : Room) (cP E G [.ref a]) (cI E (fun r G' => r = nI n ∧ G' = G)) 0 0 (eA E) := by
  refine g_met (rm := ({ frames := 0, cells := 0, slots := 0, locals := 0 } : Room)) (av := [.ref a]) (lv := [(0, .ref a)]) (by decide) (Nat.le_of_ble_eq_true rfl) rfl ?_
  intro p e s m below meth c ls hx hb hr hlk hml hin hts hown hE hI hL hS hl
  obtain ⟨mo, cap, f, hg, hcap, hc36, hf, hor⟩ := hR
  refine lv_aload_n hx hb dJ2_size_0 rfl (lv_at hl 0 rfl) ?_
  refine g_get (C := RJ2) (T := TJ2) (N := 3) (v := .int (nI n)) hx hb hts in_J2 hown hE hI hg rfl 2 (by decide) q81 (fun _ h9 => h9) rfl dJ2_size_1 ?_
  exact g_iret hx hb hr hlk hI hS dJ2_size_4 (Nat.le_of_ble_eq_true rfl) (Nat.le_of_ble_eq_true rfl) (⟨rfl, rfl⟩)
set_option maxHeartbeats 4000000 in
set_option maxRecDepth 100000 in
theorem m_check1 (l : Launch) (E : EnvT) (G : Gh) (i n : Int32) (h1 : ¬ i < 0) (h2 : i < n) : Met l yJ15_checkIndex (ws_ yJ15_checkIndex cJ15_checkIndex 3 (some .int)) ({ frames := 0, cells := 0, slots := 0, locals := 0 } : Room) (cP E G [.int i, .int n, .null]) (cI E (fun r G' => r = i ∧ G' = G)) 0 0 (eA E) := by
  refine g_met (rm := ({ frames := 0, cells := 0, slots := 0, locals := 0 } : Room)) (av := [.int i, .int n, .null]) (lv := [(0, .int i), (1, .int n), (2, .null)]) (by decide) (Nat.le_of_ble_eq_true rfl) rfl ?_
  intro p e s m below meth c ls hx hb hr hlk hml hin hts hown hE hI hL hS hl
  refine lv_iload_n hx hb dJ15_checkIndex_0 rfl (lv_at hl 0 rfl) ?_
  refine lv_if_lt (tgt := 9) hx hb dJ15_checkIndex_1 (by decide) (fun c1 => ?_) (fun c1 => ?_)
  · exact absurd c1 h1
  · refine lv_iload_n hx hb dJ15_checkIndex_4 rfl (lv_at hl 0 rfl) ?_
    refine lv_iload_n hx hb dJ15_checkIndex_5 rfl (lv_at hl 1 rfl) ?_
    refine lv_icmp_lt (tgt := 16) hx hb dJ15_checkIndex_6 (by decide) (fun c2 => ?_) (fun c2 => ?_)
    · refine lv_iload_n hx hb dJ15_checkIndex_16 rfl (lv_at hl 0 rfl) ?_
      exact g_iret hx hb hr hlk hI hS dJ15_checkIndex_17 (Nat.le_of_ble_eq_true rfl) (Nat.le_of_ble_eq_true rfl) (⟨rfl, rfl⟩)
    · exact absurd h2 c2
set_option maxHeartbeats 4000000 in
set_option maxRecDepth 100000 in
theorem m_check (l : Launch) (E : EnvT) (G : Gh) (i n : Int32) (h1 : ¬ i < 0) (h2 : i < n) : Met l yJ14_checkIndex (ws_ yJ14_checkIndex cJ14_checkIndex 2 (some .int)) ({ frames := 1, cells := 0, slots := 0, locals := 22 } : Room) (cP E G [.int i, .int n]) (cI E (fun r G' => r = i ∧ G' = G)) 0 0 (eA E) := by
  refine g_met (rm := ({ frames := 1, cells := 0, slots := 0, locals := 22 } : Room)) (av := [.int i, .int n]) (lv := [(0, .int i), (1, .int n)]) (by decide) (Nat.le_of_ble_eq_true rfl) rfl ?_
  intro p e s m below meth c ls hx hb hr hlk hml hin hts hown hE hI hL hS hl
  refine lv_iload_n hx hb dJ14_checkIndex_0 rfl (lv_at hl 0 rfl) ?_
  refine lv_iload_n hx hb dJ14_checkIndex_1 rfl (lv_at hl 1 rfl) ?_
  refine lv_null hx hb dJ14_checkIndex_2 ?_
  refine g_ci0 (G := G) (v := i) hS (va_runS (As := [.int i, .int n, .null]) (rest := []) ⟨hx, hb, hml, hown, hts⟩ (m_check1 l E G i n h1 h2) (va_cwS 3 hts (lw_S q172 q173 q51 q174) rfl rfl rfl (by decide +kernel) ⟨Nat.le_of_ble_eq_true rfl, Nat.le_of_ble_eq_true rfl⟩) (g_preS hE hI) rfl rfl hl.1 rfl (lv_room (Nat.le_of_ble_eq_true rfl)) dJ14_checkIndex_3 ⟨Nat.le_of_ble_eq_true rfl, Nat.le_of_ble_eq_true rfl⟩) (fun H locs hI hS => ?_)
  exact g_iret hx hb hr hlk hI hS dJ14_checkIndex_6 (Nat.le_of_ble_eq_true rfl) (Nat.le_of_ble_eq_true rfl) (⟨rfl, rfl⟩)
set_option maxHeartbeats 4000000 in
set_option maxRecDepth 100000 in
theorem m_elem (l : Launch) (E : EnvT) (G : Gh) (tl ta : Tg) (a el n : Nat) (ad : Nat → Nat) (hR : LRep E G tl ta a el n ad) (k : Nat) (hk : k < n) : Met l yJ2_elementData (ws_ yJ2_elementData cJ2_elementData 2 (some (.object "java/lang/Object"))) ({ frames := 0, cells := 0, slots := 0, locals := 0 } : Room) (cP E G [.ref a, .int (nI k)]) (cR E (fun r G' => r = ad k ∧ G' = G)) 0 0 (eA E) := by
  refine g_met (rm := ({ frames := 0, cells := 0, slots := 0, locals := 0 } : Room)) (av := [.ref a, .int (nI k)]) (lv := [(0, .ref a), (1, .int (nI k))]) (by decide) (Nat.le_of_ble_eq_true rfl) rfl ?_
  intro p e s m below meth c ls hx hb hr hlk hml hin hts hown hE hI hL hS hl
  obtain ⟨mo, cap, f, hg, hcap, hc36, hf, hor⟩ := hR
  refine lv_aload_n hx hb dJ2_elementData_0 rfl (lv_at hl 0 rfl) ?_
  refine g_get (C := RJ2) (T := TJ2) (N := 3) (v := .ref el) hx hb hts in_J2 hown hE hI hg rfl 1 (by decide) q80 (fun _ h9 => h9) rfl dJ2_elementData_1 ?_
  refine lv_iload_n hx hb dJ2_elementData_4 rfl (lv_at hl 1 rfl) ?_
  have hg2 : G el = some (ta, rO E cap f) := hor.elim (fun z => absurd z.1 (by omega)) (fun z => z.2)
  refine g_aald hx hb hE hI hg2 1 rfl k rfl (by omega) (by omega) (hf k hk) dJ2_elementData_5 ?_
  exact g_aret hx hb hr (Or.inl ⟨_, rfl⟩) hlk hI hS dJ2_elementData_6 (Nat.le_of_ble_eq_true rfl) (Nat.le_of_ble_eq_true rfl) (⟨rfl, rfl⟩)
set_option maxHeartbeats 4000000 in
set_option maxRecDepth 100000 in
theorem m_get (l : Launch) (E : EnvT) (G : Gh) (tl ta : Tg) (a el n : Nat) (ad : Nat → Nat) (hR : LRep E G tl ta a el n ad) (k : Nat) (hk : k < n) : Met l yJ2_get (ws_ yJ2_get cJ2_get 2 (some (.object "java/lang/Object"))) ({ frames := 2, cells := 0, slots := 0, locals := 43 } : Room) (cP E G [.ref a, .int (nI k)]) (cR E (fun r G' => r = ad k ∧ G' = G)) 0 0 (eA E) := by
  refine g_met (rm := ({ frames := 2, cells := 0, slots := 0, locals := 43 } : Room)) (av := [.ref a, .int (nI k)]) (lv := [(0, .ref a), (1, .int (nI k))]) (by decide) (Nat.le_of_ble_eq_true rfl) rfl ?_
  intro p e s m below meth c ls hx hb hr hlk hml hin hts hown hE hI hL hS hl
  have hR0 := hR
  obtain ⟨mo, cap, f, hg, hcap, hc36, hf, hor⟩ := hR0
  refine lv_iload_n hx hb dJ2_get_0 rfl (lv_at hl 1 rfl) ?_
  refine lv_aload_n hx hb dJ2_get_1 rfl (lv_at hl 0 rfl) ?_
  refine g_get (C := RJ2) (T := TJ2) (N := 3) (v := .int (nI n)) hx hb hts in_J2 hown hE hI hg rfl 2 (by decide) q81 (fun _ h9 => h9) rfl dJ2_get_2 ?_
  refine g_ci0 (G := G) (v := nI k) hS (va_runS (As := [.int (nI k), .int (nI n)]) (rest := []) ⟨hx, hb, hml, hown, hts⟩ (m_check l E G (nI k) (nI n) (nI_pos (by omega)) (nI_lt hk (by omega))) (va_cwS 2 hts (lw_S q169 q170 q50 q171) rfl rfl rfl (by decide +kernel) ⟨Nat.le_of_ble_eq_true rfl, Nat.le_of_ble_eq_true rfl⟩) (g_preS hE hI) rfl rfl hl.1 rfl (lv_room (Nat.le_of_ble_eq_true rfl)) dJ2_get_5 ⟨Nat.le_of_ble_eq_true rfl, Nat.le_of_ble_eq_true rfl⟩) (fun H locs hI hS => ?_)
  refine lv_pop hx hb dJ2_get_8 rfl ?_
  refine lv_aload_n hx hb dJ2_get_9 rfl (lv_at hl 0 rfl) ?_
  refine lv_iload_n hx hb dJ2_get_10 rfl (lv_at hl 1 rfl) ?_
  refine g_cr0 (G := G) (v := ad k) hS (va_runV (As := [.int (nI k)]) (rest := []) ⟨hx, hb, hml, hown, hts⟩ (m_elem l E G tl ta a el n ad hR k hk) (cwV 1 hts (lw_V q175 q176 q177 q34 q178) rfl rfl rfl (by decide +kernel) ⟨Nat.le_of_ble_eq_true rfl, Nat.le_of_ble_eq_true rfl⟩) (g_preV hE hI (g_recv hE hI hg rfl)) rfl rfl hl.1 rfl (lv_room (Nat.le_of_ble_eq_true rfl)) dJ2_get_11 ⟨Nat.le_of_ble_eq_true rfl, Nat.le_of_ble_eq_true rfl⟩) (fun H locs hI hS => ?_)
  exact g_aret hx hb hr (Or.inl ⟨_, rfl⟩) hlk hI hS dJ2_get_14 (Nat.le_of_ble_eq_true rfl) (Nat.le_of_ble_eq_true rfl) (⟨rfl, rfl⟩)
set_option maxHeartbeats 4000000 in
set_option maxRecDepth 100000 in
theorem m_newLen (l : Launch) (E : EnvT) (G : Gh) (o x y : Int32) (h1 : ¬ o + (if x < y then y else x) ≤ 0) (h2 : ¬ 2147483639 < o + (if x < y then y else x)) : Met l yJ8_newLength (ws_ yJ8_newLength cJ8_newLength 4 (some .int)) ({ frames := 1, cells := 0, slots := 0, locals := 14 } : Room) (cP E G [.int o, .int x, .int y]) (cI E (fun r G' => r = o + (if x < y then y else x) ∧ G' = G)) 0 0 (eA E) := by
  refine g_met (rm := ({ frames := 1, cells := 0, slots := 0, locals := 14 } : Room)) (av := [.int o, .int x, .int y]) (lv := [(0, .int o), (1, .int x), (2, .int y)]) (by decide) (Nat.le_of_ble_eq_true rfl) rfl ?_
  intro p e s m below meth c ls hx hb hr hlk hml hin hts hown hE hI hL hS hl
  refine lv_iload_n hx hb dJ8_newLength_0 rfl (lv_at hl 0 rfl) ?_
  refine lv_iload_n hx hb dJ8_newLength_1 rfl (lv_at hl 1 rfl) ?_
  refine lv_iload_n hx hb dJ8_newLength_2 rfl (lv_at hl 2 rfl) ?_
  refine va_mmax hx hb (hml.trans hl.1.symm) hown (hts _ q439) (hts _ q440) (hts _ q44) (hts _ q441) (Nat.le_of_ble_eq_true rfl) (Nat.le_of_ble_eq_true rfl) (Nat.le_of_ble_eq_true rfl) (Nat.le_of_ble_eq_true rfl) dJ8_newLength_3 ?_
  refine lv_iadd hx hb dJ8_newLength_6 ?_
  refine lv_topi (fun z ez => ?_)
  rw [← ez] at h1 h2
  refine lv_istore_n (lv' := [(3, .int z), (0, .int o), (1, .int x), (2, .int y)]) hx hb dJ8_newLength_7 rfl hl (by decide) rfl (fun ls hl => ?_)
  refine lv_iconst (v := 0) hx hb dJ8_newLength_8 (by decide) ?_
  refine lv_iload_n hx hb dJ8_newLength_9 rfl (lv_at hl 0 rfl) ?_
  refine lv_icmp_ge (tgt := 21) hx hb dJ8_newLength_10 (by decide) (fun c1 => ?_) (fun c1 => ?_)
  · exact absurd c1 h1
  · refine lv_iload_n hx hb dJ8_newLength_13 rfl (lv_at hl 0 rfl) ?_
    refine lv_ldc hx hb hown (hts _ q442) dJ8_newLength_14 ?_
    refine lv_icmp_gt (tgt := 21) hx hb dJ8_newLength_16 (by decide) (fun c2 => ?_) (fun c2 => ?_)
    · exact absurd c2 h2
    · refine lv_iload_n hx hb dJ8_newLength_19 rfl (lv_at hl 0 rfl) ?_
      exact g_iret hx hb hr hlk hI hS dJ8_newLength_20 (Nat.le_of_ble_eq_true rfl) (Nat.le_of_ble_eq_true rfl) (⟨ez, rfl⟩)
theorem g_recvA {s : State} {H : Heap} {E : EnvT} {G : Gh} {a n : Nat} {t : Tg} {f : Nat → Option Nat} (hE : Env0 E s) (hI : Inv E G H) (hg : G a = some (t, rO E n f)) : ∃ cell : Cell, H[a]? = some cell ∧ cell.vm.isStatics = false ∧ s.vm.findClass "[Ljava/lang/Object;" = some cell.cls := by
  have h1 : H[a]? = some (vp_cell (eC E 1) (n, .inr (.inr (.inr (.inr f))))) := hI.one hg 0 _ rfl
  exact ⟨_, h1, rfl, va_nmO (hE.K.2 1 (eC E 1, .object "java/lang/Object") rfl).2 (by decide +kernel)⟩
set_option maxHeartbeats 4000000 in
set_option maxRecDepth 100000 in
theorem m_copyOf2 (l : Launch) (E : EnvT) (G : Gh) (t0 u : Tg) (a0 n0 k2 ci : Nat) (f : Nat → Option Nat) (r : vw_C) (hg : G a0 = some (t0, rO E n0 f)) (hc : vwCl[ci]? = some r) (h1 : n0 ≤ k2) (h2 : k2 ≤ 36) (hel : ∀ i : Nat, i < n0 → ∀ y : Nat, f i = some y → ∃ (t : Tg) (fs : List Value), G y = some (t, .inr (ci, fs))) : Met l yJ10_copyOf_2 (ws_ yJ10_copyOf_2 cJ10_copyOf_2 4 (some (.array (.object "java/lang/Object")))) ({ frames := 1, cells := 1, slots := 36, locals := 40 } : Room) (cP E G [.ref a0, .int (nI k2), .ref (eK E 7)]) (cR E (fun q G' => G q = none ∧ G' = gU G q (u, rO E k2 (va_cpy f (fun _ => none) 0 0 n0)))) 1 36 (eA E) := by
  refine g_met (rm := ({ frames := 1, cells := 1, slots := 36, locals := 40 } : Room)) (av := [.ref a0, .int (nI k2), .ref (eK E 7)]) (lv := [(0, .ref a0), (1, .int (nI k2)), (2, .ref (eK E 7))]) (by decide) (Nat.le_of_ble_eq_true rfl) rfl ?_
  intro p e s m below meth c ls hx hb hr hlk hml hin hts hown hE hI hL hS hl
  refine lv_aload_n hx hb dJ10_copyOf_2_0 rfl (lv_at hl 2 rfl) ?_
  refine va_ldcM hx hb hown (hts _ q473) hE.Mi dJ10_copyOf_2_1 ?_
  refine lv_acmp_ne (rx := some (eK E 7)) (ry := some (eK E 7)) (tgt := 13) hx hb dJ10_copyOf_2_3 (by decide) (fun c1 => ?_) (fun c1 => ?_)
  · exact absurd rfl c1
  · refine lv_iload_n hx hb dJ10_copyOf_2_6 rfl (lv_at hl 1 rfl) ?_
    refine g_anew u hx hb hts hown q475 hE hI hS hL k2 rfl (by omega) (Nat.le_of_ble_eq_true rfl) (by show 0 + k2 ≤ 36; omega) dJ10_copyOf_2_7 (fun q H hnq hI hS => ?_)
    have nq : a0 ≠ q := g_fne hnq hg
    have hg0 := hg
    have hg : gU G q (u, rO E k2 (fun _ => none)) a0 = some (t0, rO E n0 f) := gU_ne nq hg
    have hq : gU G q (u, rO E k2 (fun _ => none)) q = some (u, rO E k2 (fun _ => none)) := gU_self
    refine lv_goto (tgt := 24) hx hb dJ10_copyOf_2_10 (by decide) ?_
    refine lv_astore_n (lv' := [(3, .ref q), (0, .ref a0), (1, .int (nI k2)), (2, .ref (eK E 7))]) hx hb dJ10_copyOf_2_24 rfl hl (by decide) rfl (fun ls hl => ?_)
    refine lv_aload_n hx hb dJ10_copyOf_2_25 rfl (lv_at hl 1 rfl) ?_
    refine lv_iconst (v := 0) hx hb dJ10_copyOf_2_26 (by decide) ?_
    refine lv_aload_n hx hb dJ10_copyOf_2_27 rfl (lv_at hl 0 rfl) ?_
    refine lv_iconst (v := 0) hx hb dJ10_copyOf_2_28 (by decide) ?_
    refine lv_aload_n hx hb dJ10_copyOf_2_29 rfl (lv_at hl 1 rfl) ?_
    refine g_alen hx hb hE hI hg 1 rfl dJ10_copyOf_2_30 ?_
    refine lv_iload_n hx hb dJ10_copyOf_2_31 rfl (lv_at hl 2 rfl) ?_
    refine va_mmin hx hb (hml.trans hl.1.symm) hown (hts _ q476) (hts _ q477) (hts _ q44) (hts _ q478) (Nat.le_of_ble_eq_true rfl) (Nat.le_of_ble_eq_true rfl) ((by first | exact Nat.le_of_ble_eq_true rfl | omega | (dsimp only; omega))) ((by first | exact Nat.le_of_ble_eq_true rfl | omega | (dsimp only; omega))) dJ10_copyOf_2_32 ?_
    have em : (if nI k2 < nI n0 then nI k2 else nI n0) = nI n0 := if_neg (nI_nlt h1 (by omega))
    rw [em]
    refine g_copyq (ci := ci) hx hb (hml.trans hl.1.symm) hts hown q479 q481 q480 q46 hE hI hS hL hg hq hc n0 rfl (Nat.le_refl _) h1 (by omega) (fun i hi y hy => ?_) (Nat.le_of_ble_eq_true rfl) (Nat.le_of_ble_eq_true rfl) dJ10_copyOf_2_35 (fun H locs hI hS => ?_)
    · obtain ⟨t9, fs9, h9⟩ := hel i hi y hy
      exact ⟨t9, fs9, gU_ne (g_fne hnq h9) h9⟩
    refine lv_aload_n hx hb dJ10_copyOf_2_38 rfl (lv_at hl 0 rfl) ?_
    exact g_aret hx hb hr (Or.inr ⟨_, rfl⟩) hlk hI hS dJ10_copyOf_2_39 (by first | exact Nat.le_of_ble_eq_true rfl | omega | (dsimp only; omega)) (by first | exact Nat.le_of_ble_eq_true rfl | omega | (dsimp only; omega)) (⟨hnq, by rw [gU_gU]⟩)
set_option maxHeartbeats 4000000 in
set_option maxRecDepth 100000 in
theorem m_copyOf (l : Launch) (E : EnvT) (G : Gh) (t0 u : Tg) (a0 n0 k2 ci : Nat) (f : Nat → Option Nat) (r : vw_C) (hg : G a0 = some (t0, rO E n0 f)) (hc : vwCl[ci]? = some r) (h1 : n0 ≤ k2) (h2 : k2 ≤ 36) (hel : ∀ i : Nat, i < n0 → ∀ y : Nat, f i = some y → ∃ (t : Tg) (fs : List Value), G y = some (t, .inr (ci, fs))) : Met l yJ10_copyOf (ws_ yJ10_copyOf cJ10_copyOf 2 (some (.array (.object "java/lang/Object")))) ({ frames := 2, cells := 1, slots := 36, locals := 63 } : Room) (cP E G [.ref a0, .int (nI k2)]) (cR E (fun q G' => G q = none ∧ G' = gU G q (u, rO E k2 (va_cpy f (fun _ => none) 0 0 n0)))) 1 36 (eA E) := by
  refine g_met (rm := ({ frames := 2, cells := 1, slots := 36, locals := 63 } : Room)) (av := [.ref a0, .int (nI k2)]) (lv := [(0, .ref a0), (1, .int (nI k2))]) (by decide) (Nat.le_of_ble_eq_true rfl) rfl ?_
  intro p e s m below meth c ls hx hb hr hlk hml hin hts hown hE hI hL hS hl
  refine lv_aload_n hx hb dJ10_copyOf_0 rfl (lv_at hl 0 rfl) ?_
  refine lv_iload_n hx hb dJ10_copyOf_1 rfl (lv_at hl 1 rfl) ?_
  refine lv_aload_n hx hb dJ10_copyOf_2 rfl (lv_at hl 0 rfl) ?_
  refine va_getC (C := "[Ljava/lang/Object;") hx hb (hml.trans hl.1.symm) hown (hts _ q449) (hE.use q1073 rfl) (hts _ q1072) (hts _ q450) (hts _ q469) hE.Mi (g_recvA hE hI hg) (Nat.le_of_ble_eq_true rfl) (Nat.le_of_ble_eq_true rfl) dJ10_copyOf_3 ?_
  refine g_cr hS (va_runS (As := [.ref a0, .int (nI k2), .ref (eK E 7)]) (rest := []) ⟨hx, hb, hml, hown, hts⟩ (m_copyOf2 l E G t0 u a0 n0 k2 ci f r hg hc h1 h2 hel) (va_cwS 3 hts (lw_S q470 q471 q45 q472) rfl rfl rfl (by decide +kernel) ⟨Nat.le_of_ble_eq_true rfl, Nat.le_of_ble_eq_true rfl⟩) (g_preS hE hI) rfl rfl hl.1 rfl (lv_room (Nat.le_of_ble_eq_true rfl)) dJ10_copyOf_6 ⟨Nat.le_of_ble_eq_true rfl, Nat.le_of_ble_eq_true rfl⟩) (fun q G1 H locs hp hI hS => ?_)
  exact g_aret hx hb hr (Or.inr ⟨_, rfl⟩) hlk hI hS dJ10_copyOf_9 (Nat.le_of_ble_eq_true rfl) (Nat.le_of_ble_eq_true rfl) hp
theorem growN : ∀ n, n < 24 → 0 < n → nI n + (if nI n + 1 - nI n < nI n >>> ((1 : Int32) &&& 31) then nI n >>> ((1 : Int32) &&& 31) else nI n + 1 - nI n) = nI (n + max 1 (n / 2)) := by decide +kernel
set_option maxHeartbeats 4000000 in
set_option maxRecDepth 100000 in
theorem m_grow2 (l : Launch) (E : EnvT) (G : Gh) (tl ta : Tg) (a el n ci : Nat) (mo : Int32) (ad : Nat → Nat) (f : Nat → Option Nat) (r : vw_C) (htt : tl ≠ ta) (hg : G a = some (tl, aO mo el (nI n))) (hful : (n = 0 ∧ el = eK E 6) ∨ (0 < n ∧ G el = some (ta, rO E n f))) (hf : ∀ k, k < n → f k = some (ad k)) (hn : n ≤ 23) (hc : vwCl[ci]? = some r) (hel : ∀ k, k < n → ∃ (t : Tg) (fs : List Value), G (ad k) = some (t, .inr (ci, fs))) : Met l yJ2_grow_2 (ws_ yJ2_grow_2 cJ2_grow_2 4 (some (.array (.object "java/lang/Object")))) ({ frames := 3, cells := 1, slots := 36, locals := 84 } : Room) (cP E G [.ref a, .int (nI n + 1)]) (cR E (fun q G' => ∃ (cap : Nat) (g : Nat → Option Nat), G q = none ∧ n < cap ∧ cap ≤ 36 ∧ (∀ k, k < n → g k = some (ad k)) ∧ G' = gU (gU G q (ta, rO E cap g)) a (tl, aO mo q (nI n)))) 1 36 (eA E) := by
  refine g_met (rm := ({ frames := 3, cells := 1, slots := 36, locals := 84 } : Room)) (av := [.ref a, .int (nI n + 1)]) (lv := [(0, .ref a), (1, .int (nI n + 1))]) (by decide) (Nat.le_of_ble_eq_true rfl) rfl ?_
  intro p e s m below meth c ls hx hb hr hlk hml hin hts hown hE hI hL hS hl
  refine lv_aload_n hx hb dJ2_grow_2_0 rfl (lv_at hl 0 rfl) ?_
  refine g_get (C := RJ2) (T := TJ2) (N := 3) (v := .ref el) hx hb hts in_J2 hown hE hI hg rfl 1 (by decide) q80 (fun _ h9 => h9) rfl dJ2_grow_2_1 ?_
  rcases hful with ⟨h0, h1⟩ | ⟨h0, h1⟩
  · subst h1
    refine g_tlen hx hb hE.St.2.1 hL hS dJ2_grow_2_4 ?_
    refine lv_istore_n (lv' := [(2, .int (nI 0)), (0, .ref a), (1, .int (nI n + 1))]) hx hb dJ2_grow_2_5 rfl hl (by decide) rfl (fun ls hl => ?_)
    refine lv_iload_n hx hb dJ2_grow_2_6 rfl (lv_at hl 0 rfl) ?_
    refine lv_if_gt (tgt := 20) hx hb dJ2_grow_2_7 (by decide) (fun c1 => ?_) (fun c1 => ?_)
    · exact absurd c1 (by decide)
    · refine lv_aload_n hx hb dJ2_grow_2_10 rfl (lv_at hl 1 rfl) ?_
      refine g_get (C := RJ2) (T := TJ2) (N := 3) (v := .ref (eK E 6)) hx hb hts in_J2 hown hE hI hg rfl 1 (by decide) q80 (fun _ h9 => h9) rfl dJ2_grow_2_11 ?_
      refine g_gets (C := "java/util/ArrayList") hx hb hts hE.St.1 hL hS hown q78 (fun _ h9 => h9) dJ2_grow_2_14 ?_
      refine lv_acmp_eq (rx := some (eK E 6)) (ry := some (eK E 6)) (tgt := 45) hx hb dJ2_grow_2_17 (by decide) (fun c2 => ?_) (fun c2 => ?_)
      · refine lv_aload_n hx hb dJ2_grow_2_45 rfl (lv_at hl 1 rfl) ?_
        refine lv_bipush (v := 10) hx hb dJ2_grow_2_46 (by decide) ?_
        refine lv_iload_n hx hb dJ2_grow_2_48 rfl (lv_at hl 2 rfl) ?_
        refine va_mmax hx hb (hml.trans hl.1.symm) hown (hts _ q482) (hts _ q440) (hts _ q44) (hts _ q441) (Nat.le_of_ble_eq_true rfl) (Nat.le_of_ble_eq_true rfl) (Nat.le_of_ble_eq_true rfl) (Nat.le_of_ble_eq_true rfl) dJ2_grow_2_49 ?_
        have em : (if (10 : Int32) < nI n + 1 then nI n + 1 else 10) = nI 10 := by subst h0; decide
        rw [em]
        refine g_anew ta hx hb hts hown q483 hE hI hS hL 10 rfl (by omega) (Nat.le_of_ble_eq_true rfl) (Nat.le_of_ble_eq_true rfl) dJ2_grow_2_52 (fun q H hnq hI hS => ?_)
        have nq : a ≠ q := g_fne hnq hg
        have hg := gU_ne (x := (ta, rO E 10 (fun _ => none))) nq hg
        refine lv_dup_x1 hx hb dJ2_grow_2_55 rfl rfl ?_
        refine g_put (C := RJ2) (T := TJ2) (N := 3) (v := .ref q) (ty := .array (.object "java/lang/Object")) (fs' := [.int mo, .ref q, .int (nI n)]) hx hb hts in_J2 tyJ2 tyJ2_ok nmJ2 hown hE hI hS hL hg rfl 1 (by decide) q80 (fun _ h9 => h9) rfl (by decide +kernel) rfl rfl (Nat.le_of_ble_eq_true rfl) rfl dJ2_grow_2_56 (fun H locs hI hS => ?_)
        have hg : (gU (gU G q (ta, rO E 10 (fun _ => none))) a (tl, .inr (6, [.int mo, .ref q, .int (nI n)]))) a = some (tl, .inr (6, [.int mo, .ref q, .int (nI n)])) := gU_self
        exact g_aret hx hb hr (Or.inr ⟨_, rfl⟩) hlk hI hS dJ2_grow_2_59 (Nat.le_of_ble_eq_true rfl) (Nat.le_of_ble_eq_true rfl) (⟨10, fun _ => none, hnq, by omega, by omega, fun k hk => by omega, rfl⟩)
      · exact absurd rfl c2
  · refine g_alen hx hb hE hI h1 1 rfl dJ2_grow_2_4 ?_
    refine lv_istore_n (lv' := [(2, .int (nI n)), (0, .ref a), (1, .int (nI n + 1))]) hx hb dJ2_grow_2_5 rfl hl (by decide) rfl (fun ls hl => ?_)
    refine lv_iload_n hx hb dJ2_grow_2_6 rfl (lv_at hl 0 rfl) ?_
    refine lv_if_gt (tgt := 20) hx hb dJ2_grow_2_7 (by decide) (fun c1 => ?_) (fun c1 => ?_)
    · refine lv_iload_n hx hb dJ2_grow_2_20 rfl (lv_at hl 0 rfl) ?_
      refine lv_iload_n hx hb dJ2_grow_2_21 rfl (lv_at hl 2 rfl) ?_
      refine lv_iload_n hx hb dJ2_grow_2_22 rfl (lv_at hl 0 rfl) ?_
      refine lv_isub hx hb dJ2_grow_2_23 ?_
      refine lv_iload_n hx hb dJ2_grow_2_24 rfl (lv_at hl 0 rfl) ?_
      refine lv_iconst (v := 1) hx hb dJ2_grow_2_25 (by decide) ?_
      refine lv_ishr hx hb dJ2_grow_2_26 ?_
      have eg := growN n (by omega) h0
      have hm : n + max 1 (n / 2) ≤ 36 ∧ n < n + max 1 (n / 2) := by omega
      refine g_ci0 (G := G) (v := (nI n + (if nI n + 1 - nI n < nI n >>> ((1 : Int32) &&& 31) then nI n >>> ((1 : Int32) &&& 31) else nI n + 1 - nI n))) hS (va_runS (As := [.int (nI n), .int ((nI n + 1) - nI n), .int (nI n >>> (1 &&& 31))]) (rest := []) ⟨hx, hb, hml, hown, hts⟩ (m_newLen l E G (nI n) (nI n + 1 - nI n) (nI n >>> ((1 : Int32) &&& 31)) (by rw [eg]; exact nI_nle (by omega) (by omega)) (by rw [eg]; exact nI_nlt (a := 2147483639) (b := n + max 1 (n / 2)) (by omega) (by omega))) (va_cwS 3 hts (lw_S q436 q437 q43 q438) rfl rfl rfl (by decide +kernel) ⟨Nat.le_of_ble_eq_true rfl, Nat.le_of_ble_eq_true rfl⟩) (g_preS hE hI) rfl rfl hl.1 rfl (lv_room (Nat.le_of_ble_eq_true rfl)) dJ2_grow_2_27 ⟨Nat.le_of_ble_eq_true rfl, Nat.le_of_ble_eq_true rfl⟩) (fun H locs hI hS => ?_)
      rw [eg]
      generalize n + max 1 (n / 2) = k2 at hm ⊢
      refine lv_istore_n (lv' := [(3, .int (nI k2)), (2, .int (nI n)), (0, .ref a), (1, .int (nI n + 1))]) hx hb dJ2_grow_2_30 rfl hl (by decide) rfl (fun ls hl => ?_)
      refine lv_aload_n hx hb dJ2_grow_2_31 rfl (lv_at hl 2 rfl) ?_
      refine lv_aload_n hx hb dJ2_grow_2_32 rfl (lv_at hl 2 rfl) ?_
      refine g_get (C := RJ2) (T := TJ2) (N := 3) (v := .ref el) hx hb hts in_J2 hown hE hI hg rfl 1 (by decide) q80 (fun _ h9 => h9) rfl dJ2_grow_2_33 ?_
      refine lv_iload_n hx hb dJ2_grow_2_36 rfl (lv_at hl 0 rfl) ?_
      refine g_cr hS (va_runS (As := [.ref el, .int (nI k2)]) (rest := [.ref a]) ⟨hx, hb, hml, hown, hts⟩ (m_copyOf l E G ta ta el n k2 ci f r h1 hc (by omega) hm.1 (fun i hi y hy => by rw [hf i hi] at hy; cases hy; exact hel i hi)) (va_cwS 2 hts (lw_S q446 q447 q45 q448) rfl rfl rfl (by decide +kernel) ⟨Nat.le_of_ble_eq_true rfl, Nat.le_of_ble_eq_true rfl⟩) (g_preS hE hI) rfl rfl hl.1 rfl (lv_room (Nat.le_of_ble_eq_true rfl)) dJ2_grow_2_37 ⟨Nat.le_of_ble_eq_true rfl, Nat.le_of_ble_eq_true rfl⟩) (fun q G1 H locs hp hI hS => ?_)
      obtain ⟨hnq, rfl⟩ := hp
      have nq : a ≠ q := g_fne hnq hg
      have hg := gU_ne (x := (ta, rO E k2 (va_cpy f (fun _ => none) 0 0 n))) nq hg
      refine lv_dup_x1 hx hb dJ2_grow_2_40 rfl rfl ?_
      refine g_put (C := RJ2) (T := TJ2) (N := 3) (v := .ref q) (ty := .array (.object "java/lang/Object")) (fs' := [.int mo, .ref q, .int (nI n)]) hx hb hts in_J2 tyJ2 tyJ2_ok nmJ2 hown hE hI hS hL hg rfl 1 (by decide) q80 (fun _ h9 => h9) rfl (by decide +kernel) rfl rfl (Nat.le_of_ble_eq_true rfl) rfl dJ2_grow_2_41 (fun H locs hI hS => ?_)
      have hg : (gU (gU G q (ta, rO E k2 (va_cpy f (fun _ => none) 0 0 n))) a (tl, .inr (6, [.int mo, .ref q, .int (nI n)]))) a = some (tl, .inr (6, [.int mo, .ref q, .int (nI n)])) := gU_self
      exact g_aret hx hb hr (Or.inr ⟨_, rfl⟩) hlk hI hS dJ2_grow_2_44 (Nat.le_of_ble_eq_true rfl) (Nat.le_of_ble_eq_true rfl) (⟨k2, va_cpy f (fun _ => none) 0 0 n, hnq, hm.2, hm.1, fun k hk => (pk_cpy_in (Nat.zero_le k) (by omega)).trans (by simpa using hf k hk), rfl⟩)
    · exact absurd (show (0 : Int32) < nI n from nI_lt (a := 0) h0 (by omega)) c1
set_option maxHeartbeats 4000000 in
set_option maxRecDepth 100000 in
theorem m_grow (l : Launch) (E : EnvT) (G : Gh) (tl ta : Tg) (a el n ci : Nat) (mo : Int32) (ad : Nat → Nat) (f : Nat → Option Nat) (r : vw_C) (htt : tl ≠ ta) (hg : G a = some (tl, aO mo el (nI n))) (hful : (n = 0 ∧ el = eK E 6) ∨ (0 < n ∧ G el = some (ta, rO E n f))) (hf : ∀ k, k < n → f k = some (ad k)) (hn : n ≤ 23) (hc : vwCl[ci]? = some r) (hel : ∀ k, k < n → ∃ (t : Tg) (fs : List Value), G (ad k) = some (t, .inr (ci, fs))) : Met l yJ2_grow (ws_ yJ2_grow cJ2_grow 1 (some (.array (.object "java/lang/Object")))) ({ frames := 4, cells := 1, slots := 36, locals := 107 } : Room) (cP E G [.ref a]) (cR E (fun q G' => ∃ (cap : Nat) (g : Nat → Option Nat), G q = none ∧ n < cap ∧ cap ≤ 36 ∧ (∀ k, k < n → g k = some (ad k)) ∧ G' = gU (gU G q (ta, rO E cap g)) a (tl, aO mo q (nI n)))) 1 36 (eA E) := by
  refine g_met (rm := ({ frames := 4, cells := 1, slots := 36, locals := 107 } : Room)) (av := [.ref a]) (lv := [(0, .ref a)]) (by decide) (Nat.le_of_ble_eq_true rfl) rfl ?_
  intro p e s m below meth c ls hx hb hr hlk hml hin hts hown hE hI hL hS hl
  refine lv_aload_n hx hb dJ2_grow_0 rfl (lv_at hl 0 rfl) ?_
  refine lv_aload_n hx hb dJ2_grow_1 rfl (lv_at hl 0 rfl) ?_
  refine g_get (C := RJ2) (T := TJ2) (N := 3) (v := .int (nI n)) hx hb hts in_J2 hown hE hI hg rfl 2 (by decide) q81 (fun _ h9 => h9) rfl dJ2_grow_2 ?_
  refine lv_iconst (v := 1) hx hb dJ2_grow_5 (by decide) ?_
  refine lv_iadd hx hb dJ2_grow_6 ?_
  refine g_cr hS (va_runV (As := [.int (nI n + 1)]) (rest := []) ⟨hx, hb, hml, hown, hts⟩ (m_grow2 l E G tl ta a el n ci mo ad f r htt hg hful hf hn hc hel) (cwV 1 hts (lw_V q432 q434 qs7 q34 q435) rfl rfl rfl (by decide +kernel) ⟨Nat.le_of_ble_eq_true rfl, Nat.le_of_ble_eq_true rfl⟩) (g_preV hE hI (g_recv hE hI hg rfl)) rfl rfl hl.1 rfl (lv_room (Nat.le_of_ble_eq_true rfl)) dJ2_grow_7 ⟨Nat.le_of_ble_eq_true rfl, Nat.le_of_ble_eq_true rfl⟩) (fun q G1 H locs hp hI hS => ?_)
  exact g_aret hx hb hr (Or.inr ⟨_, rfl⟩) hlk hI hS dJ2_grow_10 (Nat.le_of_ble_eq_true rfl) (Nat.le_of_ble_eq_true rfl) hp
theorem add_done {E : EnvT} {G : Gh} {tl ta : Tg} {a el n cap v : Nat} {mo : Int32} {ad : Nat → Nat} {f : Nat → Option Nat} (htt : tl ≠ ta) (hg : G a = some (tl, aO mo el (nI n))) (hg2 : G el = some (ta, rO E cap f)) (hn : n < cap) (h36 : cap ≤ 36) (hf : ∀ k, k < n → f k = some (ad k)) :
    LRep E (gU (gU G el (ta, rO E cap (va_up f n (some v)))) a (tl, aO mo el (nI n + 1))) tl ta a el (n + 1) (va_up ad n v) ∧ Fr (fun t => t = tl ∨ t = ta) G (gU (gU G el (ta, rO E cap (va_up f n (some v)))) a (tl, aO mo el (nI n + 1))) := by
  have ne : el ≠ a := g_ne hg hg2 (Ne.symm htt)
  have hg3 : gU G el (ta, rO E cap (va_up f n (some v))) a = some (tl, aO mo el (nI n)) := gU_ne (Ne.symm ne) hg
  refine ⟨⟨mo, cap, va_up f n (some v), by rw [nI_1]; exact gU_self, by omega, h36, fun k hk => ?_, Or.inr ⟨by omega, gU_ne ne gU_self⟩⟩, Fr.trans (Fr.put hg2 (Or.inr rfl)) (Fr.put hg3 (Or.inl rfl))⟩
  by_cases z : k = n
  · subst z
    rw [va_up_self, va_up_self]
  · rw [va_up_ne _ _ z, va_up_ne _ _ z]
    exact hf k (by omega)
set_option maxHeartbeats 4000000 in
set_option maxRecDepth 100000 in
theorem m_add2 (l : Launch) (E : EnvT) (G : Gh) (mo : Int32) (cap : Nat) (f : Nat → Option Nat) (tl ta : Tg) (a el n : Nat) (ad : Nat → Nat) (hg : G a = some (tl, aO mo el (nI n))) (hcap : n ≤ cap) (hc36 : cap ≤ 36) (hf : ∀ k, k < n → f k = some (ad k)) (hor : (cap = 0 ∧ el = eK E 6) ∨ (0 < cap ∧ G el = some (ta, rO E cap f))) (v ci : Nat) (tv : Tg) (fsv : List Value) (r : vw_C) (htt : tl ≠ ta) (hvl : tv ≠ tl) (hva : tv ≠ ta) (hv : G v = some (tv, .inr (ci, fsv))) (hc : vwCl[ci]? = some r) (hn : n ≤ 23) (hel : ∀ k, k < n → ∃ (t : Tg) (fs : List Value), t ≠ tl ∧ G (ad k) = some (t, .inr (ci, fs))) : Met l yJ2_add_2 (ws_ yJ2_add_2 cJ2_add_2 4 none) ({ frames := 5, cells := 1, slots := 36, locals := 127 } : Room) (cP E G [.ref a, .ref v, .ref el, .int (nI n)]) (cV E (fun G' => ∃ el', LRep E G' tl ta a el' (n + 1) (va_up ad n v) ∧ Fr (fun t => t = tl ∨ t = ta) G G')) 1 36 (eA E) := by
  refine g_met (rm := ({ frames := 5, cells := 1, slots := 36, locals := 127 } : Room)) (av := [.ref a, .ref v, .ref el, .int (nI n)]) (lv := [(0, .ref a), (1, .ref v), (2, .ref el), (3, .int (nI n))]) (by decide) (Nat.le_of_ble_eq_true rfl) rfl ?_
  intro p e s m below meth c ls hx hb hr hlk hml hin hts hown hE hI hL hS hl
  refine lv_iload_n hx hb dJ2_add_2_0 rfl (lv_at hl 3 rfl) ?_
  refine lv_aload_n hx hb dJ2_add_2_1 rfl (lv_at hl 2 rfl) ?_
  rcases hor with ⟨h0, h1⟩ | ⟨h0, h1⟩
  · have hn0 : n = 0 := by omega
    refine g_tlen hx hb (a := el) (by rw [h1]; exact hE.St.2.1) hL hS dJ2_add_2_2 ?_
    refine lv_icmp_ne (tgt := 11) hx hb dJ2_add_2_3 (by decide) (fun c1 => ?_) (fun c1 => ?_)
    · exact absurd (by rw [hn0]) c1
    · refine lv_aload_n hx hb dJ2_add_2_6 rfl (lv_at hl 0 rfl) ?_
      refine g_cr hS (va_runV (As := []) (rest := []) ⟨hx, hb, hml, hown, hts⟩ (m_grow l E G tl ta a el n ci mo ad f r htt hg (Or.inl ⟨hn0, h1⟩) hf hn hc (fun k hk => by omega)) (cwV 0 hts (lw_V q428 q430 qs6 q34 q431) rfl rfl rfl (by decide +kernel) ⟨Nat.le_of_ble_eq_true rfl, Nat.le_of_ble_eq_true rfl⟩) (g_preV hE hI (g_recv hE hI hg rfl)) rfl rfl hl.1 rfl (lv_room (Nat.le_of_ble_eq_true rfl)) dJ2_add_2_7 ⟨Nat.le_of_ble_eq_true rfl, Nat.le_of_ble_eq_true rfl⟩) (fun q G1 H locs hp hI hS => ?_)
      obtain ⟨cap2, g, hnq, k1, k2, k3, rfl⟩ := hp
      have nq : q ≠ a := (g_fne hnq hg).symm
      have nv : v ≠ q := g_fne hnq hv
      have nva : v ≠ a := g_ne hg hv hvl
      have hF1 : Fr (fun t => t = tl ∨ t = ta) G (gU (gU G q (ta, rO E cap2 g)) a (tl, aO mo q (nI n))) := Fr.trans (Fr.new hnq) (Fr.put (t := tl) (e := aO mo el (nI n)) (gU_ne nq.symm hg) (Or.inl rfl))
      have hv : gU (gU G q (ta, rO E cap2 g)) a (tl, aO mo q (nI n)) v = some (tv, .inr (ci, fsv)) := gU_ne nva (gU_ne nv hv)
      have hq : gU (gU G q (ta, rO E cap2 g)) a (tl, aO mo q (nI n)) q = some (ta, rO E cap2 g) := gU_ne nq gU_self
      have hg : gU (gU G q (ta, rO E cap2 g)) a (tl, aO mo q (nI n)) a = some (tl, aO mo q (nI n)) := gU_self
      generalize gU (gU G q (ta, rO E cap2 g)) a (tl, aO mo q (nI n)) = G1 at hI hF1 hv hq hg
      refine lv_astore_n (lv' := [(2, .ref q), (0, .ref a), (1, .ref v), (3, .int (nI n))]) hx hb dJ2_add_2_10 rfl hl (by decide) rfl (fun ls hl => ?_)
      refine lv_aload_n hx hb dJ2_add_2_11 rfl (lv_at hl 0 rfl) ?_
      refine lv_iload_n hx hb dJ2_add_2_12 rfl (lv_at hl 3 rfl) ?_
      refine lv_aload_n hx hb dJ2_add_2_13 rfl (lv_at hl 2 rfl) ?_
      refine g_aast hx hb hE hI hS hL hq hv hc n rfl (by omega) (by omega) dJ2_add_2_14 (fun H locs hI hS => ?_)
      have nel : a ≠ q := g_ne hq hg htt
      have hdn := add_done (v := v) htt hg hq k1 k2 k3
      have hg := gU_ne (x := (ta, rO E cap2 (va_up g n (some v)))) nel hg
      refine lv_aload_n hx hb dJ2_add_2_15 rfl (lv_at hl 1 rfl) ?_
      refine lv_iload_n hx hb dJ2_add_2_16 rfl (lv_at hl 3 rfl) ?_
      refine lv_iconst (v := 1) hx hb dJ2_add_2_17 (by decide) ?_
      refine lv_iadd hx hb dJ2_add_2_18 ?_
      refine g_put (C := RJ2) (T := TJ2) (N := 3) (v := .int (nI n + 1)) (ty := .int) (fs' := [.int mo, .ref q, .int (nI n + 1)]) hx hb hts in_J2 tyJ2 tyJ2_ok nmJ2 hown hE hI hS hL hg rfl 2 (by decide) q81 (fun _ h9 => h9) rfl (by decide +kernel) rfl rfl (Nat.le_of_ble_eq_true rfl) rfl dJ2_add_2_19 (fun H locs hI hS => ?_)
      have hg : (gU (gU G1 q (ta, rO E cap2 (va_up g n (some v)))) a (tl, .inr (6, [.int mo, .ref q, .int (nI n + 1)]))) a = some (tl, .inr (6, [.int mo, .ref q, .int (nI n + 1)])) := gU_self
      exact g_vret hx hb hr hlk hI hS dJ2_add_2_22 (Nat.le_of_ble_eq_true rfl) (Nat.le_of_ble_eq_true rfl) (⟨q, hdn.1, Fr.trans hF1 hdn.2⟩)
  · refine g_alen hx hb hE hI h1 1 rfl dJ2_add_2_2 ?_
    refine lv_icmp_ne (tgt := 11) hx hb dJ2_add_2_3 (by decide) (fun c1 => ?_) (fun c1 => ?_)
    · have hlt : n < cap := (Nat.lt_or_ge n cap).elim id (fun z => absurd (show nI n = nI cap by rw [show n = cap by omega]) c1)
      refine lv_aload_n hx hb dJ2_add_2_11 rfl (lv_at hl 2 rfl) ?_
      refine lv_iload_n hx hb dJ2_add_2_12 rfl (lv_at hl 3 rfl) ?_
      refine lv_aload_n hx hb dJ2_add_2_13 rfl (lv_at hl 1 rfl) ?_
      refine g_aast hx hb hE hI hS hL h1 hv hc n rfl (by omega) (by omega) dJ2_add_2_14 (fun H locs hI hS => ?_)
      have nel : a ≠ el := g_ne h1 hg htt
      have hdn := add_done (v := v) htt hg h1 hlt hc36 hf
      have hg := gU_ne (x := (ta, rO E cap (va_up f n (some v)))) nel hg
      refine lv_aload_n hx hb dJ2_add_2_15 rfl (lv_at hl 0 rfl) ?_
      refine lv_iload_n hx hb dJ2_add_2_16 rfl (lv_at hl 3 rfl) ?_
      refine lv_iconst (v := 1) hx hb dJ2_add_2_17 (by decide) ?_
      refine lv_iadd hx hb dJ2_add_2_18 ?_
      refine g_put (C := RJ2) (T := TJ2) (N := 3) (v := .int (nI n + 1)) (ty := .int) (fs' := [.int mo, .ref el, .int (nI n + 1)]) hx hb hts in_J2 tyJ2 tyJ2_ok nmJ2 hown hE hI hS hL hg rfl 2 (by decide) q81 (fun _ h9 => h9) rfl (by decide +kernel) rfl rfl (Nat.le_of_ble_eq_true rfl) rfl dJ2_add_2_19 (fun H locs hI hS => ?_)
      have hg : (gU (gU G el (ta, rO E cap (va_up f n (some v)))) a (tl, .inr (6, [.int mo, .ref el, .int (nI n + 1)]))) a = some (tl, .inr (6, [.int mo, .ref el, .int (nI n + 1)])) := gU_self
      exact g_vret hx hb hr hlk hI hS dJ2_add_2_22 (Nat.le_of_ble_eq_true rfl) (Nat.le_of_ble_eq_true rfl) (⟨el, hdn.1, hdn.2⟩)
    · have hec : n = cap := (nI_eq (by omega) (by omega)).mp c1
      subst hec
      refine lv_aload_n hx hb dJ2_add_2_6 rfl (lv_at hl 0 rfl) ?_
      refine g_cr hS (va_runV (As := []) (rest := []) ⟨hx, hb, hml, hown, hts⟩ (m_grow l E G tl ta a el n ci mo ad f r htt hg (Or.inr ⟨h0, h1⟩) hf hn hc (fun k hk => by obtain ⟨t9, fs9, -, h9⟩ := hel k hk; exact ⟨t9, fs9, h9⟩)) (cwV 0 hts (lw_V q428 q430 qs6 q34 q431) rfl rfl rfl (by decide +kernel) ⟨Nat.le_of_ble_eq_true rfl, Nat.le_of_ble_eq_true rfl⟩) (g_preV hE hI (g_recv hE hI hg rfl)) rfl rfl hl.1 rfl (lv_room (Nat.le_of_ble_eq_true rfl)) dJ2_add_2_7 ⟨Nat.le_of_ble_eq_true rfl, Nat.le_of_ble_eq_true rfl⟩) (fun q G1 H locs hp hI hS => ?_)
      obtain ⟨cap2, g, hnq, k1, k2, k3, rfl⟩ := hp
      have nq : q ≠ a := (g_fne hnq hg).symm
      have nv : v ≠ q := g_fne hnq hv
      have nva : v ≠ a := g_ne hg hv hvl
      have hF1 : Fr (fun t => t = tl ∨ t = ta) G (gU (gU G q (ta, rO E cap2 g)) a (tl, aO mo q (nI n))) := Fr.trans (Fr.new hnq) (Fr.put (t := tl) (e := aO mo el (nI n)) (gU_ne nq.symm hg) (Or.inl rfl))
      have hv : gU (gU G q (ta, rO E cap2 g)) a (tl, aO mo q (nI n)) v = some (tv, .inr (ci, fsv)) := gU_ne nva (gU_ne nv hv)
      have hq : gU (gU G q (ta, rO E cap2 g)) a (tl, aO mo q (nI n)) q = some (ta, rO E cap2 g) := gU_ne nq gU_self
      have hg : gU (gU G q (ta, rO E cap2 g)) a (tl, aO mo q (nI n)) a = some (tl, aO mo q (nI n)) := gU_self
      generalize gU (gU G q (ta, rO E cap2 g)) a (tl, aO mo q (nI n)) = G1 at hI hF1 hv hq hg
      refine lv_astore_n (lv' := [(2, .ref q), (0, .ref a), (1, .ref v), (3, .int (nI n))]) hx hb dJ2_add_2_10 rfl hl (by decide) rfl (fun ls hl => ?_)
      refine lv_aload_n hx hb dJ2_add_2_11 rfl (lv_at hl 0 rfl) ?_
      refine lv_iload_n hx hb dJ2_add_2_12 rfl (lv_at hl 3 rfl) ?_
      refine lv_aload_n hx hb dJ2_add_2_13 rfl (lv_at hl 2 rfl) ?_
      refine g_aast hx hb hE hI hS hL hq hv hc n rfl (by omega) (by omega) dJ2_add_2_14 (fun H locs hI hS => ?_)
      have nel : a ≠ q := g_ne hq hg htt
      have hdn := add_done (v := v) htt hg hq k1 k2 k3
      have hg := gU_ne (x := (ta, rO E cap2 (va_up g n (some v)))) nel hg
      refine lv_aload_n hx hb dJ2_add_2_15 rfl (lv_at hl 1 rfl) ?_
      refine lv_iload_n hx hb dJ2_add_2_16 rfl (lv_at hl 3 rfl) ?_
      refine lv_iconst (v := 1) hx hb dJ2_add_2_17 (by decide) ?_
      refine lv_iadd hx hb dJ2_add_2_18 ?_
      refine g_put (C := RJ2) (T := TJ2) (N := 3) (v := .int (nI n + 1)) (ty := .int) (fs' := [.int mo, .ref q, .int (nI n + 1)]) hx hb hts in_J2 tyJ2 tyJ2_ok nmJ2 hown hE hI hS hL hg rfl 2 (by decide) q81 (fun _ h9 => h9) rfl (by decide +kernel) rfl rfl (Nat.le_of_ble_eq_true rfl) rfl dJ2_add_2_19 (fun H locs hI hS => ?_)
      have hg : (gU (gU G1 q (ta, rO E cap2 (va_up g n (some v)))) a (tl, .inr (6, [.int mo, .ref q, .int (nI n + 1)]))) a = some (tl, .inr (6, [.int mo, .ref q, .int (nI n + 1)])) := gU_self
      exact g_vret hx hb hr hlk hI hS dJ2_add_2_22 (Nat.le_of_ble_eq_true rfl) (Nat.le_of_ble_eq_true rfl) (⟨q, hdn.1, Fr.trans hF1 hdn.2⟩)
set_option maxHeartbeats 4000000 in
set_option maxRecDepth 100000 in
theorem m_add (l : Launch) (E : EnvT) (G : Gh) (tl ta : Tg) (a el n : Nat) (ad : Nat → Nat) (hR : LRep E G tl ta a el n ad) (v ci : Nat) (tv : Tg) (fsv : List Value) (r : vw_C) (htt : tl ≠ ta) (hvl : tv ≠ tl) (hva : tv ≠ ta) (hv : G v = some (tv, .inr (ci, fsv))) (hc : vwCl[ci]? = some r) (hn : n ≤ 23) (hel : ∀ k, k < n → ∃ (t : Tg) (fs : List Value), t ≠ tl ∧ G (ad k) = some (t, .inr (ci, fs))) : Met l yJ2_add (ws_ yJ2_add cJ2_add 2 (some .boolean)) ({ frames := 6, cells := 1, slots := 36, locals := 150 } : Room) (cP E G [.ref a, .ref v]) (cI E (fun r G' => r = 1 ∧ ∃ el', LRep E G' tl ta a el' (n + 1) (va_up ad n v) ∧ Fr (fun t => t = tl ∨ t = ta) G G')) 1 36 (eA E) := by
  refine g_met (rm := ({ frames := 6, cells := 1, slots := 36, locals := 150 } : Room)) (av := [.ref a, .ref v]) (lv := [(0, .ref a), (1, .ref v)]) (by decide) (Nat.le_of_ble_eq_true rfl) rfl ?_
  intro p e s m below meth c ls hx hb hr hlk hml hin hts hown hE hI hL hS hl
  obtain ⟨mo, cap, f, hg, hcap, hc36, hf, hor⟩ := hR
  have hg0 := hg
  refine lv_aload_n hx hb dJ2_add_0 rfl (lv_at hl 0 rfl) ?_
  refine lv_dup hx hb dJ2_add_1 rfl ?_
  refine g_get (C := RJ2) (T := TJ2) (N := 3) (v := .int mo) hx hb hts in_J2 hown hE hI hg rfl 0 (by decide) q83 (fun x9 h9 => u_same (hts _ q84) x9 h9) rfl dJ2_add_2 ?_
  refine lv_iconst (v := 1) hx hb dJ2_add_5 (by decide) ?_
  refine lv_iadd hx hb dJ2_add_6 ?_
  refine g_put (C := RJ2) (T := TJ2) (N := 3) (v := .int (mo + 1)) (ty := .int) (fs' := [.int (mo + 1), .ref el, .int (nI n)]) hx hb hts in_J2 tyJ2 tyJ2_ok nmJ2 hown hE hI hS hL hg rfl 0 (by decide) q83 (fun x9 h9 => u_same (hts _ q84) x9 h9) rfl (by decide +kernel) rfl rfl (Nat.le_of_ble_eq_true rfl) rfl dJ2_add_7 (fun H locs hI hS => ?_)
  have hg : (gU G a (tl, .inr (6, [.int (mo + 1), .ref el, .int (nI n)]))) a = some (tl, .inr (6, [.int (mo + 1), .ref el, .int (nI n)])) := gU_self
  refine lv_aload_n hx hb dJ2_add_10 rfl (lv_at hl 0 rfl) ?_
  refine lv_aload_n hx hb dJ2_add_11 rfl (lv_at hl 1 rfl) ?_
  refine lv_aload_n hx hb dJ2_add_12 rfl (lv_at hl 0 rfl) ?_
  refine g_get (C := RJ2) (T := TJ2) (N := 3) (v := .ref el) hx hb hts in_J2 hown hE hI hg rfl 1 (by decide) q80 (fun _ h9 => h9) rfl dJ2_add_13 ?_
  refine lv_aload_n hx hb dJ2_add_16 rfl (lv_at hl 0 rfl) ?_
  refine g_get (C := RJ2) (T := TJ2) (N := 3) (v := .int (nI n)) hx hb hts in_J2 hown hE hI hg rfl 2 (by decide) q81 (fun _ h9 => h9) rfl dJ2_add_17 ?_
  have nva : v ≠ a := g_ne hg0 hv hvl
  refine g_cv hS (va_runV (As := [.ref v, .ref el, .int (nI n)]) (rest := []) ⟨hx, hb, hml, hown, hts⟩ (m_add2 l E (gU G a (tl, .inr (6, [.int (mo + 1), .ref el, .int (nI n)]))) (mo + 1) cap f tl ta a el n ad hg hcap hc36 hf (by rcases hor with z | ⟨z1, z2⟩; exact Or.inl z; exact Or.inr ⟨z1, gU_o hg0 z2 (Ne.symm htt)⟩) v ci tv fsv r htt hvl hva (gU_ne nva hv) hc hn (fun k hk => by obtain ⟨t9, fs9, h8, h9⟩ := hel k hk; exact ⟨t9, fs9, h8, gU_o hg0 h9 h8⟩)) (cwV 3 hts (lw_V q424 q426 qs5 q34 q427) rfl rfl rfl (by decide +kernel) ⟨Nat.le_of_ble_eq_true rfl, Nat.le_of_ble_eq_true rfl⟩) (g_preV hE hI (g_recv hE hI hg rfl)) rfl rfl hl.1 rfl (lv_room (Nat.le_of_ble_eq_true rfl)) dJ2_add_20 ⟨Nat.le_of_ble_eq_true rfl, Nat.le_of_ble_eq_true rfl⟩) (fun G1 H locs hp hI hS => ?_)
  obtain ⟨el', h1, h2⟩ := hp
  refine lv_iconst (v := 1) hx hb dJ2_add_23 (by decide) ?_
  exact g_zret hx hb hr hlk hI hS dJ2_add_24 (Nat.le_of_ble_eq_true rfl) (Nat.le_of_ble_eq_true rfl) rfl (⟨rfl, el', h1, Fr.trans (Fr.put hg0 (Or.inl rfl)) h2⟩)
