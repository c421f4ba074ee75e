/-! CONTRACTS of StarConsole's checks (require .., known). Printed by gen/p27.py -/
set_option maxRecDepth 100000
abbrev xIAE : String := "java/lang/IllegalArgumentException"
theorem at_IAE {args : Array Value} {s : State} {E : EnvT} (hts : ∀ w ∈ lw_all, w.before args s = true) (hE : Env0 E s) : ∀ w ∈ vx_at0 RX1 3 xIAE ["java/lang/RuntimeException", "java/lang/Exception"], w.before args s = true := by
  intro w hw
  have h1 := (List.mem_filter.mp hw).1
  have h2 := (List.mem_filter.mp hw).2
  simp only [Bundle.ownAtoms0, Bundle.throwableAtoms, Bundle.chain0Atoms, Bundle.passAtoms, List.mem_append, List.mem_cons, List.not_mem_nil, or_false, or_assoc] at h1
  rcases h1 with rfl | rfl | rfl | rfl | rfl | rfl | rfl | rfl | rfl | rfl | rfl | rfl | rfl | rfl | rfl | rfl | rfl | rfl | rfl | rfl | rfl | rfl | rfl | rfl | rfl | rfl | rfl | rfl | rfl | rfl | rfl | rfl | rfl | rfl | rfl | rfl | rfl | rfl | rfl | rfl | rfl | rfl | rfl | rfl | rfl | rfl | rfl | rfl | rfl | rfl | rfl | rfl | rfl
  · exact hts _ q37
  · exact hts _ q332
  · exact hts _ q341
  · exact hts _ q346
  · exact hts _ q349
  · exact hts _ q351
  · exact hts _ q333
  · exact hts _ q334
  · exact hts _ q64
  · exact hts _ q65
  · exact hts _ q335
  · exact hts _ q340
  · exact hts _ q347
  · exact hts _ q364
  · exact hts _ q322
  · exact hts _ q365
  · exact hts _ q324
  · exact hts _ q366
  · exact hts _ q326
  · exact hts _ q336
  · exact absurd h2 (by decide +kernel)
  · exact hts _ q338
  · exact absurd h2 (by decide +kernel)
  · exact hts _ q328
  · exact hts _ q353
  · exact hts _ q354
  · exact hts _ q355
  · exact hts _ q356
  · exact hE.use q313 rfl
  · exact hts _ q356
  · exact hts _ q357
  · exact hts _ q358
  · exact hts _ q359
  · exact hE.use q315 rfl
  · exact hts _ q359
  · exact hts _ q360
  · exact hts _ q361
  · exact hts _ q333
  · exact hE.use q317 rfl
  · exact hts _ q352
  · exact hts _ q311
  · exact hE.use q312 rfl
  · exact hts _ q319
  · exact hts _ q320
  · exact hts _ q321
  · exact hts _ q323
  · exact hts _ q325
  · exact hts _ q327
  · exact absurd h2 (by decide +kernel)
  · exact absurd h2 (by decide +kernel)
  · exact hts _ q331
  · exact hts _ q330
  · exact hts _ q329
theorem ot_IAE : ∀ w ∈ vx_at0 RX1 3 xIAE ["java/lang/RuntimeException", "java/lang/Exception"], vx_ot w = true := List.all_eq_true.mp (by decide +kernel)
abbrev xISE : String := "java/lang/IllegalStateException"
theorem at_ISE {args : Array Value} {s : State} {E : EnvT} (hts : ∀ w ∈ lw_all, w.before args s = true) (hE : Env0 E s) : ∀ w ∈ vx_at0 RX1 9 xISE ["java/lang/RuntimeException", "java/lang/Exception"], w.before args s = true := by
  intro w hw
  have h1 := (List.mem_filter.mp hw).1
  have h2 := (List.mem_filter.mp hw).2
  simp only [Bundle.ownAtoms0, Bundle.throwableAtoms, Bundle.chain0Atoms, Bundle.passAtoms, List.mem_append, List.mem_cons, List.not_mem_nil, or_false, or_assoc] at h1
  rcases h1 with rfl | rfl | rfl | rfl | rfl | rfl | rfl | rfl | rfl | rfl | rfl | rfl | rfl | rfl | rfl | rfl | rfl | rfl | rfl | rfl | rfl | rfl | rfl | rfl | rfl | rfl | rfl | rfl | rfl | rfl | rfl | rfl | rfl | rfl | rfl | rfl | rfl | rfl | rfl | rfl | rfl | rfl | rfl | rfl | rfl | rfl | rfl | rfl | rfl | rfl | rfl | rfl | rfl
  · exact hts _ q37
  · exact hts _ q332
  · exact hts _ q341
  · exact hts _ q346
  · exact hts _ q349
  · exact hts _ q351
  · exact hts _ q333
  · exact hts _ q334
  · exact hts _ q64
  · exact hts _ q65
  · exact hts _ q335
  · exact hts _ q340
  · exact hts _ q347
  · exact hts _ q364
  · exact hts _ q322
  · exact hts _ q365
  · exact hts _ q324
  · exact hts _ q366
  · exact hts _ q326
  · exact hts _ q336
  · exact absurd h2 (by decide +kernel)
  · exact hts _ q338
  · exact absurd h2 (by decide +kernel)
  · exact hts _ q328
  · exact hts _ q388
  · exact hts _ q389
  · exact hts _ q390
  · exact hts _ q356
  · exact hE.use q313 rfl
  · exact hts _ q356
  · exact hts _ q357
  · exact hts _ q358
  · exact hts _ q359
  · exact hE.use q315 rfl
  · exact hts _ q359
  · exact hts _ q360
  · exact hts _ q361
  · exact hts _ q333
  · exact hE.use q317 rfl
  · exact hts _ q387
  · exact hts _ q379
  · exact hE.use q380 rfl
  · exact hts _ q381
  · exact hts _ q344
  · exact hts _ q382
  · exact hts _ q383
  · exact hts _ q384
  · exact hts _ q385
  · exact absurd h2 (by decide +kernel)
  · exact absurd h2 (by decide +kernel)
  · exact hts _ q331
  · exact hts _ q330
  · exact hts _ q386
theorem ot_ISE : ∀ w ∈ vx_at0 RX1 9 xISE ["java/lang/RuntimeException", "java/lang/Exception"], vx_ot w = true := List.all_eq_true.mp (by decide +kernel)
abbrev xIOB : String := "java/lang/IndexOutOfBoundsException"
theorem at_IOB {args : Array Value} {s : State} {E : EnvT} (hts : ∀ w ∈ lw_all, w.before args s = true) (hE : Env0 E s) : ∀ w ∈ vx_at0 RX1 12 xIOB ["java/lang/RuntimeException", "java/lang/Exception"], w.before args s = true := by
  intro w hw
  have h1 := (List.mem_filter.mp hw).1
  have h2 := (List.mem_filter.mp hw).2
  simp only [Bundle.ownAtoms0, Bundle.throwableAtoms, Bundle.chain0Atoms, Bundle.passAtoms, List.mem_append, List.mem_cons, List.not_mem_nil, or_false, or_assoc] at h1
  rcases h1 with rfl | rfl | rfl | rfl | rfl | rfl | rfl | rfl | rfl | rfl | rfl | rfl | rfl | rfl | rfl | rfl | rfl | rfl | rfl | rfl | rfl | rfl | rfl | rfl | rfl | rfl | rfl | rfl | rfl | rfl | rfl | rfl | rfl | rfl | rfl | rfl | rfl | rfl | rfl | rfl | rfl | rfl | rfl | rfl | rfl | rfl | rfl | rfl | rfl | rfl | rfl | rfl | rfl
  · exact hts _ q37
  · exact hts _ q332
  · exact hts _ q341
  · exact hts _ q346
  · exact hts _ q349
  · exact hts _ q351
  · exact hts _ q333
  · exact hts _ q334
  · exact hts _ q64
  · exact hts _ q65
  · exact hts _ q335
  · exact hts _ q340
  · exact hts _ q347
  · exact hts _ q364
  · exact hts _ q322
  · exact hts _ q365
  · exact hts _ q324
  · exact hts _ q366
  · exact hts _ q326
  · exact hts _ q336
  · exact absurd h2 (by decide +kernel)
  · exact hts _ q338
  · exact absurd h2 (by decide +kernel)
  · exact hts _ q328
  · exact hts _ q548
  · exact hts _ q549
  · exact hts _ q550
  · exact hts _ q356
  · exact hE.use q313 rfl
  · exact hts _ q356
  · exact hts _ q357
  · exact hts _ q358
  · exact hts _ q359
  · exact hE.use q315 rfl
  · exact hts _ q359
  · exact hts _ q360
  · exact hts _ q361
  · exact hts _ q333
  · exact hE.use q317 rfl
  · exact hts _ q547
  · exact hts _ q539
  · exact hE.use q540 rfl
  · exact hts _ q541
  · exact hts _ q345
  · exact hts _ q542
  · exact hts _ q543
  · exact hts _ q544
  · exact hts _ q545
  · exact absurd h2 (by decide +kernel)
  · exact absurd h2 (by decide +kernel)
  · exact hts _ q331
  · exact hts _ q330
  · exact hts _ q546
theorem ot_IOB : ∀ w ∈ vx_at0 RX1 12 xIOB ["java/lang/RuntimeException", "java/lang/Exception"], vx_ot w = true := List.all_eq_true.mp (by decide +kernel)
set_option maxHeartbeats 4000000 in
set_option maxRecDepth 100000 in
theorem m_require (l : Launch) (E : EnvT) (G : Gh) (hst : l.stackTraces = false) (z : Int32) : vx_Met l yX1_require (ws_ yX1_require cX1_require 1 none) ({ frames := 6, cells := 1, slots := 6, locals := 81 } : Room) (cP E G [.int z]) (cV E (fun G' => ¬ z = 0 ∧ G' = G)) (cX E (fun X G' => X = xIAE ∧ z = 0 ∧ G' = G)) 1 6 (eA E) := by
  refine g_xmet (rm := ({ frames := 6, cells := 1, slots := 6, locals := 81 } : Room)) (av := [.int z]) (lv := [(0, .int z)]) (by decide) (Nat.le_of_ble_eq_true rfl) rfl ?_
  intro p e s m below meth c ls hx hb hr hlk hml hno hts hown hE hI hL hS hl
  refine lv_iload_n hx hb dX1_require_0 rfl (lv_at hl 0 rfl) ?_
  refine lv_if_ne (tgt := 12) hx hb dX1_require_1 (by decide) (fun c1 => ?_) (fun c1 => ?_)
  · refine vx_ret ?_
    exact g_vret hx hb hr hlk hI hS dX1_require_12 (Nat.le_of_ble_eq_true rfl) (Nat.le_of_ble_eq_true rfl) (⟨c1, rfl⟩)
  · exact g_throw (cls := xIAE) (names := ["java/lang/RuntimeException", "java/lang/Exception"]) hx hb hst hts hown (by decide) (by decide) q310 q40 (at_IAE hts hE) ot_IAE hE hI hL hS (hl.1.trans hml.symm) dX1_require_4 dX1_require_7 dX1_require_8 dX1_require_11 hno (Nat.le_of_ble_eq_true rfl) (Nat.le_of_ble_eq_true rfl) (Nat.le_of_ble_eq_true rfl) (Nat.le_of_ble_eq_true rfl) hlk (Nat.le_of_ble_eq_true rfl) (Nat.le_of_ble_eq_true rfl) (⟨rfl, c1, rfl⟩)
set_option maxHeartbeats 4000000 in
set_option maxRecDepth 100000 in
theorem m_requireState (l : Launch) (E : EnvT) (G : Gh) (hst : l.stackTraces = false) (z : Int32) : vx_Met l yX1_requireState (ws_ yX1_requireState cX1_requireState 1 none) ({ frames := 6, cells := 1, slots := 6, locals := 81 } : Room) (cP E G [.int z]) (cV E (fun G' => ¬ z = 0 ∧ G' = G)) (cX E (fun X G' => X = xISE ∧ z = 0 ∧ G' = G)) 1 6 (eA E) := by
  refine g_xmet (rm := ({ frames := 6, cells := 1, slots := 6, locals := 81 } : Room)) (av := [.int z]) (lv := [(0, .int z)]) (by decide) (Nat.le_of_ble_eq_true rfl) rfl ?_
  intro p e s m below meth c ls hx hb hr hlk hml hno hts hown hE hI hL hS hl
  refine lv_iload_n hx hb dX1_requireState_0 rfl (lv_at hl 0 rfl) ?_
  refine lv_if_ne (tgt := 12) hx hb dX1_requireState_1 (by decide) (fun c1 => ?_) (fun c1 => ?_)
  · refine vx_ret ?_
    exact g_vret hx hb hr hlk hI hS dX1_requireState_12 (Nat.le_of_ble_eq_true rfl) (Nat.le_of_ble_eq_true rfl) (⟨c1, rfl⟩)
  · exact g_throw (cls := xISE) (names := ["java/lang/RuntimeException", "java/lang/Exception"]) hx hb hst hts hown (by decide) (by decide) q378 q41 (at_ISE hts hE) ot_ISE hE hI hL hS (hl.1.trans hml.symm) dX1_requireState_4 dX1_requireState_7 dX1_requireState_8 dX1_requireState_11 hno (Nat.le_of_ble_eq_true rfl) (Nat.le_of_ble_eq_true rfl) (Nat.le_of_ble_eq_true rfl) (Nat.le_of_ble_eq_true rfl) hlk (Nat.le_of_ble_eq_true rfl) (Nat.le_of_ble_eq_true rfl) (⟨rfl, c1, rfl⟩)
set_option maxHeartbeats 4000000 in
set_option maxRecDepth 100000 in
theorem m_requireIndex (l : Launch) (E : EnvT) (G : Gh) (hst : l.stackTraces = false) (i n : Int32) : vx_Met l yX1_requireIndex (ws_ yX1_requireIndex cX1_requireIndex 2 none) ({ frames := 6, cells := 1, slots := 6, locals := 81 } : Room) (cP E G [.int i, .int n]) (cV E (fun G' => ¬ i < 0 ∧ i < n ∧ G' = G)) (cX E (fun X G' => X = xIOB ∧ (i < 0 ∨ n ≤ i) ∧ G' = G)) 1 6 (eA E) := by
  refine g_xmet (rm := ({ frames := 6, cells := 1, slots := 6, locals := 81 } : Room)) (av := [.int i, .int n]) (lv := [(0, .int i), (1, .int n)]) (by decide) (Nat.le_of_ble_eq_true rfl) rfl ?_
  intro p e s m below meth c ls hx hb hr hlk hml hno hts hown hE hI hL hS hl
  refine lv_iload_n hx hb dX1_requireIndex_0 rfl (lv_at hl 0 rfl) ?_
  refine lv_if_lt (tgt := 9) hx hb dX1_requireIndex_1 (by decide) (fun c1 => ?_) (fun c1 => ?_)
  · exact g_throw (cls := xIOB) (names := ["java/lang/RuntimeException", "java/lang/Exception"]) hx hb hst hts hown (by decide) (by decide) q538 q47 (at_IOB hts hE) ot_IOB hE hI hL hS (hl.1.trans hml.symm) dX1_requireIndex_9 dX1_requireIndex_12 dX1_requireIndex_13 dX1_requireIndex_16 hno (Nat.le_of_ble_eq_true rfl) (Nat.le_of_ble_eq_true rfl) (Nat.le_of_ble_eq_true rfl) (Nat.le_of_ble_eq_true rfl) hlk (Nat.le_of_ble_eq_true rfl) (Nat.le_of_ble_eq_true rfl) (⟨rfl, Or.inl c1, rfl⟩)
  · refine lv_iload_n hx hb dX1_requireIndex_4 rfl (lv_at hl 0 rfl) ?_
    refine lv_iload_n hx hb dX1_requireIndex_5 rfl (lv_at hl 1 rfl) ?_
    refine lv_icmp_lt (tgt := 17) hx hb dX1_requireIndex_6 (by decide) (fun c2 => ?_) (fun c2 => ?_)
    · refine vx_ret ?_
      exact g_vret hx hb hr hlk hI hS dX1_requireIndex_17 (Nat.le_of_ble_eq_true rfl) (Nat.le_of_ble_eq_true rfl) (⟨c1, c2, rfl⟩)
    · exact g_throw (cls := xIOB) (names := ["java/lang/RuntimeException", "java/lang/Exception"]) hx hb hst hts hown (by decide) (by decide) q538 q47 (at_IOB hts hE) ot_IOB hE hI hL hS (hl.1.trans hml.symm) dX1_requireIndex_9 dX1_requireIndex_12 dX1_requireIndex_13 dX1_requireIndex_16 hno (Nat.le_of_ble_eq_true rfl) (Nat.le_of_ble_eq_true rfl) (Nat.le_of_ble_eq_true rfl) (Nat.le_of_ble_eq_true rfl) hlk (Nat.le_of_ble_eq_true rfl) (Nat.le_of_ble_eq_true rfl) (⟨rfl, Or.inr (Int32.not_lt.mp c2), rfl⟩)
set_option maxHeartbeats 4000000 in
set_option maxRecDepth 100000 in
theorem m_requireFrom (l : Launch) (E : EnvT) (G : Gh) (hst : l.stackTraces = false) (lo hi v : Int32) : vx_Met l yX1_requireFrom (ws_ yX1_requireFrom cX1_requireFrom 3 none) ({ frames := 7, cells := 1, slots := 6, locals := 101 } : Room) (cP E G [.int lo, .int hi, .int v]) (cV E (fun G' => ¬ isInV v lo hi = 0 ∧ G' = G)) (cX E (fun X G' => X = xIAE ∧ isInV v lo hi = 0 ∧ G' = G)) 1 6 (eA E) := by
  refine g_xmet (rm := ({ frames := 7, cells := 1, slots := 6, locals := 101 } : Room)) (av := [.int lo, .int hi, .int v]) (lv := [(0, .int lo), (1, .int hi), (2, .int v)]) (by decide) (Nat.le_of_ble_eq_true rfl) rfl ?_
  intro p e s m below meth c ls hx hb hr hlk hml hno hts hown hE hI hL hS hl
  refine lv_iload_n hx hb dX1_requireFrom_0 rfl (lv_at hl 2 rfl) ?_
  refine lv_iload_n hx hb dX1_requireFrom_1 rfl (lv_at hl 0 rfl) ?_
  refine lv_iload_n hx hb dX1_requireFrom_2 rfl (lv_at hl 1 rfl) ?_
  refine g_ci0 (G := G) (v := isInV v lo hi) hS (va_runS (As := [.int v, .int lo, .int hi]) (rest := []) ⟨hx, hb, hml, hown, hts⟩ (m_isIn l E G v lo hi) (va_cwS 3 hts (lw_S q304 q305 q31 q306) rfl rfl rfl (by decide +kernel) ⟨Nat.le_of_ble_eq_true rfl, Nat.le_of_ble_eq_true rfl⟩) (g_preS hE hI) rfl rfl hl.1 rfl (lv_room (Nat.le_of_ble_eq_true rfl)) dX1_requireFrom_3 ⟨Nat.le_of_ble_eq_true rfl, Nat.le_of_ble_eq_true rfl⟩) (fun H locs hI hS => ?_)
  refine g_xv hS (vx_runS (As := [.int (isInV v lo hi)]) (rest := []) ⟨hx, hb, hml, hown, hts⟩ (m_require l E G hst (isInV v lo hi)) (va_cwS 1 hts (lw_S q307 q308 q31 q309) rfl rfl rfl (by decide +kernel) ⟨Nat.le_of_ble_eq_true rfl, Nat.le_of_ble_eq_true rfl⟩) (g_preS hE hI) rfl rfl hl.1 rfl (lv_room (Nat.le_of_ble_eq_true rfl)) dX1_requireFrom_6 ⟨Nat.le_of_ble_eq_true rfl, Nat.le_of_ble_eq_true rfl⟩) (fun X ce q9 G1 H locs hp hI hS k1 k2 k3 => ?_) (fun G1 H locs hp hI hS => ?_)
  · obtain ⟨rfl, hc, hG1⟩ := hp
    exact g_xout hno hlk hI hS k1 k2 k3 (Nat.le_of_ble_eq_true rfl) (Nat.le_of_ble_eq_true rfl) (⟨rfl, hc, hG1⟩)
  · obtain ⟨hc, hG1⟩ := hp
    rw [hG1] at hI
    refine vx_ret ?_
    exact g_vret hx hb hr hlk hI hS dX1_requireFrom_9 (Nat.le_of_ble_eq_true rfl) (Nat.le_of_ble_eq_true rfl) (⟨hc, rfl⟩)
set_option maxHeartbeats 4000000 in
set_option maxRecDepth 100000 in
theorem m_known (l : Launch) (E : EnvT) (G : Gh) (hst : l.stackTraces = false) (tl ta : Tg) (a el n : Nat) (ad : Nat → Nat) (hR : LRep E G tl ta a el n ad) (i : Int32) : vx_Met l yX1_known (ws_ yX1_known cX1_known 2 (some (.object "java/lang/Object"))) ({ frames := 7, cells := 1, slots := 6, locals := 102 } : Room) (cP E G [.ref a, .int i]) (cQ E (fun r G' => ∃ k, k < n ∧ i = nI k ∧ r = ad k ∧ G' = G)) (cX E (fun X G' => X = xIOB ∧ (i < 0 ∨ nI n ≤ i) ∧ G' = G)) 1 6 (eA E) := by
  refine g_xmet (rm := ({ frames := 7, cells := 1, slots := 6, locals := 102 } : Room)) (av := [.ref a, .int i]) (lv := [(0, .ref a), (1, .int i)]) (by decide) (Nat.le_of_ble_eq_true rfl) rfl ?_
  intro p e s m below meth c ls hx hb hr hlk hml hno hts hown hE hI hL hS hl
  refine lv_iload_n hx hb dX1_known_0 rfl (lv_at hl 1 rfl) ?_
  refine lv_aload_n hx hb dX1_known_1 rfl (lv_at hl 0 rfl) ?_
  refine g_cFi0 (G := G) (v := nI n) hS (va_runF (C := RJ2) (cC := (eD E).1 6) (As := []) (rest := [.int i]) (hE.K.1 6 _ rfl).2 ⟨hx, hb, hml, hown, hts⟩ (m_size l E G tl ta a el n ad hR) (va_cwF 0 hts (lw_F q528 q532 q162 q34 q164) rfl rfl rfl hE.Fs (by decide +kernel) ⟨Nat.le_of_ble_eq_true rfl, Nat.le_of_ble_eq_true rfl⟩) (g_preV hE hI (hR.recv hE hI)) rfl rfl hl.1 rfl (lv_room (Nat.le_of_ble_eq_true rfl)) dX1_known_2 ⟨Nat.le_of_ble_eq_true rfl, Nat.le_of_ble_eq_true rfl⟩) (fun H locs hI hS => ?_)
  refine g_xv hS (vx_runS (As := [.int i, .int (nI n)]) (rest := []) ⟨hx, hb, hml, hown, hts⟩ (m_requireIndex l E G hst i (nI n)) (va_cwS 2 hts (lw_S q535 q536 q31 q537) rfl rfl rfl (by decide +kernel) ⟨Nat.le_of_ble_eq_true rfl, Nat.le_of_ble_eq_true rfl⟩) (g_preS hE hI) rfl rfl hl.1 rfl (lv_room (Nat.le_of_ble_eq_true rfl)) dX1_known_7 ⟨Nat.le_of_ble_eq_true rfl, Nat.le_of_ble_eq_true rfl⟩) (fun X ce q9 G1 H locs hp hI hS k1 k2 k3 => ?_) (fun G1 H locs hp hI hS => ?_)
  · obtain ⟨rfl, hc, hG1⟩ := hp
    exact g_xout hno hlk hI hS k1 k2 k3 (Nat.le_of_ble_eq_true rfl) (Nat.le_of_ble_eq_true rfl) (⟨rfl, hc, hG1⟩)
  · obtain ⟨h1, h2, hG1⟩ := hp
    rw [hG1] at hI
    have hn36 := hR.n36
    obtain ⟨k, hk, rfl⟩ : ∃ k, k < n ∧ i = nI k := by obtain ⟨k, hk0, rfl⟩ := nI_of h1; exact ⟨k, (nI_ltI hk0 (by omega)).mp h2, rfl⟩
    refine lv_aload_n hx hb dX1_known_10 rfl (lv_at hl 0 rfl) ?_
    refine lv_iload_n hx hb dX1_known_11 rfl (lv_at hl 1 rfl) ?_
    refine g_cFr0 (G := G) (v := ad k) hS (va_runF (C := RJ2) (cC := (eD E).1 6) (As := [.int (nI k)]) (rest := []) (hE.K.1 6 _ rfl).2 ⟨hx, hb, hml, hown, hts⟩ (m_get l E G tl ta a el n ad hR k hk) (va_cwF 1 hts (lw_F q554 q557 q166 q34 q168) rfl rfl rfl hE.Fg (by decide +kernel) ⟨Nat.le_of_ble_eq_true rfl, Nat.le_of_ble_eq_true rfl⟩) (g_preV hE hI (hR.recv hE hI)) rfl rfl hl.1 rfl (lv_room (Nat.le_of_ble_eq_true rfl)) dX1_known_12 ⟨Nat.le_of_ble_eq_true rfl, Nat.le_of_ble_eq_true rfl⟩) (fun H locs hI hS => ?_)
    refine vx_ret ?_
    exact g_qret hx hb hr (Or.inl ⟨_, rfl⟩) hlk hI hS dX1_known_17 (Nat.le_of_ble_eq_true rfl) (Nat.le_of_ble_eq_true rfl) (⟨k, hk, rfl, rfl, rfl⟩)
