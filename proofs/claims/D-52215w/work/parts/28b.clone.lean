/-! CLONES: of the kinds' static array, of an int array -/
set_option maxRecDepth 100000
section GCL
variable {p : Program} {l : Launch} {e : Env} {R : Room} {s : State} {m : MethodId} {args : Array Value} {below : List Frame} {meth : Method} {c : Code} {H : Heap} {locs : List Loc} {cells slots : Nat} {Q : State → Prop}
variable {cc : ByteArray} {pc : Nat} {ls : Array Slot} {rest : List Value} {E : EnvT} {G : Gh} {a : Nat} {t : Tg}
abbrev clN (ad : String) : MethodName := ⟨ad, "clone", "()Ljava/lang/Object;"⟩
theorem g_cloneK (t : Tg) (hexec : p.tables.exec = Jvm.exec) (hb : c.code = cc) (hml : c.maxLocals = ls.size) {own : String} {index : Nat} (hts : ∀ w ∈ lw_all, w.before args s = true) (hown : s.vm.findClass own = some m.cls)
    (hlink : Cond.methodLink own index (clN "[LStarConsole$Kind;") ∈ lw_all) (hsame : Cond.sameMethod "[LStarConsole$Kind;" "java/lang/Object" "clone" "()Ljava/lang/Object;" ∈ lw_all) (hnat : Cond.native (clN "java/lang/Object") ∈ lw_all) (hinst : Cond.instanceMethod (clN "java/lang/Object") ∈ lw_all)
    (hsel : Cond.selects "[LStarConsole$Kind;" (clN "[LStarConsole$Kind;") (clN "java/lang/Object") ∈ lw_all) (hcl : Cond.castable "[LStarConsole$Kind;" "java/lang/Cloneable" ∈ lw_tbl)
    (hE : Env0 E s) (hI : Inv E G H) (hS : va_S (eA E) s.heap H locs) (hL : Lo E s.heap) (hframes : 1 ≤ R.frames) (hlocals : (rest.map fun v => v.category).sum + 14 ≤ R.locals) (hcells : cells + 1 ≤ R.cells) (hslots : slots + 5 ≤ R.slots) (hdg : decode cc pc = .ok (.invokevirtual index, 3))
    (kk : ∀ (q : Nat) (H1 : Heap), G q = none → Inv E (gU G q (t, .inl (eC E 4, arrK E))) H1 → va_S (eA E) s.heap H1 locs → W p l e R s m args below meth c H1 locs (cells + 1) (slots + 5) Q (F0 m (pc + 3) ls (.ref q :: rest))) : W p l e R s m args below meth c H locs cells slots Q (F0 m pc ls (.ref (eK E 5) :: rest)) := by
  have hK := hE.K
  have hlo := hI.1
  obtain ⟨-, ws, hP, hD, hG⟩ := hI
  have h5 : eK E 5 < (eH E).size := hE.klt 5 (by omega)
  have hc0 : s.heap[eK E 5]? = some (vp_cell (eC E 4) (arrK E)) := by rw [hL.2 _ h5]; exact hE.vals
  have hc1 : H[eK E 5]? = some (vp_cell (eC E 4) (arrK E)) := by rw [hlo.2 _ h5]; exact hE.vals
  have hP2 : va_P (eD E) vwCl (ws ++ [(eK E 5, .inl (eC E 4, arrK E))]) H := hP.app (fun k q hk => by
    match k, hk with
    | 0, hk => cases hk; exact hc1
    | k + 1, hk => simp at hk)
  have hD2 : va_D (fun q => eA E q ∨ q = eK E 5) (ws ++ [(eK E 5, .inl (eC E 4, arrK E))]) := by
    have key : ∀ (k : Nat) (q : Nat × va_E), (ws ++ [(eK E 5, (.inl (eC E 4, arrK E) : va_E))])[k]? = some q → (k < ws.length ∧ ws[k]? = some q) ∨ (k = ws.length ∧ q.1 = eK E 5) := by
      intro k q hk
      by_cases hl : k < ws.length
      · rw [List.getElem?_append_left hl] at hk; exact Or.inl ⟨hl, hk⟩
      · rw [List.getElem?_append_right (by omega)] at hk
        have hz : k - ws.length < 1 := (List.getElem?_eq_some_iff.mp hk).1
        rw [show k - ws.length = 0 by omega] at hk
        cases hk
        exact Or.inr ⟨by omega, rfl⟩
    refine ⟨fun i j x y hi hj hxy => ?_, fun k q hk => ?_⟩
    · rcases key i x hi with ⟨l1, h1⟩ | ⟨l1, h1⟩ <;> rcases key j y hj with ⟨l2, h2⟩ | ⟨l2, h2⟩
      · exact hD.1 i j x y h1 h2 hxy
      · have hx : (eH E).size ≤ x.1 := hD.2 i x h1
        omega
      · have hy : (eH E).size ≤ y.1 := hD.2 j y h2
        omega
      · omega
    · rcases key k q hk with ⟨l1, h1⟩ | ⟨l1, h1⟩
      · exact Or.inl (hD.2 k q h1)
      · exact Or.inr h1
  have hS2 : va_S (fun q => eA E q ∨ q = eK E 5) s.heap H locs := ⟨hS.1, fun q h1 h2 => hS.2.1 q h1 (fun z => h2 (Or.inl z)), fun q hq => Or.inl (hS.2.2 q hq)⟩
  have hnm : s.vm.findClass "[LStarConsole$Kind;" = some (eC E 4) := va_nmO (hK.2 4 (eC E 4, .object "StarConsole$Kind") rfl).2 (by decide +kernel)
  have hw : (ws ++ [(eK E 5, (.inl (eC E 4, arrK E) : va_E))])[ws.length]? = some (eK E 5, .inl (eC E 4, arrK E)) := by simp
  refine va_clone (ad := "[LStarConsole$Kind;") hexec hb hml hown (hts _ hlink) (hts _ hsame) (hts _ hnat) (hts _ hinst) (hts _ hsel) (hE.nw hcl rfl) hK hP2 hD2 hS2 (fun q h => Or.inl (Nat.le_trans hL.1 h)) ws.length 4 hw rfl hnm (va_fit (n := 5) (fun i _ => rfl)) hframes hlocals hcells hslots hdg (fun q H1 hK1 hP1 hD1 hS1 => ?_)
  have hw1 : ((ws ++ [(eK E 5, (.inl (eC E 4, arrK E) : va_E))]) ++ [(q, .inl (eC E 4, arrK E))])[ws.length]? = some (eK E 5, .inl (eC E 4, arrK E)) := by simp
  have hw2 : ((ws ++ [(eK E 5, (.inl (eC E 4, arrK E) : va_E))]) ++ [(q, .inl (eC E 4, arrK E))])[ws.length + 1]? = some (q, .inl (eC E 4, arrK E)) := by simp
  have hq5 : q ≠ eK E 5 := fun z => by have h9 := hD1.1 _ _ _ _ hw2 hw1 z; omega
  have hqA : eA E q := (hD1.2 _ _ hw2).elim id (fun z => absurd z hq5)
  have hS3 : va_S (eA E) s.heap H1 locs := by
    refine ⟨hS1.1, fun q' g1 g2 => ?_, hS.2.2⟩
    by_cases z : q' = eK E 5
    · subst z
      have h9 : H1[eK E 5]? = some (vp_cell (eC E 4) (arrK E)) := hP1 _ _ hw1
      rw [h9, hc0]
    · exact hS1.2.1 q' g1 (fun y => y.elim g2 z)
  have keyA : ∀ (k : Nat) (x : Nat × va_E), (ws ++ [(q, (.inl (eC E 4, arrK E) : va_E))])[k]? = some x → ∃ k', (if k < ws.length then k' = k else k' = k + 1) ∧ ((ws ++ [(eK E 5, (.inl (eC E 4, arrK E) : va_E))]) ++ [(q, .inl (eC E 4, arrK E))])[k']? = some x := by
    intro k x hk
    by_cases hl : k < ws.length
    · rw [List.getElem?_append_left hl] at hk
      exact ⟨k, by rw [if_pos hl], by rw [List.append_assoc, List.getElem?_append_left hl]; exact hk⟩
    · rw [List.getElem?_append_right (by omega)] at hk
      have hz : k - ws.length < 1 := (List.getElem?_eq_some_iff.mp hk).1
      rw [show k - ws.length = 0 by omega] at hk
      cases hk
      refine ⟨k + 1, by rw [if_neg hl], ?_⟩
      rw [show k + 1 = ws.length + 1 by omega]
      exact hw2
  have hP4 : va_P (eD E) vwCl (ws ++ [(q, .inl (eC E 4, arrK E))]) H1 := fun k x hk => by
    obtain ⟨k', -, h9⟩ := keyA k x hk
    exact hP1 k' x h9
  have hD4 : va_D (eA E) (ws ++ [(q, .inl (eC E 4, arrK E))]) := by
    refine ⟨fun i j x y hi hj hxy => ?_, fun k x hk => ?_⟩
    · obtain ⟨i', e1, h1⟩ := keyA i x hi
      obtain ⟨j', e2, h2⟩ := keyA j y hj
      have h9 := hD1.1 i' j' x y h1 h2 hxy
      split at e1 <;> split at e2 <;> omega
    · by_cases hl : k < ws.length
      · rw [List.getElem?_append_left hl] at hk
        exact hD.2 k x hk
      · rw [List.getElem?_append_right (by omega)] at hk
        have hz : k - ws.length < 1 := (List.getElem?_eq_some_iff.mp hk).1
        rw [show k - ws.length = 0 by omega] at hk
        cases hk
        exact hqA
  obtain ⟨h1, h2⟩ := Inv.add (t' := t) (hL.step hS3) hG hP4 hD4
  exact kk q H1 h2 h1 hS3
theorem g_clonei (t : Tg) (hexec : p.tables.exec = Jvm.exec) (hb : c.code = cc) (hml : c.maxLocals = ls.size) {own : String} {index : Nat} (hts : ∀ w ∈ lw_all, w.before args s = true) (hown : s.vm.findClass own = some m.cls)
    (hlink : Cond.methodLink own index (clN "[I") ∈ lw_all) (hsame : Cond.sameMethod "[I" "java/lang/Object" "clone" "()Ljava/lang/Object;" ∈ lw_all) (hnat : Cond.native (clN "java/lang/Object") ∈ lw_all) (hinst : Cond.instanceMethod (clN "java/lang/Object") ∈ lw_all)
    (hsel : Cond.selects "[I" (clN "[I") (clN "java/lang/Object") ∈ lw_all) (hcl : Cond.castable "[I" "java/lang/Cloneable" ∈ lw_tbl)
    (hE : Env0 E s) (hI : Inv E G H) (hS : va_S (eA E) s.heap H locs) (hL : Lo E s.heap) {ta : Tg} {n : Nat} {f : Nat → Int32} (hg : G a = some (ta, .inl (eC E 0, n, .inl f))) (hframes : 1 ≤ R.frames) (hlocals : (rest.map fun v => v.category).sum + 14 ≤ R.locals) (hcells : cells + 1 ≤ R.cells) (hslots : slots + n ≤ R.slots) (hdg : decode cc pc = .ok (.invokevirtual index, 3))
    (kk : ∀ (q : Nat) (H1 : Heap), G q = none → Inv E (gU G q (t, .inl (eC E 0, n, .inl f))) H1 → va_S (eA E) s.heap H1 locs → W p l e R s m args below meth c H1 locs (cells + 1) (slots + n) Q (F0 m (pc + 3) ls (.ref q :: rest))) : W p l e R s m args below meth c H locs cells slots Q (F0 m pc ls (.ref a :: rest)) := by
  have hK := hE.K
  obtain ⟨-, ws, hP, hD, hG⟩ := hI
  obtain ⟨k9, hk9⟩ := hG a ta _ hg
  have hnm : s.vm.findClass "[I" = some (eC E 0) := va_nm_int (hK.2 0 (eC E 0, .int) rfl).2
  refine va_clone (ad := "[I") hexec hb hml hown (hts _ hlink) (hts _ hsame) (hts _ hnat) (hts _ hinst) (hts _ hsel) (hE.nw hcl rfl) hK hP hD hS (fun q h => Nat.le_trans hL.1 h) k9 0 hk9 rfl hnm (va_fit (n := n) (fun i _ => rfl)) hframes hlocals hcells hslots hdg (fun q H1 hK1 hP1 hD1 hS1 => ?_)
  obtain ⟨h1, h2⟩ := Inv.add (t' := t) (hL.step hS1) hG hP1 hD1
  exact kk q H1 h2 h1 hS1
/-- a cast of the fresh array of kinds -/
theorem g_castK (hexec : p.tables.exec = Jvm.exec) (hb : c.code = cc) {own : String} {index : Nat} (hts : ∀ w ∈ lw_all, w.before args s = true) (hown : s.vm.findClass own = some m.cls) (hlink : Cond.classLink own index "[LStarConsole$Kind;" ∈ lw_all) (hE : Env0 E s) (hI : Inv E G H) (hg : G a = some (t, .inl (eC E 4, arrK E))) (hdg : decode cc pc = .ok (.checkcast index, 3))
    (kk : W p l e R s m args below meth c H locs cells slots Q (F0 m (pc + 3) ls (.ref a :: rest))) : W p l e R s m args below meth c H locs cells slots Q (F0 m pc ls (.ref a :: rest)) :=
  va_castA hexec hb hown (hts _ hlink) (hI.one hg) 0 rfl (va_nmO (hE.K.2 4 (eC E 4, .object "StarConsole$Kind") rfl).2 (by decide +kernel)) hdg kk
end GCL
