/-! FURTHER ROWS: arrays of references, statics, casts -/
set_option maxRecDepth 100000
theorem castO {E : EnvT} {s : State} (hE : Env0 E s) : ∀ (ci : Nat) (r : vw_C), vwCl[ci]? = some r → va_Nw (.castable r.1 "java/lang/Object") s := by
  intro ci r h
  match ci, h with
  | 0, h => cases h; exact hE.nw q1047 rfl
  | 1, h => cases h; exact hE.nw q1049 rfl
  | 2, h => cases h; exact hE.nw q1053 rfl
  | 3, h => cases h; exact hE.nw q1063 rfl
  | 4, h => cases h; exact hE.nw q1056 rfl
  | 5, h => cases h; exact hE.nw q1062 rfl
  | 6, h => cases h; exact hE.nw q1048 rfl
  | 7, h => cases h; exact hE.nw q1050 rfl
  | n + 8, h => simp at h
section GR3
variable {p : Program} {l : Launch} {e : Env} {R : Room} {s : State} {m : MethodId} {args : Array Value} {below : List Frame} {meth : Method} {c : Code} {H : Heap} {locs : List Loc} {cells slots : Nat} {Q : State → Prop}
variable {cc : ByteArray} {pc : Nat} {ls : Array Slot} {rest : List Value} {E : EnvT} {G : Gh} {a : Nat} {t : Tg}
theorem g_gets (hexec : p.tables.exec = Jvm.exec) (hb : c.code = cc) {C n d own ref : String} {v : Value} {index : Nat} (hts : ∀ w ∈ lw_all, w.before args s = true) (hZ : va_Z C n d v (eA E) s (eH E)) (hL : Lo E s.heap) (hS : va_S (eA E) s.heap H locs) (hown : s.vm.findClass own = some m.cls) (hlink : Cond.fieldLink own index ref n d ∈ lw_all) (hsame : ∀ x, s.fieldFound? C n d = some x → s.fieldFound? ref n d = some x) (hdg : decode cc pc = .ok (.getstatic index, 3))
    (kk : W p l e R s m args below meth c H locs cells slots Q (F0 m (pc + 3) ls (v :: rest))) : W p l e R s m args below meth c H locs cells slots Q (F0 m pc ls rest) :=
  va_gets hexec hb (hZ.kept hL.kept) hS hown (hts _ hlink) hsame hdg kk
theorem g_tlen (hexec : p.tables.exec = Jvm.exec) (hb : c.code = cc) {ty : FieldType} {N a : Nat} {f : Nat → Value} (hT : va_T ty a N f (eA E) s (eH E)) (hL : Lo E s.heap) (hS : va_S (eA E) s.heap H locs) (hdg : decode cc pc = .ok (.arraylength, 1))
    (kk : W p l e R s m args below meth c H locs cells slots Q (F0 m (pc + 1) ls (.int (nI N) :: rest))) : W p l e R s m args below meth c H locs cells slots Q (F0 m pc ls (.ref a :: rest)) :=
  va_tlen hexec hb (hT.kept hL.kept) hS rfl hdg kk
theorem g_aast (hexec : p.tables.exec = Jvm.exec) (hb : c.code = cc) (hE : Env0 E s) (hI : Inv E G H) (hS : va_S (eA E) s.heap H locs) (hL : Lo E s.heap) {n v ci : Nat} {f : Nat → Option Nat} {tv : Tg} {fs : List Value} {r : vw_C} (hg : G a = some (t, .inl (eC E 1, n, .inr (.inr (.inr (.inr f)))))) (hv : G v = some (tv, .inr (ci, fs))) (hc : vwCl[ci]? = some r) {i : Int32} (j : Nat) (hj : i = nI j) (hjn : j < n) (hn : n < 2 ^ 31) (hdg : decode cc pc = .ok (.aastore, 1))
    (kk : ∀ (H1 : Heap) (locs1 : List Loc), Inv E (gU G a (t, .inl (eC E 1, n, .inr (.inr (.inr (.inr (va_up f j (some v)))))))) H1 → va_S (eA E) s.heap H1 locs1 → W p l e R s m args below meth c H1 locs1 cells slots Q (F0 m (pc + 1) ls rest)) : W p l e R s m args below meth c H locs cells slots Q (F0 m pc ls (.ref v :: .int i :: .ref a :: rest)) := by
  subst hj
  obtain ⟨-, ws, hP, hD, hG⟩ := hI
  obtain ⟨k9, hk9⟩ := hG a t _ hg
  obtain ⟨k8, hk8⟩ := hG v tv _ hv
  refine va_astqO (E := "java/lang/Object") hexec hb hE.K hP hD hS k9 1 k8 ci hk9 rfl (castO hE ci r hc) hk8 hc (vp_in_nI hjn hn) hdg (fun H1 locs1 hP1 hD1 hS1 => ?_)
  rw [nI_clamp (Nat.lt_trans hjn hn)] at hP1 hD1
  exact kk H1 locs1 (Inv.put (hL.step hS1) hG hD hk9 hP1 hD1) hS1
theorem g_anew (t : Tg) (hexec : p.tables.exec = Jvm.exec) (hb : c.code = cc) {own : String} {index : Nat} (hts : ∀ w ∈ lw_all, w.before args s = true) (hown : s.vm.findClass own = some m.cls) (hcl : Cond.classLink own index "java/lang/Object" ∈ lw_all) (hE : Env0 E s) (hI : Inv E G H) (hS : va_S (eA E) s.heap H locs) (hL : Lo E s.heap)
    {n : Int32} (N' : Nat) (hN : n = nI N') (hb2 : N' ≤ 1000) (hcells : cells + 1 ≤ R.cells) (hslots : slots + N' ≤ R.slots) (hdg : decode cc pc = .ok (.anewarray index, 3))
    (kk : ∀ (q : Nat) (H1 : Heap), G q = none → Inv E (gU G q (t, .inl (eC E 1, N', .inr (.inr (.inr (.inr (fun _ => none))))))) H1 → va_S (eA E) s.heap H1 locs →
      W p l e R s m args below meth c H1 locs (cells + 1) (slots + N') Q (F0 m (pc + 3) ls (.ref q :: rest))) : W p l e R s m args below meth c H locs cells slots Q (F0 m pc ls (.int n :: rest)) := by
  subst hN
  have hK := hE.K
  obtain ⟨-, ws, hP, hD, hG⟩ := hI
  refine va_newq (N' := N') hexec hb hown (hts _ hcl) hE.AO hK hP hD hS (fun q h => Nat.le_trans hL.1 h) (nI_pos (by omega)) (nI_clamp (by omega)) (by omega) hcells hslots hdg (fun q cA H1 hK1 hP1 hD1 hS1 => ?_)
  have e1 : s.vm.findClass "[Ljava/lang/Object;" = some cA := va_nmO (hK1.2 5 (cA, .object "java/lang/Object") rfl).2 (by decide +kernel)
  have e2 : s.vm.findClass "[Ljava/lang/Object;" = some (eC E 1) := va_nmO (hK.2 1 (eC E 1, .object "java/lang/Object") rfl).2 (by decide +kernel)
  cases Option.some.inj (e1.symm.trans e2)
  obtain ⟨h1, h2⟩ := Inv.add (t' := t) (hL.step hS1) hG hP1 hD1
  exact kk q H1 h2 h1 hS1
/-- System.arraycopy of references, all of one class, from the start of one array to the start of another -/
theorem g_copyq (hexec : p.tables.exec = Jvm.exec) (hb : c.code = cc) (hml : c.maxLocals = ls.size) {own : String} {index : Nat} (hts : ∀ w ∈ lw_all, w.before args s = true) (hown : s.vm.findClass own = some m.cls) (hlink : Cond.methodLink own index arraycopyName ∈ lw_all) (hnat : Cond.native arraycopyName ∈ lw_all) (hstat : Cond.static arraycopyName ∈ lw_all) (hini : Cond.initialized "java/lang/System" ∈ lw_all)
    (hE : Env0 E s) (hI : Inv E G H) (hS : va_S (eA E) s.heap H locs) (hL : Lo E s.heap) {a0 n0 n1 ci : Nat} {f g : Nat → Option Nat} {t0 : Tg} {r : vw_C} (h0 : G a0 = some (t0, .inl (eC E 1, n0, .inr (.inr (.inr (.inr f)))))) (h1 : G a = some (t, .inl (eC E 1, n1, .inr (.inr (.inr (.inr g)))))) (hc : vwCl[ci]? = some r)
    {n : Int32} (k : Nat) (hk : n = nI k) (hk0 : k ≤ n0) (hk1 : k ≤ n1) (hb2 : k ≤ 1000) (hel : ∀ i : Nat, i < k → ∀ y : Nat, f i = some y → ∃ (t : Tg) (fs : List Value), G y = some (t, .inr (ci, fs)))
    (hframes : 1 ≤ R.frames) (hlocals : (rest.map fun v => v.category).sum + 40 ≤ R.locals) (hdg : decode cc pc = .ok (.invokestatic index, 3))
    (kk : ∀ (H1 : Heap) (locs1 : List Loc), Inv E (gU G a (t, .inl (eC E 1, n1, .inr (.inr (.inr (.inr (va_cpy f g 0 0 k))))))) H1 → va_S (eA E) s.heap H1 locs1 → W p l e R s m args below meth c H1 locs1 cells slots Q (F0 m (pc + 3) ls rest)) : W p l e R s m args below meth c H locs cells slots Q (F0 m pc ls (.int n :: .int 0 :: .ref a :: .int 0 :: .ref a0 :: rest)) := by
  subst hk
  have hI0 := hI
  obtain ⟨-, ws, hP, hD, hG⟩ := hI
  obtain ⟨k9, hk9⟩ := hG a0 t0 _ h0
  obtain ⟨k8, hk8⟩ := hG a t _ h1
  have ec : (nI k).toNatClampNeg = k := nI_clamp (by omega)
  have e0 : (0 : Int32).toNatClampNeg = 0 := by decide
  have hcast := castO hE ci r hc
  refine va_copyq (E0 := "java/lang/Object") (E1 := "java/lang/Object") (C := r.1) hexec hb hml hown (hts _ hlink) (hts _ hnat) (hts _ hstat) (hts _ hini) hE.K hP hD hS k9 k8 1 1 hk9 hk8 rfl rfl (by decide) (by decide) (nI_pos (by omega)) (by rw [ec, e0]; omega) (by rw [ec, e0]; omega) (fun i hi y hy => ?_) (fun comp c0 f1 f2 => ?_) hframes ?_ hdg (fun H1 locs1 hP1 hD1 hS1 => ?_)
  · rw [ec] at hi
    rw [e0, Nat.zero_add] at hy
    obtain ⟨t9, fs9, h9⟩ := hel i hi y hy
    exact g_recv hE hI0 h9 hc
  · obtain ⟨c1, t1, z1, z2, z3⟩ := Cond.castable_spec (va_Nw.use (A := args) rfl hcast)
    cases Option.some.inj (z1.symm.trans f2)
    cases Option.some.inj (z2.symm.trans f1)
    exact z3
  · have hw : nativeFrameWords "java/lang/System" "arraycopy" 5 ≤ 29 := by decide
    omega
  · rw [ec, e0] at hP1 hD1
    exact kk H1 locs1 (Inv.put (hL.step hS1) hG hD hk8 hP1 hD1) hS1
/-- a cast to the object's own class -/
theorem g_cast (hexec : p.tables.exec = Jvm.exec) (hb : c.code = cc) {own nm : String} {index ci : Nat} {fs : List Value} {q : vw_C} (hts : ∀ w ∈ lw_all, w.before args s = true) (hown : s.vm.findClass own = some m.cls) (hlink : Cond.classLink own index nm ∈ lw_all) (hE : Env0 E s) (hI : Inv E G H) (hg : G a = some (t, .inr (ci, fs))) (hc : vwCl[ci]? = some q) (hn : q.1 = nm) (hdg : decode cc pc = .ok (.checkcast index, 3))
    (kk : W p l e R s m args below meth c H locs cells slots Q (F0 m (pc + 3) ls (.ref a :: rest))) : W p l e R s m args below meth c H locs cells slots Q (F0 m pc ls (.ref a :: rest)) := by
  subst hn
  exact va_castS hexec hb hown (hts _ hlink) (hE.K.1 ci q hc).2 (g_recv hE hI hg hc) hdg kk
end GR3
