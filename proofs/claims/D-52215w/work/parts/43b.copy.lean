/-! System.arraycopy of ints; plain laws for the model's writers -/
section GCP
variable {p : Program} {l : Launch} {e : Env} {R : Room} {s : State} {m : MethodId} {args : Array Value} {below : List Frame} {meth : Method} {c : Code} {H : Heap} {locs : List Loc} {cells slots : Nat} {Q : State → Prop}
variable {cc : ByteArray} {pc : Nat} {ls : Array Slot} {rest : List Value} {E : EnvT} {G : Gh} {a : Nat} {t : Tg}
theorem g_copyi (hexec : p.tables.exec = Jvm.exec) (hb : c.code = cc) (hml : c.maxLocals = ls.size) {own : String} {index : Nat} (hts : ∀ w ∈ lw_all, w.before args s = true) (hown : s.vm.findClass own = some m.cls) (hlink : Cond.methodLink own index arraycopyName ∈ lw_all) (hnat : Cond.native arraycopyName ∈ lw_all) (hstat : Cond.static arraycopyName ∈ lw_all) (hini : Cond.initialized "java/lang/System" ∈ lw_all)
    (hE : Env0 E s) (hI : Inv E G H) (hS : va_S (eA E) s.heap H locs) (hL : Lo E s.heap) {a0 n0 n1 : Nat} {f g : Nat → Int32} {t0 : Tg} (h0 : G a0 = some (t0, iO E n0 f)) (h1 : G a = some (t, iO E n1 g))
    {sp dp n : Int32} (s0 d0 k : Nat) (hs : sp = nI s0) (hd : dp = nI d0) (hk : n = nI k) (h4 : s0 + k ≤ n0) (h5 : d0 + k ≤ n1) (hb2 : n0 ≤ 1000) (hb3 : n1 ≤ 1000)
    (hframes : 1 ≤ R.frames) (hlocals : (rest.map fun v => v.category).sum + 40 ≤ R.locals) (hdg : decode cc pc = .ok (.invokestatic index, 3))
    (kk : ∀ (H1 : Heap) (locs1 : List Loc), Inv E (gU G a (t, iO E n1 (va_cpy f g s0 d0 k))) H1 → va_S (eA E) s.heap H1 locs1 → W p l e R s m args below meth c H1 locs1 cells slots Q (F0 m (pc + 3) ls rest)) : W p l e R s m args below meth c H locs cells slots Q (F0 m pc ls (.int n :: .int dp :: .ref a :: .int sp :: .ref a0 :: rest)) := by
  subst hs; subst hd; subst hk
  obtain ⟨-, ws, hP, hD, hG⟩ := hI
  obtain ⟨k9, hk9⟩ := hG a0 t0 _ h0
  obtain ⟨k8, hk8⟩ := hG a t _ h1
  have e1 : (nI s0).toNatClampNeg = s0 := nI_clamp (by omega)
  have e2 : (nI d0).toNatClampNeg = d0 := nI_clamp (by omega)
  have e3 : (nI k).toNatClampNeg = k := nI_clamp (by omega)
  refine va_copyi hexec hb hml hown (hts _ hlink) (hts _ hnat) (hts _ hstat) (hts _ hini) hE.K hP hD hS k9 k8 0 0 hk9 hk8 rfl rfl rfl (nI_pos (by omega)) (nI_pos (by omega)) (nI_pos (by omega)) (by rw [e1, e3]; exact h4) (by rw [e2, e3]; exact h5) (fun i hi => rfl) hframes ?_ hdg (fun H1 locs1 hP1 hD1 hS1 => ?_)
  · have hw : nativeFrameWords "java/lang/System" "arraycopy" 5 ≤ 29 := by decide
    omega
  · rw [e1, e2, e3] at hP1 hD1
    exact kk H1 locs1 (Inv.put (hL.step hS1) hG hD hk8 hP1 hD1) hS1
end GCP
theorem cpy_lamp (dm : Nat → Dm) (nd : Nat) (p0 p1 p2 : Int32) : va_cpy (upd (upd (upd (upd (upd (fun _ => 0) 0 p0) 1 0) 2 0) 3 p1) 4 p2) (lampF dm) 0 (5 * nd) 5 = lampF (va_up dm nd (p0, p1, 0, 0, p2)) := by
  funext k
  unfold va_cpy
  by_cases h : k / 5 = nd
  · obtain ⟨r, hr, rfl⟩ : ∃ r, r < 5 ∧ k = 5 * nd + r := ⟨k % 5, Nat.mod_lt _ (by decide), by omega⟩
    rw [if_pos ⟨by omega, by omega⟩, show 0 + (5 * nd + r - 5 * nd) = r by omega]
    rcases (show r = 0 ∨ r = 1 ∨ r = 2 ∨ r = 3 ∨ r = 4 by omega) with rfl | rfl | rfl | rfl | rfl
    · rw [lampF_0, va_up_self]; rfl
    · rw [lampF_1, va_up_self]; rfl
    · rw [lampF_2, va_up_self]; rfl
    · rw [lampF_3, va_up_self]; rfl
    · rw [lampF_4, va_up_self]; rfl
  · rw [if_neg (by omega)]
    unfold lampF
    rw [va_up_ne _ _ h]
theorem cpy_show (uq : Nat → Um) (nu : Nat) (tm : Int32) (k0 : Nat) (a b : Int32) : va_cpy (upd (upd (upd (upd (fun _ => 0) 0 tm) 1 (nI k0)) 2 a) 3 b) (showF uq) 0 (4 * nu) 4 = showF (va_up uq nu (tm, k0, a, b)) := by
  funext k
  unfold va_cpy
  by_cases h : k / 4 = nu
  · obtain ⟨r, hr, rfl⟩ : ∃ r, r < 4 ∧ k = 4 * nu + r := ⟨k % 4, Nat.mod_lt _ (by decide), by omega⟩
    rw [if_pos ⟨by omega, by omega⟩, show 0 + (4 * nu + r - 4 * nu) = r by omega]
    rcases (show r = 0 ∨ r = 1 ∨ r = 2 ∨ r = 3 by omega) with rfl | rfl | rfl | rfl
    · rw [showF_0, va_up_self]; rfl
    · rw [showF_1, va_up_self]; rfl
    · rw [showF_2, va_up_self]; rfl
    · rw [showF_3, va_up_self]; rfl
  · rw [if_neg (by omega)]
    unfold showF
    rw [va_up_ne _ _ h]
theorem va_up_up {α : Type} (f : Nat → α) (k : Nat) (a b : α) : va_up (va_up f k a) k b = va_up f k b := by
  funext j
  by_cases h : j = k
  · subst h; rw [va_up_self, va_up_self]
  · rw [va_up_ne _ _ h, va_up_ne _ _ h, va_up_ne _ _ h]
