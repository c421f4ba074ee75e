/-! THE BASE, second: a method's head; calls through interfaces, of abstract methods; throws and catches -/
set_option maxRecDepth 100000
theorem lw_F {own : String} {idx : Nat} {C : String} {x y : MethodName} {b : ByteArray} {L : Nat} {r : Option FieldType} (h1 : Cond.methodLink own idx x ∈ lw_all) (h2 : Cond.selects C x y ∈ lw_all) (h3 : Cond.instanceMethod y ∈ lw_all) (h4 : Cond.initialized y.cls ∈ lw_all) (h5 : Cond.code y b L r ∈ lw_all) : GoodIn lw_all (va_wsF own idx C x y (ws_ y b L r)) := by
  refine lw_app ?_ (lw_meth h5)
  intro w hw
  simp only [List.mem_cons, List.not_mem_nil, or_false] at hw
  rcases hw with e | e | e | e
  · rw [e]; exact h1
  · rw [e]; exact h2
  · rw [e]; exact h3
  · rw [e]; exact h4
theorem lw_U {own : String} {idx : Nat} {C owner : String} {x y : MethodName} {b : ByteArray} {L : Nat} {r : Option FieldType} (h1 : Cond.methodLink own idx x ∈ lw_all) (h0 : Cond.sameMethod x.cls owner x.name x.desc ∈ lw_all) (h2 : Cond.selects C x y ∈ lw_all) (h3 : Cond.instanceMethod y ∈ lw_all) (h4 : Cond.initialized y.cls ∈ lw_all) (h5 : Cond.code y b L r ∈ lw_all) : GoodIn lw_all (va_wsU own idx C owner x y (ws_ y b L r)) := by
  refine lw_app ?_ (lw_meth h5)
  intro w hw
  simp only [List.mem_cons, List.not_mem_nil, or_false] at hw
  rcases hw with e | e | e | e | e
  · rw [e]; exact h1
  · rw [e]; exact h0
  · rw [e]; exact h2
  · rw [e]; exact h3
  · rw [e]; exact h4
/-- a method's head -/
theorem g_met {l : Launch} {E : EnvT} {G : Gh} {y : MethodName} {cc : ByteArray} {maxL : Nat} {ret : Option FieldType} {rm : Room} {av : List Value} {Qc : Array Value → State → Outcome → State → Prop} {mc ms : Nat} (hy : plainName y.cls = true) (hn : (lg_sl av).length ≤ maxL) {lv : List (Nat × Value)} (hlv : lv_args 0 av = lv)
    (body : ∀ (p : Program) (e : Env) (s : State) (m : MethodId) (below : List Frame) (meth : Method) (c : Code) (ls : Array Slot), p.tables.exec = Jvm.exec → c.code = cc → meth.sig.returnType = ret → meth.locks = false → c.maxLocals = maxL → meth.name = y.name → (∀ w ∈ lw_all, w.before av.toArray s = true) → s.vm.findClass y.cls = some m.cls → Env0 E s → Inv E G s.heap → Lo E s.heap → va_S (eA E) s.heap s.heap [] → lv_has ls maxL lv →
      W p l e rm s m av.toArray below meth c s.heap [] 0 0 (MQ below Qc av.toArray s mc ms (eA E)) (F0 m 0 ls [])) : Met l y (ws_ y cc maxL ret) rm (cP E G av) Qc mc ms (eA E) := by
  refine Met.ofW (cc := cc) (maxL := maxL) (ret := ret) hy rfl ?_
  intro p e s m args below meth c s₁ B hml hv
  obtain ⟨rfl, hE, hI⟩ := hv
  have hts := atoms_spec (ws := ws_ y cc maxL ret) B.pre
  have hl := lv_entry av (n := maxL) hn
  rw [lg_entry_eq]
  rw [hlv] at hl
  exact body p e s m below meth c _ B.exec B.bytes B.returns B.notSynchronized hml (name_of_methodNamed B.named B.method).1 (fun w h => hts w (List.mem_cons_of_mem _ h)) (findClass_of_methodNamed B.named) hE hI hI.1 va_S.rf hl
/-- the head of a method that may throw -/
theorem g_xmet {l : Launch} {E : EnvT} {G : Gh} {y : MethodName} {cc : ByteArray} {maxL : Nat} {ret : Option FieldType} {rm : Room} {av : List Value} {Qc : Array Value → State → Outcome → State → Prop} {XC : String → State → State → Prop} {mc ms : Nat} (hy : plainName y.cls = true) (hn : (lg_sl av).length ≤ maxL) {lv : List (Nat × Value)} (hlv : lv_args 0 av = lv)
    (body : ∀ (p : Program) (e : Env) (s : State) (m : MethodId) (below : List Frame) (meth : Method) (c : Code) (ls : Array Slot), p.tables.exec = Jvm.exec → c.code = cc → meth.sig.returnType = ret → meth.locks = false → c.maxLocals = maxL → (∀ x ∈ c.exceptionTable.toList, False) → (∀ w ∈ lw_all, w.before av.toArray s = true) → s.vm.findClass y.cls = some m.cls → Env0 E s → Inv E G s.heap → Lo E s.heap → va_S (eA E) s.heap s.heap [] → lv_has ls maxL lv →
      W p l e rm s m av.toArray below meth c s.heap [] 0 0 (vx_MQ below Qc XC av.toArray s mc ms (eA E)) (F0 m 0 ls [])) : vx_Met l y (ws_ y cc maxL ret) rm (cP E G av) Qc XC mc ms (eA E) := by
  refine vx_ofW (cc := cc) (maxL := maxL) (ret := ret) hy rfl ?_
  intro p e s m args below meth c s₁ B hml hno hv
  obtain ⟨rfl, hE, hI⟩ := hv
  have hts := atoms_spec (ws := ws_ y cc maxL ret) B.pre
  have hl := lv_entry av (n := maxL) hn
  rw [lg_entry_eq]
  rw [hlv] at hl
  exact body p e s m below meth c _ B.exec B.bytes B.returns B.notSynchronized hml hno (fun w h => hts w (List.mem_cons_of_mem _ h)) (findClass_of_methodNamed B.named) hE hI hI.1 va_S.rf hl
/-- the head of a method with handlers -/
theorem g_hmet {l : Launch} {E : EnvT} {G : Gh} {y : MethodName} {cc : ByteArray} {maxL : Nat} {ret : Option FieldType} {hh : List (Nat × Nat × Nat × Nat)} {rm : Room} {av : List Value} {Qc : Array Value → State → Outcome → State → Prop} {XC : String → State → State → Prop} {mc ms : Nat} (hy : plainName y.cls = true) (hn : (lg_sl av).length ≤ maxL) {lv : List (Nat × Value)} (hlv : lv_args 0 av = lv)
    (body : ∀ (p : Program) (e : Env) (s : State) (m : MethodId) (below : List Frame) (meth : Method) (c : Code) (ls : Array Slot), p.tables.exec = Jvm.exec → c.code = cc → meth.sig.returnType = ret → meth.locks = false → c.maxLocals = maxL → c.exceptionTable.toList = tableOf hh → (∀ w ∈ lw_all, w.before av.toArray s = true) → s.vm.findClass y.cls = some m.cls → Env0 E s → Inv E G s.heap → Lo E s.heap → va_S (eA E) s.heap s.heap [] → lv_has ls maxL lv →
      W p l e rm s m av.toArray below meth c s.heap [] 0 0 (vx_MQ below Qc XC av.toArray s mc ms (eA E)) (F0 m 0 ls [])) : vx_Met l y (wsW_ y cc maxL ret hh) rm (cP E G av) Qc XC mc ms (eA E) := by
  refine vx_ofWH (cc := cc) (maxL := maxL) (ret := ret) (hh := hh) hy rfl ?_
  intro p e s m args below meth c s₁ B hml hv
  obtain ⟨rfl, hE, hI⟩ := hv
  have hts := atoms_spec (ws := wsW_ y cc maxL ret hh) B.pre
  have hl := lv_entry av (n := maxL) hn
  rw [lg_entry_eq]
  rw [hlv] at hl
  exact body p e s m below meth c _ B.exec B.bytes B.returns B.notSynchronized hml (vx_table (x := y) B (hts _ List.mem_cons_self)) (fun w h => hts w (List.mem_cons_of_mem _ h)) (findClass_of_methodNamed B.named) hE hI hI.1 va_S.rf hl
section GR2
variable {p : Program} {l : Launch} {e : Env} {R : Room} {s : State} {m : MethodId} {args : Array Value} {below : List Frame} {meth : Method} {c : Code} {H : Heap} {locs : List Loc} {cells slots : Nat} {Q : State → Prop}
variable {cc : ByteArray} {pc : Nat} {ls : Array Slot} {rest st0 : List Value} {E : EnvT} {G : Gh} {a : Nat} {t : Tg} {av : Array Value} {mc ms : Nat}
/-- behind a call that only reads -/
theorem g_ci0 {v : Int32} (hS : va_S (eA E) s.heap H locs) (hr : va_Run p l e R s m args below meth c H locs cells slots 0 0 (F0 m pc ls st0) rest (cI E (fun r G' => r = v ∧ G' = G) av) (eA E))
    (kk : ∀ (H1 : Heap) (locs1 : List Loc), Inv E G H1 → va_S (eA E) s.heap H1 locs1 → W p l e R s m args below meth c H1 locs1 cells slots Q (F0 m (pc + 3) ls (.int v :: rest))) : W p l e R s m args below meth c H locs cells slots Q (F0 m pc ls st0) :=
  g_ci hS hr (fun r G' H1 locs1 hp hI hS1 => by obtain ⟨rfl, rfl⟩ := hp; exact kk H1 locs1 hI hS1)
theorem g_cr0 {v : Nat} (hS : va_S (eA E) s.heap H locs) (hr : va_Run p l e R s m args below meth c H locs cells slots 0 0 (F0 m pc ls st0) rest (cR E (fun r G' => r = v ∧ G' = G) av) (eA E))
    (kk : ∀ (H1 : Heap) (locs1 : List Loc), Inv E G H1 → va_S (eA E) s.heap H1 locs1 → W p l e R s m args below meth c H1 locs1 cells slots Q (F0 m (pc + 3) ls (.ref v :: rest))) : W p l e R s m args below meth c H locs cells slots Q (F0 m pc ls st0) :=
  g_cr hS hr (fun r G' H1 locs1 hp hI hS1 => by obtain ⟨rfl, rfl⟩ := hp; exact kk H1 locs1 hI hS1)
theorem g_cv0 {G1 : Gh} (hS : va_S (eA E) s.heap H locs) (hr : va_Run p l e R s m args below meth c H locs cells slots mc ms (F0 m pc ls st0) rest (cV E (fun G' => G' = G1) av) (eA E))
    (kk : ∀ (H1 : Heap) (locs1 : List Loc), Inv E G1 H1 → va_S (eA E) s.heap H1 locs1 → W p l e R s m args below meth c H1 locs1 (cells + mc) (slots + ms) Q (F0 m (pc + 3) ls rest)) : W p l e R s m args below meth c H locs cells slots Q (F0 m pc ls st0) :=
  g_cv hS hr (fun G' H1 locs1 hp hI hS1 => by subst hp; exact kk H1 locs1 hI hS1)
/-- behind a call through an interface, that only reads -/
theorem g_cFi0 {v : Int32} (hS : va_S (eA E) s.heap H locs) (hr : va_Run5 p l e R s m args below meth c H locs cells slots 0 0 (F0 m pc ls st0) rest (cI E (fun r G' => r = v ∧ G' = G) av) (eA E))
    (kk : ∀ (H1 : Heap) (locs1 : List Loc), Inv E G H1 → va_S (eA E) s.heap H1 locs1 → W p l e R s m args below meth c H1 locs1 cells slots Q (F0 m (pc + 5) ls (.int v :: rest))) : W p l e R s m args below meth c H locs cells slots Q (F0 m pc ls st0) :=
  va_callFi hr hS (fun _ _ h => h) (fun _ h => h) (fun r u T H1 locs1 hT _ hp hB _ _ hS1 => by obtain ⟨rfl, rfl⟩ := hp; exact kk H1 locs1 (by rw [← hT]; exact hB) hS1)
theorem g_cFr0 {v : Nat} (hS : va_S (eA E) s.heap H locs) (hr : va_Run5 p l e R s m args below meth c H locs cells slots 0 0 (F0 m pc ls st0) rest (cR E (fun r G' => r = v ∧ G' = G) av) (eA E))
    (kk : ∀ (H1 : Heap) (locs1 : List Loc), Inv E G H1 → va_S (eA E) s.heap H1 locs1 → W p l e R s m args below meth c H1 locs1 cells slots Q (F0 m (pc + 5) ls (.ref v :: rest))) : W p l e R s m args below meth c H locs cells slots Q (F0 m pc ls st0) :=
  va_callFr hr hS (fun _ _ h => h) (fun _ h => h) (fun u ra T H1 locs1 hT _ _ hB _ _ hS1 => by obtain ⟨⟨rfl, rfl⟩, hB2⟩ := hB; exact kk H1 locs1 (by rw [← hT]; exact hB2) hS1)
/-! exceptions -/
theorem g_xi {post : Int32 → Gh → Prop} {px : String → Gh → Prop} (hS : va_S (eA E) s.heap H locs) (hr : vx_Run p l e R s m args below meth c H locs cells slots mc ms (F0 m pc ls st0) rest (cI E post av) (cX E px) (eA E))
    (kx : ∀ (X : String) (ce : Cell) (q9 : Addr) (G' : Gh) (H1 : Heap) (locs1 : List Loc), px X G' → Inv E G' H1 → va_S (eA E) s.heap H1 locs1 → H1[q9]? = some ce → ce.vm = .none → s.vm.findClass X = some ce.cls → vx_W p l e R s m args below meth c H1 locs1 (cells + mc) (slots + ms) Q (F0 m pc ls rest) q9)
    (kk : ∀ (r : Int32) (G' : Gh) (H1 : Heap) (locs1 : List Loc), post r G' → Inv E G' H1 → va_S (eA E) s.heap H1 locs1 → W p l e R s m args below meth c H1 locs1 (cells + mc) (slots + ms) Q (F0 m (pc + 3) ls (.int r :: rest))) : W p l e R s m args below meth c H locs cells slots Q (F0 m pc ls st0) :=
  vx_calli hr hS (fun _ _ h => h) (fun _ h => h) (fun _ _ h => h) (fun X ce q9 u T H1 locs1 hT _ _ hB _ _ hS1 h1 h2 h3 => kx X ce q9 u H1 locs1 hB.1 (by rw [← hT]; exact hB.2) hS1 h1 h2 h3) (fun r u T H1 locs1 hT _ hp hB _ _ hS1 => kk r u H1 locs1 hp (by rw [← hT]; exact hB) hS1)
theorem g_xv {post : Gh → Prop} {px : String → Gh → Prop} (hS : va_S (eA E) s.heap H locs) (hr : vx_Run p l e R s m args below meth c H locs cells slots mc ms (F0 m pc ls st0) rest (cV E post av) (cX E px) (eA E))
    (kx : ∀ (X : String) (ce : Cell) (q9 : Addr) (G' : Gh) (H1 : Heap) (locs1 : List Loc), px X G' → Inv E G' H1 → va_S (eA E) s.heap H1 locs1 → H1[q9]? = some ce → ce.vm = .none → s.vm.findClass X = some ce.cls → vx_W p l e R s m args below meth c H1 locs1 (cells + mc) (slots + ms) Q (F0 m pc ls rest) q9)
    (kk : ∀ (G' : Gh) (H1 : Heap) (locs1 : List Loc), post G' → Inv E G' H1 → va_S (eA E) s.heap H1 locs1 → W p l e R s m args below meth c H1 locs1 (cells + mc) (slots + ms) Q (F0 m (pc + 3) ls rest)) : W p l e R s m args below meth c H locs cells slots Q (F0 m pc ls st0) :=
  vx_callv hr hS (fun _ _ h => h) (fun _ h => h) (fun _ _ h => h) (fun X ce q9 u T H1 locs1 hT _ _ hB _ _ hS1 h1 h2 h3 => kx X ce q9 u H1 locs1 hB.1 (by rw [← hT]; exact hB.2) hS1 h1 h2 h3) (fun u T H1 locs1 hT _ hp hB _ _ hS1 => kk u H1 locs1 hp (by rw [← hT]; exact hB) hS1)
/-- a method that may throw and answers with a cell: its contract is over va_Qq -/
abbrev cQ (E : EnvT) (post : Nat → Gh → Prop) : Array Value → State → Outcome → State → Prop := va_Qq (S := Gh) (fun r G => ∃ a, r = some a ∧ post a G) (fun G t => Inv E G t.heap) (eA E)
theorem g_xr {post : Nat → Gh → Prop} {px : String → Gh → Prop} (hS : va_S (eA E) s.heap H locs) (hr : vx_Run p l e R s m args below meth c H locs cells slots mc ms (F0 m pc ls st0) rest (cQ E post av) (cX E px) (eA E))
    (kx : ∀ (X : String) (ce : Cell) (q9 : Addr) (G' : Gh) (H1 : Heap) (locs1 : List Loc), px X G' → Inv E G' H1 → va_S (eA E) s.heap H1 locs1 → H1[q9]? = some ce → ce.vm = .none → s.vm.findClass X = some ce.cls → vx_W p l e R s m args below meth c H1 locs1 (cells + mc) (slots + ms) Q (F0 m pc ls rest) q9)
    (kk : ∀ (r : Nat) (G' : Gh) (H1 : Heap) (locs1 : List Loc), post r G' → Inv E G' H1 → va_S (eA E) s.heap H1 locs1 → W p l e R s m args below meth c H1 locs1 (cells + mc) (slots + ms) Q (F0 m (pc + 3) ls (.ref r :: rest))) : W p l e R s m args below meth c H locs cells slots Q (F0 m pc ls st0) :=
  vx_callq hr hS (fun _ _ h => h) (fun _ h => h) (fun _ _ h => h) (fun X ce q9 u T H1 locs1 hT _ _ hB _ _ hS1 h1 h2 h3 => kx X ce q9 u H1 locs1 hB.1 (by rw [← hT]; exact hB.2) hS1 h1 h2 h3) (fun r u T H1 locs1 hT _ hp hB _ _ hS1 => by obtain ⟨a, rfl, hp⟩ := hp; exact kk a u H1 locs1 hp (by rw [← hT]; exact hB) hS1)
theorem g_xout {px : String → Gh → Prop} {Qc : Array Value → State → Outcome → State → Prop} {X : String} {ce : Cell} {q9 : Addr} (hno : ∀ x ∈ c.exceptionTable.toList, False) (hlk : meth.locks = false) (hI : Inv E G H) (hS : va_S (eA E) s.heap H locs) (h1 : H[q9]? = some ce) (h2 : ce.vm = .none) (h3 : s.vm.findClass X = some ce.cls) (hc : cells ≤ mc) (hs : slots ≤ ms) (hp : px X G) : vx_W p l e R s m args below meth c H locs cells slots (vx_MQ below Qc (cX E px) args s mc ms (eA E)) (F0 m pc ls rest) q9 :=
  vx_out (fun x hx => (hno x hx).elim) hlk h1 h2 h3 (fun T hT _ => ⟨G, trivial, ⟨hp, by show Inv E _ T.heap; rw [hT]; exact hI⟩, hS.F hT⟩) hS.2.2 hc hs
theorem g_qret {post : Nat → Gh → Prop} {v : Nat} {rt : FieldType} (hexec : p.tables.exec = Jvm.exec) (hb : c.code = cc) (hr : meth.sig.returnType = some rt) (hrt : (∃ n, rt = .object n) ∨ ∃ t, rt = .array t) (hlk : meth.locks = false) (hI : Inv E G H) (hS : va_S (eA E) s.heap H locs) (hdg : decode cc pc = .ok (.areturn, 1)) (hc : cells ≤ mc) (hs : slots ≤ ms) (hp : post v G) : W p l e R s m args below meth c H locs cells slots (MQ below (cQ E post) args s mc ms (eA E)) (F0 m pc ls [.ref v]) :=
  W.widen hc hs (W.aret hexec hb hr hrt (Or.inr ⟨v, rfl⟩) (fun T hT hW => ⟨⟨some v, G, rfl, ⟨v, rfl, hp⟩, by show Inv E _ T.heap; rw [hT]; exact hI⟩, hS.F hT⟩) hS.2.2 hdg hlk)
/-- 'throw new X()' in a method without handlers -/
theorem g_throw {px : String → Gh → Prop} {Qc : Array Value → State → Outcome → State → Prop} {own cls : String} {names : List String} {ik ic : Nat} (hexec : p.tables.exec = Jvm.exec) (hb : c.code = cc) (hl : l.stackTraces = false) (hts : ∀ w ∈ lw_all, w.before args s = true) (hown : s.vm.findClass own = some m.cls) (hcls : Bundle.fit cls = true) (hnames : ∀ n ∈ names, Bundle.fit n = true)
    (hk : Cond.classLink own ik cls ∈ lw_all) (hini : Cond.initialized cls ∈ lw_all) (hat : ∀ w ∈ vx_at0 own ic cls names, w.before args s = true) (hgood : ∀ w ∈ vx_at0 own ic cls names, vx_ot w = true)
    (hE : Env0 E s) (hI : Inv E G H) (hL : Lo E s.heap) (hS : va_S (eA E) s.heap H locs) (hsize : ls.size = c.maxLocals)
    (d0 : decode cc pc = .ok (.new ik, 3)) (d3 : decode cc (pc + 3) = .ok (.dup, 1)) (d4 : decode cc (pc + 4) = .ok (.invokespecial ic, 3)) (d7 : decode cc (pc + 7) = .ok (.athrow, 1)) (hno : ∀ x ∈ c.exceptionTable.toList, False)
    (hRframes : names.length + 3 < R.frames) (hRlocals : (rest.map fun v => v.category).sum + (13 * (names.length + 1) + 42) ≤ R.locals) (hRcells : cells + 1 ≤ R.cells) (hRslots : slots + 6 ≤ R.slots) (hlk : meth.locks = false) (hc : cells + 1 ≤ mc) (hs : slots + 6 ≤ ms) (hp : px cls G) :
    W p l e R s m args below meth c H locs cells slots (vx_MQ below Qc (cX E px) args s mc ms (eA E)) (F0 m pc ls rest) := by
  have g1 : ∀ w ∈ Cond.classLink own ik cls :: Cond.initialized cls :: vx_at0 own ic cls names, vx_ot w = true := by
    intro w hw
    rcases List.mem_cons.mp hw with z | z
    · rw [z]; rfl
    · rcases List.mem_cons.mp z with z | z
      · rw [z]; rfl
      · exact hgood w z
  refine vx_throw0 hexec hb hl hown hcls hnames (hts _ hk) (hts _ hini) hat g1 (hE.St.2.2.2.2.2.1.kept hL.kept) (hE.St.2.2.2.2.2.2.1.kept hL.kept) hS hsize d0 d3 d4 d7 (fun x hx => (hno x hx).elim) hRframes hRlocals hRcells hRslots hlk (fun T _ hz hk9 => ⟨G, trivial, ⟨hp, hI.kept hz hk9⟩, ?_⟩) hS.2.2 hc hs
  exact ⟨Nat.le_trans hS.1 hz, fun q h1 h2 => (hk9 q (Nat.lt_of_lt_of_le h1 hS.1)).trans (hS.2.1 q h1 h2)⟩
end GR2
