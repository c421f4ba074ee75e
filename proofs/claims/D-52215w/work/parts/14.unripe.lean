/-! CALLS OF INSTANCE METHODS OF A CLASS THAT NO WORD CALLS INITIALISED (the kinds' own classes: their objects are given, 'initialized' of them isn't). The contracts below are Met's without that premise; the proofs follow the library's for MetFree (MetFree.of_bodySF, Stand.of_body, Spec.appliesLoose_calling, Steps.callFree, Back.of_free) and the kit's va_runU, without the use of 'initialized'. -/
/-- what a call is, the class initialised or not -/
def AppU (y : MethodName) (ws : List Cond) (rm : Room) (pl : Platform) (s : State) (m : MethodId) (args : Array Value) (below : List Frame) : Prop :=
  s.status = .running ∧ s.curStatus? = some .runnable ∧ s.alone = true ∧ s.methodNamed? y = some m ∧ s.hears m below = true ∧ s.hasRoom pl rm = true ∧ ∀ w ∈ ws, w.before args s = true
def MetU (l : Launch) (y : MethodName) (ws : List Cond) (rm : Room) (Pc : Array Value → State → Prop) (Qc : Array Value → State → Outcome → State → Prop) (mc ms : Nat) (free : Addr → Prop) : Prop :=
  ∀ (p : Program) (e : Env), l.admits e → FairCas e.choices → FairClock e.choices → ∀ (s : State) (m : MethodId) (args : Array Value) (below : List Frame), s.frames = .invoking m args :: below → AppU y ws rm e.platform s m args below → Pc args s →
    ∃ (n : Nat) (o : Outcome), (∀ k, k < n → Within (stepsAlone p.tables e k s) below) ∧ (stepsAlone p.tables e n s).status = .running ∧ Ended (stepsAlone p.tables e n s) below o ∧ Qc args s o (stepsAlone p.tables e n s) ∧ ∃ L, FrameEnd s o (stepsAlone p.tables e n s) L mc ms ∧ ∀ q ∈ L, free q.base
theorem g_umet {l : Launch} {E : EnvT} {G : Gh} {y : MethodName} {cc : ByteArray} {maxL : Nat} {ret : Option FieldType} {rm : Room} {av : List Value} {Qc : Array Value → State → Outcome → State → Prop} {mc ms : Nat} (hy : plainName y.cls = true) (hn : (lg_sl av).length ≤ maxL) {lv : List (Nat × Value)} (hlv : lv_args 0 av = lv)
    (body : ∀ (p : Program) (e : Env) (s : State) (m : MethodId) (below : List Frame) (meth : Method) (c : Code) (ls : Array Slot), p.tables.exec = Jvm.exec → c.code = cc → meth.sig.returnType = ret → meth.locks = false → c.maxLocals = maxL → meth.name = y.name → (∀ w ∈ lw_all, w.before av.toArray s = true) → s.vm.findClass y.cls = some m.cls → Env0 E s → Inv E G s.heap → Lo E s.heap → va_S (eA E) s.heap s.heap [] → lv_has ls maxL lv →
      W p l e rm s m av.toArray below meth c s.heap [] 0 0 (MQ below Qc av.toArray s mc ms (eA E)) (F0 m 0 ls [])) : MetU l y (ws_ y cc maxL ret) rm (cP E G av) Qc mc ms (eA E) := by
  intro p e ha hc hk s m args below hf happ hv
  obtain ⟨hrun, hable, halone, hname, hhears, hroom, hws⟩ := happ
  obtain ⟨rfl, hE, hI⟩ := hv
  obtain ⟨meth, c, hmeth, hcode, hbytes, hlocals, hret, hlocks, -, -⟩ := Cond.code_spec hname (hws _ List.mem_cons_self)
  have hcur := State.cur_lt_of_frames hf
  have hf1 : (s.setFrames (.java (entryFrame m av.toArray maxL) :: below)).frames = .java (entryFrame m av.toArray maxL) :: below := State.frames_setFrames _ hcur
  have ht1 := State.topJava?_of_frames hf1
  have hplain : (s.setFrames (.java (entryFrame m av.toArray maxL) :: below)).plainMethod m := State.plainMethod.of_named (s := s) (plainFor_of_name hy) hname hmeth
  have hAt : At (s.setFrames (.java (entryFrame m av.toArray maxL) :: below)) m c below :=
    ⟨by rw [ht1]; rfl, ⟨[], by rw [hf1]; rfl⟩, hrun, by simpa using hable, by simpa using halone, by rw [State.code?_eq]; simp [State.setFrames, hmeth, hcode], hplain⟩
  have hstep : (stepThread p.tables e s).1 = (s.setFrames (.java (entryFrame m av.toArray maxL) :: below)).setTop (entryFrame m av.toArray maxL) := by
    have hfull : e.platform.stackFull (s.setFrames below).me (s.setFrames below).frames c.maxLocals = false := by
      obtain ⟨-, h1, -, h2⟩ := State.hasRoom_stack hroom
      rw [hf, List.length_cons] at h1
      rw [State.localsInUse_invoking hf hmeth hcode] at h2
      have hw := stackUse_le_stackWeight below
      rw [State.frames_setFrames _ hcur]
      exact Platform.stackFull_eq_false (by rw [State.stackLimits_setFrames]; omega) (by rw [State.stackLimits_setFrames]; omega)
    rw [stepThread_invoking hf, (doInvoke_java (s := s.setFrames below) (e := e) (meth := meth) (code := c) hmeth hcode hlocks hfull).1, State.setTop_self ht1]
    simp only [State.pushFrame, State.frames_setFrames _ hcur, State.setFrames_setFrames, hlocals, entryFrame]
  obtain ⟨t0, ht0, -⟩ := State.frames_cons hf
  have X : Stand p l e rm s m av.toArray below meth c (s.setFrames (.java (entryFrame m av.toArray maxL) :: below)) [] 0 0 :=
    ⟨ha, hc, hk, hf, hroom, hhears, hmeth, hcode, hAt, by rw [hf1]; rfl, State.WarmedH.refl s, by rw [State.stackLimits_setFrames], by rw [State.stackBytes_setFrames], (State.sameButNew.refl s ht0).setFrames (.java (entryFrame m av.toArray maxL) :: below) hcur⟩
  have hl := lv_entry av (n := maxL) hn
  rw [hlv] at hl
  have K := body p e s m below meth c _ (by cases p <;> rfl) hbytes hret hlocks hlocals (name_of_methodNamed hname hmeth).1 (fun w h => hws w (List.mem_cons_of_mem _ h)) (findClass_of_methodNamed hname) hE hI hI.1 va_S.rf hl
  rw [← lg_entry_eq] at K
  obtain ⟨t, hs, o, hr, he, hp⟩ := K (s.setFrames (.java (entryFrame m av.toArray maxL) :: below)) rfl X
  obtain ⟨n, hn, hw⟩ := Steps.head (tb := p.tables) (e := e) ⟨hrun, hable, halone⟩ ⟨[.invoking m av.toArray], hf, by simp, by simp⟩ (hstep ▸ hs)
  exact ⟨n, o, hw, hn ▸ hr, hn ▸ he, hn ▸ hp⟩
section KU
variable {l : Launch} {R : Room} {p : Program} {e : Env} {below : List Frame} {s : State} {sargs : Array Value} {y : MethodName}
theorem backU {ws : List Cond} {rm : Room} {Pc : Array Value → State → Prop} {Qc : Array Value → State → Outcome → State → Prop} {mc ms : Nat} {free : Addr → Prop} {bytes : ByteArray} {maxL : Nat} {ret : Option FieldType}
    (hM : MetU l y ws rm Pc Qc mc ms free) (hblind : FrameBlind Pc) (hrc : rm.cells = mc) (hrs : rm.slots = ms) (hframes : rm.frames + 1 ≤ R.frames) (hlocals : 8 + (maxL + 11) + rm.locals ≤ R.locals)
    (hws : ∀ w ∈ ws, ∀ a' U, s.WarmedH U.vm → w.before a' U = true) (hcode : Cond.code y bytes maxL ret ∈ ws) : Back l R p e below s sargs y 3 8 (PreOf R mc ms Pc) (PostOf Qc mc ms free) := by
  intro m meth c A g ig mk a X hg hsize hdg hW hn hp
  obtain ⟨U, Ls, c0, s0⟩ := A
  dsimp only [Pt.U, Pt.locs, Pt.cells, Pt.slots] at X hn ⊢
  have hp1 : c0 + mc ≤ R.cells := hp.1
  have hp2 : s0 + ms ≤ R.slots := hp.2.1
  have hp3 : Pc a U := hp.2.2
  obtain ⟨methY, cY, hmY, hcY, -, hlY, -, -, -, -⟩ := Cond.code_spec hn (hws _ hcode a U X.warmed)
  have h : At U g.method c below := by rw [hg]; exact X.here
  have hcd : (U.calling g mk a).code? g.method = some c := by
    have := h.code
    rw [State.code?_eq] at this ⊢
    simpa [State.calling, State.pushFrame, State.setFrames] using this
  have happ : AppU y ws rm e.platform (U.calling g mk a) mk a (.java g :: U.frames.tail) := by
    refine ⟨h.running, by simpa [State.calling] using h.runnable, by simpa [State.calling] using h.alone, hn, by simp [State.hears, hcd, hdg, Except.toOption], X.room_calling (g := g) (R' := rm) hsize hmY hcY hframes (by rw [hlY]; omega) (by rw [hrc]; exact hp1) (by rw [hrs]; exact hp2), fun w hw => ?_⟩
    rw [State.calling_eq h.top, Cond.before_setFrames]
    exact hws w hw a U X.warmed
  obtain ⟨mid, hmid⟩ := h.above
  have hfr : (U.setTop g).frames = (.java g :: mid) ++ below := by rw [State.frames_setTop' g h.top, hmid]; rfl
  have hf0 : (U.calling g mk a).frames = .invoking mk a :: (.java g :: U.frames.tail) := State.frames_calling h.top g mk a
  obtain ⟨n1, o, hw1, hr1, he1, hq⟩ := hM p e X.admits X.cas X.clock (U.calling g mk a) mk a (.java g :: U.frames.tail) hf0 happ (hblind _ _ _ _ hp3)
  have hgo : (U.calling g mk a).goesOn := ⟨happ.1, happ.2.1, happ.2.2.1⟩
  obtain ⟨tt, htt⟩ : ∃ tt, (U.setTop g).threads[(U.setTop g).cur]? = some tt := by
    obtain ⟨tt, htt, -⟩ := State.frames_cons (show (U.setTop g).frames = .java g :: (mid ++ below) from hfr)
    exact ⟨tt, htt⟩
  have hstep : (stepThread p.tables e (U.calling g mk a)).1 = (doInvoke e (U.setTop g) [] mk a).1 := by
    rw [stepThread_invoking hf0, doInvoke_state e (U.setTop g) []]
    have e1 : (U.calling g mk a).setFrames (.java g :: U.frames.tail) = U.setTop g := by
      show ((U.setTop g).pushFrame (.invoking mk a)).setFrames (.java g :: U.frames.tail) = U.setTop g
      rw [State.pushFrame, State.setFrames_setFrames, ← State.frames_setTop' g h.top, State.setFrames_self htt]
    rw [e1]
  obtain ⟨s₂, hsteps, hend, hq⟩ : ∃ s₂, Steps p.tables e below (doInvoke e (U.setTop g) [] mk a).1 s₂ ∧ Ended s₂ (.java g :: U.frames.tail) o ∧ Qc a (U.calling g mk a) o s₂ ∧ ∃ L, FrameEnd (U.calling g mk a) o s₂ L mc ms ∧ ∀ q ∈ L, free q.base := by
    cases n1 with
    | zero => exact absurd ⟨[.invoking mk a], hf0, by simp, by simp⟩ he1.not_within
    | succ k =>
      rw [stepsAlone_succ _ hgo, hstep] at he1 hq
      refine ⟨_, ⟨k, rfl, fun j hj => ?_⟩, he1, hq⟩
      have := hw1 (j + 1) (by omega)
      rw [stepsAlone_succ _ hgo, hstep, hmid] at this
      exact Within.weaken (mid := .java g :: mid) this
  obtain ⟨hq', L, hfe, hL⟩ := hq
  obtain ⟨⟨v, rfl⟩, hW₂, e2, q2, q3, q4, q5, q6⟩ := id hfe
  have e3 : s₂ = ({ (U.calling g mk a).setFrames s₂.frames with heap := s₂.heap, slotsUsed := s₂.slotsUsed } : State).setVm s₂.vm := by
    have : s₂ = ({ s₂ with vm := (U.calling g mk a).vm } : State).setVm s₂.vm := rfl
    rw [e2] at this
    exact this
  obtain ⟨c₂, i₂, len₂, hc₂, hd₂, hf₂⟩ := hend
  have hW' : U.WarmedH s₂.vm := hW₂
  have hcc : c₂ = c := by
    have h1 : s₂.code? g.method = U.code? g.method := by rw [State.code?_eq, State.code?_eq, hW'.alike.method?]
    exact Option.some.inj (hc₂.symm.trans (h1.trans h.code))
  subst hcc
  have hlen : len₂ = 3 := by rw [hdg] at hd₂; cases hd₂; rfl
  subst hlen
  obtain ⟨g₀, hg0⟩ := Option.isSome_iff_exists.mp h.top
  obtain ⟨r, hr⟩ := State.topJava?_eq_some.mp hg0
  have hs₂ : s₂ = (({ U with heap := s₂.heap, slotsUsed := s₂.slotsUsed } : State).setVm s₂.vm).setTop { g with pc := g.pc + 3, stack := v.toList ++ g.stack } := by
    have hr' : (({ U with heap := s₂.heap, slotsUsed := s₂.slotsUsed } : State).setVm s₂.vm).frames = .java g₀ :: r := hr
    refine e3.trans ?_
    rw [hf₂, State.calling_eq h.top, State.setFrames_setFrames, State.setTop_of_frames _ hr', hr]
    rfl
  have hsame : U.sameButNew ({ U with heap := s₂.heap, slotsUsed := s₂.slotsUsed } : State) L mc ms := by
    refine ⟨?_, q2, q3, q4, q5, q6⟩
    obtain ⟨t, ht, -⟩ := State.frames_cons hr
    show ({ U with heap := s₂.heap, slotsUsed := s₂.slotsUsed } : State) = { U.setFrames U.frames with heap := s₂.heap, slotsUsed := s₂.slotsUsed }
    rw [State.setFrames_self ht]
  subst hg
  refine ⟨v, ⟨(({ U with heap := s₂.heap, slotsUsed := s₂.slotsUsed } : State).setVm s₂.vm), Ls ++ L, c0 + mc, s0 + ms⟩,
    ⟨X.admits, X.cas, X.clock, X.frames, X.room, X.hears, X.method, X.code, (X.here.setHeapUsed s₂.heap s₂.slotsUsed).setVm hW'.alike, X.tail, State.WarmedH.trans X.warmed hW', X.limits, X.bytes, X.same.trans (hsame.setVm s.vm)⟩,
    ⟨g, mk, s₂, L, rfl, rfl, hq', rfl, hL, rfl, rfl⟩, ?_⟩
  show Steps p.tables e below _ ((({ U with heap := s₂.heap, slotsUsed := s₂.slotsUsed } : State).setVm s₂.vm).setTop { g with pc := g.pc + 3, stack := v.toList ++ g.stack })
  rw [← hs₂]
  exact hsteps
end KU
section KU2
variable {p : Program} {l : Launch} {e : Env} {R : Room} {s : State} {m : MethodId} {args : Array Value} {below : List Frame} {meth : Method} {c : Code} {H : Heap} {locs : List Loc} {cells slots : Nat}
/-- a call through an object: the named method is abstract, of the class 'owner'; the receiver's class C selects y of its own -/
theorem g_runU {x y : MethodName} {bytes cc : ByteArray} {maxL nL mc ms n index : Nat} {ret : Option FieldType} {rm : Room} {Pc : Array Value → State → Prop} {Qc : Array Value → State → Outcome → State → Prop} {free : Addr → Prop} {own C owner : String} {b : Addr} {As rest : List Value} {g : JFrame}
    (hx : p.tables.exec = Jvm.exec) (hb : c.code = cc) (hml : c.maxLocals = nL) (hown : s.vm.findClass own = some m.cls) (hts : ∀ w ∈ lw_all, w.before args s = true) (hM : MetU l y (ws_ y bytes maxL ret) rm Pc Qc mc ms free)
    (hrc : rm.cells = mc) (hrs : rm.slots = ms) (hfr : rm.frames + 1 ≤ R.frames) (hlo : 8 + (maxL + 11) + rm.locals ≤ R.locals) (h1 : Cond.methodLink own index x ∈ lw_all) (h0 : Cond.sameMethod x.cls owner x.name x.desc ∈ lw_all) (hz : va_Nw (.declares ⟨owner, x.name, x.desc⟩) s) (h2 : Cond.selects C x y ∈ lw_all) (h3 : Cond.instanceMethod y ∈ lw_all) (h5 : Cond.code y bytes maxL ret ∈ lw_all)
    (hd : owner ≠ "java/lang/invoke/MethodHandle" ∧ owner ≠ "java/lang/invoke/VarHandle" ∧ (parseMethodDescriptor x.desc).map (fun d => d.parameters.length) = some n) (hp : PreV s H C b Pc As)
    (hg : g.method = m) (hn : As.length = n) (hsize : g.locals.size = nL) (hstack : g.stack = As.reverse ++ .ref b :: rest) (hW : 2 * g.monitorRoom + (rest.map fun v => v.category).sum ≤ 8) (hdg : decode cc g.pc = .ok (.invokevirtual index, 3)) (hf : cells + mc ≤ R.cells ∧ slots + ms ≤ R.slots) :
    va_Run p l e R s m args below meth c H locs cells slots mc ms g rest (Qc (Value.ref b :: As).toArray) free := by
  have hK : Back l R p e below s args y 3 8 (PreOf R mc ms Pc) (PostOf Qc mc ms free) := backU (bytes := bytes) (maxL := maxL) (ret := ret) hM hp.1 hrc hrs hfr hlo (pay_in hts (lw_meth h5)) List.mem_cons_self
  obtain ⟨-, ⟨cellB, hcB, hoB, hclB⟩, hPc⟩ := hp
  have hlen : ∀ sig, parseMethodDescriptor x.desc = some sig → n = sig.parameters.length := fun sig h => by
    have h9 := hd.2.2
    rw [h] at h9
    exact (Option.some.inj h9).symm
  intro T hT X
  obtain ⟨v, vm₁, ⟨U', l2, c2, s2⟩, hW₁, X', ⟨g', mk, t, L, e1, e2, hq, k1, hL, k2, k3⟩, st⟩ := va_callVU X hx (C := C) (owner := owner) (bytes := bytes) (maxL := maxL) (ret := ret) hown (hts _ h1) (hts _ h0) (va_Decl.abs hz) ⟨hd.1, hd.2.1⟩ (hts _ h2) (hts _ h3) (hts _ h5) hK (by rw [hT]; exact hcB) hoB hclB hg (hsize.trans hml.symm) (argsL := As) (rest := rest) (fun sig h => hn.trans (hlen sig h)) hstack hW (by rw [hb]; exact hdg)
    (fun vm₁ hW₁ => ⟨hf.1, hf.2, hPc (T.setVm vm₁) hT hW₁⟩)
  dsimp only [Pt.U, Pt.locs, Pt.cells, Pt.slots] at X' e1 e2 k1 k2 k3 st
  subst k1; subst k2; subst k3
  exact ⟨v, (T.setVm vm₁).calling g' mk (Value.ref b :: As).toArray, t, U', L, hT, X', hL, e1, e2, hq, st⟩
/-- the constant of a kind, as a receiver -/
theorem kRecv {E : EnvT} {G : Gh} (hE : Env0 E s) (hI : Inv E G H) {k : Nat} (hk : k < 5) : ∃ cell : Cell, H[eK E k]? = some cell ∧ cell.vm.isStatics = false ∧ s.vm.findClass (kN k) = some cell.cls := by
  obtain ⟨cell, h1, h2, h3, h4⟩ := (hE.St.2.2.1 k hk).1
  exact ⟨cell, by rw [hI.1.2 _ (Array.getElem?_eq_some_iff.mp h1).1]; exact h1, h2, h3⟩
end KU2
