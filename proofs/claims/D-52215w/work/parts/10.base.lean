/-! THE BASE: a ghost heap (address ↦ tag and cell) instead of lists of cells; one environment of what never changes; contracts over it. -/
set_option maxRecDepth 100000
/-- the classes whose objects the worlds hold: 0 StarConsole, 1 Console, 2 Dimmer, 3 Comet, 4 Star, 5 Cue, 6 ArrayList, 7 StarConsoleModel -/
abbrev vwCl : List vw_C := [(RX1, TX1, 3), (RX2, TX2, 9), (RX4, TX4, 5), (RX8, TX8, 3), (RX5, TX5, 2), (RX7, TX7, 4), (RJ2, TJ2, 3), (RX3, TX3, 9)]
/-- a cell's tag: its owner, its part, its place -/
abbrev Tg : Type := Nat × Nat × Nat
abbrev Gh : Type := Nat → Option (Tg × va_E)
/-- classes, array classes (0 int, 1 Object, 2 long, 3 int[], 4 Kind), the heap at the law's start, addresses (0..4 the kinds, 5 $VALUES, 6 the empty array, 7 the mirror of Object[]) -/
abbrev EnvT : Type := va_G × (Nat → ClassId) × Heap × (Nat → Nat)
abbrev eD (E : EnvT) : va_G := E.1
abbrev eC (E : EnvT) : Nat → ClassId := E.2.1
abbrev eH (E : EnvT) : Heap := E.2.2.1
abbrev eK (E : EnvT) : Nat → Nat := E.2.2.2
def eA (E : EnvT) : Nat → Prop := fun q => (eH E).size ≤ q
abbrev tys0 (E : EnvT) : List (ClassId × FieldType) := [(eC E 0, .int), (eC E 1, .object "java/lang/Object"), (eC E 2, .long), (eC E 3, .array .int), (eC E 4, .object "StarConsole$Kind")]
def nwOk : Cond → Bool
  | .fieldLinkNest _ _ _ _ _ _ => true
  | .methodLinkNest _ _ _ _ => true
  | .castable _ _ => true
  | .declares _ => true
  | _ => false
theorem nwOk_moved {w : Cond} (hw : nwOk w = true) {s U : State} (hW : s.WarmedH U.vm) (h : va_Nw w s) : va_Nw w U := by
  cases w <;> first | (simp [nwOk] at hw; done) | exact va_Nw.warmF hW h | exact va_Nw.warmM hW h | exact va_Nw.warmC hW h | exact va_Nw.warmD hW h
theorem nwOk_tables {w : Cond} (hw : nwOk w = true) : w.onTables = true := by
  cases w <;> first | (simp [nwOk] at hw; done) | rfl
def va_AA (U : State) : Prop := (Cond.arrayOver (.array .int)).before #[] U = true
theorem va_AA.moved {u U : State} (hvm : u.vm.Alike U.vm) (h : va_AA u) : va_AA U := by
  have h1 : (Cond.arrayOver (.array .int)).before #[] (u.setVm U.vm) = true := by rw [Cond.arrayOver_setVmC hvm]; exact h
  unfold va_AA Cond.before Cond.holds
  unfold Cond.before Cond.holds at h1
  simp only [Cond.value] at h1 ⊢
  exact h1
/-- the classes of the five kinds -/
def kN (i : Nat) : String := ["StarConsole$Kind$1", "StarConsole$Kind$2", "StarConsole$Kind$3", "StarConsole$Kind$4", "StarConsole$Kind$5"].getD i ""
abbrev arrK (E : EnvT) : vp_A := (5, .inr (.inr (.inr (.inr (fun k => some (eK E k))))))
/-- what the statics hold, and the constants' objects -/
def StE (E : EnvT) (U : State) : Prop :=
  va_Z "java/util/ArrayList" "DEFAULTCAPACITY_EMPTY_ELEMENTDATA" "[Ljava/lang/Object;" (.ref (eK E 6)) (eA E) U (eH E) ∧
  va_T (.object "java/lang/Object") (eK E 6) 0 (fun _ => .null) (eA E) U (eH E) ∧
  (∀ i, i < 5 → va_O (kN i) (eK E i) (eA E) U (eH E) ∧ va_OF "java/lang/Enum" "ordinal" "I" (.int (nI i)) (eK E i) (eA E) U (eH E)) ∧
  va_Z "StarConsole$Kind" "HOLD" "LStarConsole$Kind;" (.ref (eK E 4)) (eA E) U (eH E) ∧
  va_Z "StarConsole$Kind" "$VALUES" "[LStarConsole$Kind;" (.ref (eK E 5)) (eA E) U (eH E) ∧
  vx_Zq Bundle.tN "UNASSIGNED_STACK" Bundle.steD (eA E) U (eH E) ∧ vx_Zq Bundle.tN "SUPPRESSED_SENTINEL" Bundle.listD (eA E) U (eH E) ∧
  va_Nc "java/lang/IllegalStateException" "java/lang/IllegalArgumentException" U ∧ va_Nc "java/lang/IllegalArgumentException" "java/lang/IndexOutOfBoundsException" U ∧ va_Nc "java/lang/IndexOutOfBoundsException" "java/lang/IllegalArgumentException" U
/-- what never changes -/
def Env0 (E : EnvT) (U : State) : Prop :=
  (va_K (eD E) vwCl (tys0 E) U ∧ (∀ w ∈ lw_tbl, nwOk w = true → va_Nw w U) ∧ va_AO "java/lang/Object" U ∧ va_AA U ∧ va_Mi "[Ljava/lang/Object;" (eK E 7) U) ∧
  (va_Fw RJ2 ⟨"java/util/List", "size", "()I"⟩ yJ2_size U ∧ va_Fw RJ2 ⟨"java/util/List", "get", "(I)Ljava/lang/Object;"⟩ yJ2_get U) ∧ StE E U ∧
  ((∀ i j, i < 5 → j < 5 → eK E i = eK E j → i = j) ∧ (eH E)[eK E 5]? = some (vp_cell (eC E 4) (arrK E)) ∧ ∀ i, i < 7 → eK E i < (eH E).size)
theorem StE.moved {E : EnvT} {u U : State} (hvm : u.vm.Alike U.vm) (h : StE E u) : StE E U := by
  obtain ⟨h1, h2, h3, h4, h5, h6, h7, h8, h9, h10⟩ := h
  exact ⟨h1.moved hvm, h2.moved hvm, fun i hi => ⟨(h3 i hi).1.moved hvm, (h3 i hi).2.moved hvm⟩, h4.moved hvm, h5.moved hvm, h6.moved hvm, h7.moved hvm, h8.moved hvm, h9.moved hvm, h10.moved hvm⟩
theorem Env0.moved {E : EnvT} {s U : State} (hW : s.WarmedH U.vm) (h : Env0 E s) : Env0 E U := by
  obtain ⟨⟨h1, h2, h3, h4, h5⟩, ⟨h6, h7⟩, h8, h9⟩ := h
  exact ⟨⟨h1.moved hW.alike, fun w hw hn => nwOk_moved hn hW (h2 w hw hn), h3.moved hW.alike, h4.moved hW.alike, h5.moved hW.alike⟩, ⟨va_Fw.moved (by decide +kernel) hW.alike h6, va_Fw.moved (by decide +kernel) hW.alike h7⟩, h8.moved hW.alike, h9⟩
theorem Env0.K {E : EnvT} {U : State} (h : Env0 E U) : va_K (eD E) vwCl (tys0 E) U := h.1.1
theorem Env0.nw {E : EnvT} {U : State} (h : Env0 E U) {w : Cond} (hw : w ∈ lw_tbl) (hn : nwOk w = true) : va_Nw w U := h.1.2.1 w hw hn
theorem Env0.use {E : EnvT} {U : State} (h : Env0 E U) {A : Array Value} {w : Cond} (hw : w ∈ lw_tbl) (hn : nwOk w = true) : w.before A U = true := va_Nw.use (nwOk_tables hn) (h.nw hw hn)
theorem Env0.AO {E : EnvT} {U : State} (h : Env0 E U) : va_AO "java/lang/Object" U := h.1.2.2.1
theorem Env0.AA {E : EnvT} {U : State} (h : Env0 E U) : va_AA U := h.1.2.2.2.1
theorem Env0.Mi {E : EnvT} {U : State} (h : Env0 E U) : va_Mi "[Ljava/lang/Object;" (eK E 7) U := h.1.2.2.2.2
theorem Env0.Fs {E : EnvT} {U : State} (h : Env0 E U) : va_Fw RJ2 ⟨"java/util/List", "size", "()I"⟩ yJ2_size U := h.2.1.1
theorem Env0.Fg {E : EnvT} {U : State} (h : Env0 E U) : va_Fw RJ2 ⟨"java/util/List", "get", "(I)Ljava/lang/Object;"⟩ yJ2_get U := h.2.1.2
theorem Env0.St {E : EnvT} {U : State} (h : Env0 E U) : StE E U := h.2.2.1
theorem Env0.inj {E : EnvT} {U : State} (h : Env0 E U) : ∀ i j, i < 5 → j < 5 → eK E i = eK E j → i = j := h.2.2.2.1
theorem Env0.vals {E : EnvT} {U : State} (h : Env0 E U) : (eH E)[eK E 5]? = some (vp_cell (eC E 4) (arrK E)) := h.2.2.2.2.1
theorem Env0.klt {E : EnvT} {U : State} (h : Env0 E U) : ∀ i, i < 7 → eK E i < (eH E).size := h.2.2.2.2.2
/-- the cells below the start stand as they were -/
def Lo (E : EnvT) (H : Heap) : Prop := (eH E).size ≤ H.size ∧ ∀ q : Nat, q < (eH E).size → H[q]? = (eH E)[q]?
/-- the heap holds the ghost heap -/
def Inv (E : EnvT) (G : Gh) (H : Heap) : Prop := Lo E H ∧ ∃ ws : va_W, va_P (eD E) vwCl ws H ∧ va_D (eA E) ws ∧ ∀ (a : Nat) (t : Tg) (e : va_E), G a = some (t, e) → ∃ k : Nat, ws[k]? = some (a, e)
theorem Lo.kept {E : EnvT} {H : Heap} (h : Lo E H) : ∀ a : Nat, a < (eH E).size → ¬ eA E a → H[a]? = (eH E)[a]? := fun a h1 _ => h.2 a h1
theorem Inv.one {E : EnvT} {G : Gh} {H : Heap} (h : Inv E G H) {a : Nat} {t : Tg} {e : va_E} (hg : G a = some (t, e)) : va_P (eD E) vwCl [(a, e)] H := by
  obtain ⟨-, ws, hP, -, hG⟩ := h
  obtain ⟨k, hk⟩ := hG a t e hg
  intro i q hi
  match i, hi with
  | 0, hi => cases hi; exact hP k _ hk
  | i + 1, hi => simp at hi
theorem Inv.ge {E : EnvT} {G : Gh} {H : Heap} (h : Inv E G H) {a : Nat} {t : Tg} {e : va_E} (hg : G a = some (t, e)) : (eH E).size ≤ a := by
  obtain ⟨-, ws, -, hD, hG⟩ := h
  obtain ⟨k, hk⟩ := hG a t e hg
  exact hD.2 k _ hk
theorem Inv.lt {E : EnvT} {G : Gh} {H : Heap} (h : Inv E G H) {a : Nat} {t : Tg} {e : va_E} (hg : G a = some (t, e)) : a < H.size := (h.one hg 0 _ rfl).lt
/-- one cell written -/
def gU (G : Gh) (a : Nat) (x : Tg × va_E) : Gh := fun q => if q = a then some x else G q
theorem gU_self {G : Gh} {a : Nat} {x : Tg × va_E} : gU G a x a = some x := if_pos rfl
theorem gU_ne {G : Gh} {a b : Nat} {x : Tg × va_E} {y : Option (Tg × va_E)} (h : b ≠ a) (hb : G b = y) : gU G a x b = y := (if_neg h).trans hb
/-- cells of other tags are other cells -/
theorem g_ne {G : Gh} {a b : Nat} {t u : Tg} {e f : va_E} (ha : G a = some (t, e)) (hb : G b = some (u, f)) (h : u ≠ t) : b ≠ a := by
  intro z
  rw [z, ha] at hb
  exact h (Prod.mk.inj (Option.some.inj hb)).1.symm
theorem gU_o {G : Gh} {a b : Nat} {t u : Tg} {e f : va_E} {x : Tg × va_E} (ha : G a = some (t, e)) (hb : G b = some (u, f)) (h : u ≠ t) : gU G a x b = some (u, f) := gU_ne (g_ne ha hb h) hb
theorem gU_f {G : Gh} {a b : Nat} {u : Tg} {f : va_E} {x : Tg × va_E} (ha : G a = none) (hb : G b = some (u, f)) : gU G a x b = some (u, f) := gU_ne (fun z => by rw [z, ha] at hb; cases hb) hb
theorem gU_gU {G : Gh} {a : Nat} {x y : Tg × va_E} : gU (gU G a x) a y = gU G a y := by
  funext q
  unfold gU
  by_cases h : q = a <;> simp [h]
/-- what other tags have stays -/
def Fr (P : Tg → Prop) (G G' : Gh) : Prop := ∀ (b : Nat) (t : Tg) (e : va_E), ¬ P t → G b = some (t, e) → G' b = some (t, e)
theorem Fr.rf {P : Tg → Prop} {G : Gh} : Fr P G G := fun _ _ _ _ h => h
theorem Fr.trans {P : Tg → Prop} {G G' G'' : Gh} (h : Fr P G G') (h' : Fr P G' G'') : Fr P G G'' := fun b t e n g => h' b t e n (h b t e n g)
theorem Fr.mono {P P' : Tg → Prop} {G G' : Gh} (h : Fr P G G') (hp : ∀ t, P t → P' t) : Fr P' G G' := fun b t e n g => h b t e (fun z => n (hp t z)) g
theorem Fr.put {P : Tg → Prop} {G : Gh} {a : Nat} {t : Tg} {e : va_E} {x : Tg × va_E} (ha : G a = some (t, e)) (hp : P t) : Fr P G (gU G a x) := fun b u f n g => gU_o ha g (fun z => n (z ▸ hp))
theorem Fr.new {P : Tg → Prop} {G : Gh} {a : Nat} {x : Tg × va_E} (ha : G a = none) : Fr P G (gU G a x) := fun b u f n g => gU_f ha g
/-- the invariant behind one cell written -/
theorem Inv.put {E : EnvT} {G : Gh} {H1 : Heap} {a : Nat} {t' : Tg} {e e' : va_E} {ws : va_W} {k : Nat} (hL : Lo E H1) (hG : ∀ (a : Nat) (t : Tg) (e : va_E), G a = some (t, e) → ∃ k : Nat, ws[k]? = some (a, e)) (hD0 : va_D (eA E) ws) (hk : ws[k]? = some (a, e)) (hP : va_P (eD E) vwCl (ws.set k (a, e')) H1) (hD : va_D (eA E) (ws.set k (a, e'))) : Inv E (gU G a (t', e')) H1 := by
  refine ⟨hL, _, hP, hD, fun b u f hb => ?_⟩
  have hl := (List.getElem?_eq_some_iff.mp hk).1
  by_cases h : b = a
  · subst h
    rw [gU_self] at hb
    cases hb
    exact ⟨k, List.getElem?_set_self hl⟩
  · have hb' : G b = some (u, f) := (if_neg h).symm.trans hb
    obtain ⟨j, hj⟩ := hG b u f hb'
    refine ⟨j, ?_⟩
    rw [List.getElem?_set_ne]
    · exact hj
    · intro z
      subst z
      rw [hk] at hj
      cases hj
      exact h rfl
theorem Inv.add {E : EnvT} {G : Gh} {H1 : Heap} {q : Nat} {t' : Tg} {e' : va_E} {ws : va_W} (hL : Lo E H1) (hG : ∀ (a : Nat) (t : Tg) (e : va_E), G a = some (t, e) → ∃ k : Nat, ws[k]? = some (a, e)) (hP : va_P (eD E) vwCl (ws ++ [(q, e')]) H1) (hD : va_D (eA E) (ws ++ [(q, e')])) : Inv E (gU G q (t', e')) H1 ∧ G q = none := by
  have hq : G q = none := by
    cases h : G q with
    | none => rfl
    | some x =>
      obtain ⟨t, e⟩ := x
      obtain ⟨k, hk⟩ := hG q t e h
      have hl := (List.getElem?_eq_some_iff.mp hk).1
      have h1 : (ws ++ [(q, e')])[k]? = some (q, e) := by rw [List.getElem?_append_left hl]; exact hk
      have h2 : (ws ++ [(q, e')])[ws.length]? = some (q, e') := by simp
      exact absurd (hD.1 k ws.length _ _ h1 h2 rfl) (Nat.ne_of_lt hl)
  refine ⟨⟨hL, _, hP, hD, fun b u f hb => ?_⟩, hq⟩
  by_cases h : b = q
  · subst h
    rw [gU_self] at hb
    cases hb
    exact ⟨ws.length, by simp⟩
  · have hb' : G b = some (u, f) := (if_neg h).symm.trans hb
    obtain ⟨j, hj⟩ := hG b u f hb'
    exact ⟨j, by rw [List.getElem?_append_left (List.getElem?_eq_some_iff.mp hj).1]; exact hj⟩
theorem Inv.drop {E : EnvT} {G G' : Gh} {H : Heap} (h : Inv E G H) (hs : ∀ (a : Nat) (t : Tg) (e : va_E), G' a = some (t, e) → ∃ t', G a = some (t', e)) : Inv E G' H := by
  obtain ⟨hL, ws, hP, hD, hG⟩ := h
  exact ⟨hL, ws, hP, hD, fun a t e ha => by obtain ⟨t', h'⟩ := hs a t e ha; exact hG a t' e h'⟩
theorem Inv.kept {E : EnvT} {G : Gh} {H H1 : Heap} (h : Inv E G H) (hz : H.size ≤ H1.size) (hk : ∀ q : Nat, q < H.size → H1[q]? = H[q]?) : Inv E G H1 := by
  obtain ⟨hL, ws, hP, hD, hG⟩ := h
  exact ⟨⟨Nat.le_trans hL.1 hz, fun q hq => (hk q (Nat.lt_of_lt_of_le hq hL.1)).trans (hL.2 q hq)⟩, ws, hP.kept (fun k x hx => hk x.1 (hP k x hx).lt), hD, hG⟩
/-- from the method's start on only cells from the law's start on are written -/
theorem Lo.step {E : EnvT} {H0 H : Heap} {locs : List Loc} (h : Lo E H0) (hS : va_S (eA E) H0 H locs) : Lo E H := ⟨Nat.le_trans h.1 hS.1, fun q hq => (hS.2.1 q (Nat.lt_of_lt_of_le hq h.1) (Nat.not_le.mpr hq)).trans (h.2 q hq)⟩
/-! contracts -/
/-- a contract's start -/
def cP (E : EnvT) (G : Gh) (av : List Value) : Array Value → State → Prop := va_Pc av (fun U => Env0 E U ∧ Inv E G U.heap)
abbrev cI (E : EnvT) (post : Int32 → Gh → Prop) : Array Value → State → Outcome → State → Prop := va_Qi post (fun (G : Gh) (t : State) => Inv E G t.heap) (eA E)
abbrev cL (E : EnvT) (post : Int64 → Gh → Prop) : Array Value → State → Outcome → State → Prop := va_Ql post (fun (G : Gh) (t : State) => Inv E G t.heap) (eA E)
abbrev cF (E : EnvT) (post : UInt64 → Gh → Prop) : Array Value → State → Outcome → State → Prop := va_Qd post (fun (G : Gh) (t : State) => Inv E G t.heap) (eA E)
abbrev cV (E : EnvT) (post : Gh → Prop) : Array Value → State → Outcome → State → Prop := va_Qv post (fun (G : Gh) (t : State) => Inv E G t.heap) (eA E)
abbrev cR (E : EnvT) (post : Nat → Gh → Prop) : Array Value → State → Outcome → State → Prop := va_Qr (S := Gh) (fun _ => True) (fun G a t => post a G ∧ Inv E G t.heap) (eA E)
abbrev cX (E : EnvT) (post : String → Gh → Prop) : String → State → State → Prop := vx_X (S := Gh) (fun _ => True) (fun X G t => post X G ∧ Inv E G t.heap) (eA E)
theorem cP.blind {E : EnvT} {G : Gh} {av : List Value} : FrameBlind (cP E G av) := fun a U g mk q => by
  obtain ⟨q0, q1, q2⟩ := q
  exact ⟨q0, Env0.moved (U := U.calling g mk a) (State.WarmedH.refl U) q1, q2⟩
section GR
variable {p : Program} {l : Launch} {e : Env} {R : Room} {s : State} {m : MethodId} {args : Array Value} {below : List Frame} {meth : Method} {c : Code} {H : Heap} {locs : List Loc} {cells slots : Nat} {Q : State → Prop}
variable {cc : ByteArray} {pc : Nat} {ls : Array Slot} {rest : List Value} {E : EnvT} {G : Gh} {a : Nat} {t : Tg}
theorem g_preS {As : List Value} (hE : Env0 E s) (hI : Inv E G H) : PreS s H (cP E G As) As := ⟨cP.blind, fun U hU hW => ⟨rfl, hE.moved hW, by rw [hU]; exact hI⟩⟩
theorem g_recv {ci : Nat} {fs : List Value} {q : vw_C} (hE : Env0 E s) (hI : Inv E G H) (hg : G a = some (t, .inr (ci, fs))) (hc : vwCl[ci]? = some q) : ∃ cell : Cell, H[a]? = some cell ∧ cell.vm.isStatics = false ∧ s.vm.findClass q.1 = some cell.cls := va_recv hE.K (hI.one hg) hc (q0 := 0) rfl
theorem g_preV {C : String} {As : List Value} (hE : Env0 E s) (hI : Inv E G H) (hr : ∃ cell : Cell, H[a]? = some cell ∧ cell.vm.isStatics = false ∧ s.vm.findClass C = some cell.cls) : PreV s H C a (cP E G (.ref a :: As)) As := ⟨cP.blind, hr, fun U hU hW => ⟨rfl, hE.moved hW, by rw [hU]; exact hI⟩⟩
/-! fields -/
theorem g_get (hexec : p.tables.exec = Jvm.exec) (hb : c.code = cc) {own ref C : String} {T : u_T} {N ci index : Nat} (hts : ∀ w ∈ lw_all, w.before args s = true) (hin : ∀ w ∈ u_ws C T N, w ∈ lw_all) (hown : s.vm.findClass own = some m.cls) (hE : Env0 E s) (hI : Inv E G H) {fs : List Value} (hg : G a = some (t, .inr (ci, fs))) (hc : vwCl[ci]? = some (C, T, N)) (k : Nat) (hk : k < N) (hlink : (Cond.fieldLink own index ref (T k).2.1 (T k).2.2.1) ∈ lw_all) (hsame : ∀ x, s.fieldFound? (T k).1 (T k).2.1 (T k).2.2.1 = some x → s.fieldFound? ref (T k).2.1 (T k).2.2.1 = some x) {v : Value} (hv : fs[k]? = some v) (hdg : decode cc pc = .ok (.getfield index, 3))
    (kk : W p l e R s m args below meth c H locs cells slots Q (F0 m (pc + 3) ls (v :: rest))) : W p l e R s m args below meth c H locs cells slots Q (F0 m pc ls (.ref a :: rest)) :=
  va_get hexec hb hts hin hown hE.K (hI.one hg) 0 rfl hc k hk (hts _ hlink) hsame hv hdg kk
theorem g_getN (hexec : p.tables.exec = Jvm.exec) (hb : c.code = cc) {own ref C host : String} {T : u_T} {N ci index : Nat} (hts : ∀ w ∈ lw_all, w.before args s = true) (hin : ∀ w ∈ u_ws C T N, w ∈ lw_all) (hown : s.vm.findClass own = some m.cls) (hE : Env0 E s) (hI : Inv E G H) {fs : List Value} (hg : G a = some (t, .inr (ci, fs))) (hc : vwCl[ci]? = some (C, T, N)) (k : Nat) (hk : k < N) (hlink : (Cond.fieldLinkNest own index ref (T k).2.1 (T k).2.2.1 host) ∈ lw_tbl) (hsame : ∀ x, s.fieldFound? (T k).1 (T k).2.1 (T k).2.2.1 = some x → s.fieldFound? ref (T k).2.1 (T k).2.2.1 = some x) {v : Value} (hv : fs[k]? = some v) (hdg : decode cc pc = .ok (.getfield index, 3))
    (kk : W p l e R s m args below meth c H locs cells slots Q (F0 m (pc + 3) ls (v :: rest))) : W p l e R s m args below meth c H locs cells slots Q (F0 m pc ls (.ref a :: rest)) :=
  va_getN hexec hb hts hin hown hE.K (hI.one hg) 0 rfl hc k hk (hE.use hlink rfl) hsame hv hdg kk
theorem g_put (hexec : p.tables.exec = Jvm.exec) (hb : c.code = cc) {own ref C : String} {T : u_T} {N ci index : Nat} (hts : ∀ w ∈ lw_all, w.before args s = true) (hin : ∀ w ∈ u_ws C T N, w ∈ lw_all) (ty0 : Nat → FieldType) (hty : ∀ k, k < N → parseFieldDescriptor (T k).2.2.1 = some (ty0 k)) (hnm : ∀ a, a < N → ∀ b, b < N → a ≠ b → (T a).2.1 ≠ (T b).2.1) (hown : s.vm.findClass own = some m.cls) (hE : Env0 E s) (hI : Inv E G H) (hS : va_S (eA E) s.heap H locs) (hL : Lo E s.heap) {fs : List Value} (hg : G a = some (t, .inr (ci, fs))) (hc : vwCl[ci]? = some (C, T, N)) (k : Nat) (hk : k < N) (hlink : (Cond.fieldLink own index ref (T k).2.1 (T k).2.2.1) ∈ lw_all) (hsame : ∀ x, s.fieldFound? (T k).1 (T k).2.1 (T k).2.2.1 = some x → s.fieldFound? ref (T k).2.1 (T k).2.2.1 = some x) (hfin : (T k).2.2.2 = false) {ty : FieldType} {v : Value} (hd : parseFieldDescriptor (T k).2.2.1 = some ty) (hn : narrow ty v = v) (hfit : fits ty v = true) (hl : k < fs.length) {fs' : List Value} (hfs : fs.set k v = fs')
    (hdg : decode cc pc = .ok (.putfield index, 3)) (kk : ∀ (H1 : Heap) (locs1 : List Loc), Inv E (gU G a (t, .inr (ci, fs'))) H1 → va_S (eA E) s.heap H1 locs1 → W p l e R s m args below meth c H1 locs1 cells slots Q (F0 m (pc + 3) ls rest)) : W p l e R s m args below meth c H locs cells slots Q (F0 m pc ls (v :: .ref a :: rest)) := by
  subst hfs
  obtain ⟨-, ws, hP, hD, hG⟩ := hI
  obtain ⟨k9, hk9⟩ := hG a t _ hg
  exact va_put hexec hb hts hin ty0 hty hnm hown hE.K hP hD hS k9 hk9 hc k hk (hts _ hlink) hsame hfin hd hn hfit hl hdg (fun H1 locs1 hP1 hD1 hS1 => kk H1 locs1 (Inv.put (hL.step hS1) hG hD hk9 hP1 hD1) hS1)
theorem g_putF (hexec : p.tables.exec = Jvm.exec) (hb : c.code = cc) {own ref C : String} {T : u_T} {N ci index : Nat} (hts : ∀ w ∈ lw_all, w.before args s = true) (hin : ∀ w ∈ u_ws C T N, w ∈ lw_all) (ty0 : Nat → FieldType) (hty : ∀ k, k < N → parseFieldDescriptor (T k).2.2.1 = some (ty0 k)) (hnm : ∀ a, a < N → ∀ b, b < N → a ≠ b → (T a).2.1 ≠ (T b).2.1) (hown : s.vm.findClass own = some m.cls) (hE : Env0 E s) (hI : Inv E G H) (hS : va_S (eA E) s.heap H locs) (hL : Lo E s.heap) {fs : List Value} (hg : G a = some (t, .inr (ci, fs))) (hc : vwCl[ci]? = some (C, T, N)) (k : Nat) (hk : k < N) (hlink : (Cond.fieldLink own index ref (T k).2.1 (T k).2.2.1) ∈ lw_all) (hsame : ∀ x, s.fieldFound? (T k).1 (T k).2.1 (T k).2.2.1 = some x → s.fieldFound? ref (T k).2.1 (T k).2.2.1 = some x) (hfin : (T k).2.2.2 = true) (hin2 : meth.name = "<init>") (hdecl : (T k).1 = own) {ty : FieldType} {v : Value} (hd : parseFieldDescriptor (T k).2.2.1 = some ty) (hn : narrow ty v = v) (hfit : fits ty v = true) (hl : k < fs.length) {fs' : List Value} (hfs : fs.set k v = fs')
    (hdg : decode cc pc = .ok (.putfield index, 3)) (kk : ∀ (H1 : Heap) (locs1 : List Loc), Inv E (gU G a (t, .inr (ci, fs'))) H1 → va_S (eA E) s.heap H1 locs1 → W p l e R s m args below meth c H1 locs1 cells slots Q (F0 m (pc + 3) ls rest)) : W p l e R s m args below meth c H locs cells slots Q (F0 m pc ls (v :: .ref a :: rest)) := by
  subst hfs
  obtain ⟨-, ws, hP, hD, hG⟩ := hI
  obtain ⟨k9, hk9⟩ := hG a t _ hg
  exact va_putF hexec hb hts hin ty0 hty hnm hown hE.K hP hD hS k9 hk9 hc k hk (hts _ hlink) hsame hfin hin2 hdecl hd hn hfit hl hdg (fun H1 locs1 hP1 hD1 hS1 => kk H1 locs1 (Inv.put (hL.step hS1) hG hD hk9 hP1 hD1) hS1)
theorem g_putN (hexec : p.tables.exec = Jvm.exec) (hb : c.code = cc) {own ref C host : String} {T : u_T} {N ci index : Nat} (hts : ∀ w ∈ lw_all, w.before args s = true) (hin : ∀ w ∈ u_ws C T N, w ∈ lw_all) (ty0 : Nat → FieldType) (hty : ∀ k, k < N → parseFieldDescriptor (T k).2.2.1 = some (ty0 k)) (hnm : ∀ a, a < N → ∀ b, b < N → a ≠ b → (T a).2.1 ≠ (T b).2.1) (hown : s.vm.findClass own = some m.cls) (hE : Env0 E s) (hI : Inv E G H) (hS : va_S (eA E) s.heap H locs) (hL : Lo E s.heap) {fs : List Value} (hg : G a = some (t, .inr (ci, fs))) (hc : vwCl[ci]? = some (C, T, N)) (k : Nat) (hk : k < N) (hlink : (Cond.fieldLinkNest own index ref (T k).2.1 (T k).2.2.1 host) ∈ lw_tbl) (hsame : ∀ x, s.fieldFound? (T k).1 (T k).2.1 (T k).2.2.1 = some x → s.fieldFound? ref (T k).2.1 (T k).2.2.1 = some x) (hfin : (T k).2.2.2 = false) {ty : FieldType} {v : Value} (hd : parseFieldDescriptor (T k).2.2.1 = some ty) (hn : narrow ty v = v) (hfit : fits ty v = true) (hl : k < fs.length) {fs' : List Value} (hfs : fs.set k v = fs')
    (hdg : decode cc pc = .ok (.putfield index, 3)) (kk : ∀ (H1 : Heap) (locs1 : List Loc), Inv E (gU G a (t, .inr (ci, fs'))) H1 → va_S (eA E) s.heap H1 locs1 → W p l e R s m args below meth c H1 locs1 cells slots Q (F0 m (pc + 3) ls rest)) : W p l e R s m args below meth c H locs cells slots Q (F0 m pc ls (v :: .ref a :: rest)) := by
  subst hfs
  obtain ⟨-, ws, hP, hD, hG⟩ := hI
  obtain ⟨k9, hk9⟩ := hG a t _ hg
  exact va_putN hexec hb hts hin ty0 hty hnm hown hE.K hP hD hS k9 hk9 hc k hk (hE.use hlink rfl) hsame hfin hd hn hfit hl hdg (fun H1 locs1 hP1 hD1 hS1 => kk H1 locs1 (Inv.put (hL.step hS1) hG hD hk9 hP1 hD1) hS1)
/-! new -/
theorem g_new (t : Tg) (hexec : p.tables.exec = Jvm.exec) (hb : c.code = cc) {own C : String} {T : u_T} {N ci index : Nat} (hts : ∀ w ∈ lw_all, w.before args s = true) (hin : ∀ w ∈ u_ws C T N, w ∈ lw_all) (ty : Nat → FieldType) (hty : ∀ k, k < N → parseFieldDescriptor (T k).2.2.1 = some (ty k)) (hown : s.vm.findClass own = some m.cls) (hcl : Cond.classLink own index C ∈ lw_all) (hinst : Cond.instantiable C N ∈ lw_all) (hini : Cond.initialized C ∈ lw_all)
    (hE : Env0 E s) (hI : Inv E G H) (hS : va_S (eA E) s.heap H locs) (hL : Lo E s.heap) (hc : vwCl[ci]? = some (C, T, N)) {fs : List Value} (hfs : ∀ j, j < N → defaultValue (ty j) = vp_V fs j) (hcells : cells + 1 ≤ R.cells) (hslots : slots + N ≤ R.slots) (hdg : decode cc pc = .ok (.new index, 3))
    (kk : ∀ (q : Nat) (H1 : Heap), G q = none → Inv E (gU G q (t, .inr (ci, fs))) H1 → va_S (eA E) s.heap H1 locs →
      W p l e R s m args below meth c H1 locs (cells + 1) (slots + N) Q (F0 m (pc + 3) ls (.ref q :: rest))) : W p l e R s m args below meth c H locs cells slots Q (F0 m pc ls rest) := by
  obtain ⟨-, ws, hP, hD, hG⟩ := hI
  exact va_new hexec hb hts hin ty hty hown (hts _ hcl) (hts _ hinst) (hts _ hini) hE.K hP hD hS (fun q h => Nat.le_trans hL.1 h) hc hfs hcells hslots hdg (fun q H1 hP1 hD1 hS1 => by
    obtain ⟨h1, h2⟩ := Inv.add (t' := t) (hL.step hS1) hG hP1 hD1
    exact kk q H1 h2 h1 hS1)
/-! arrays -/
theorem g_iald (hexec : p.tables.exec = Jvm.exec) (hb : c.code = cc) (hE : Env0 E s) (hI : Inv E G H) {n : Nat} {f : Nat → Int32} (hg : G a = some (t, .inl (eC E 0, n, .inl f))) {i : Int32} (j : Nat) (hj : i = nI j) (hjn : j < n) (hn : n < 2 ^ 31) (hdg : decode cc pc = .ok (.iaload, 1))
    (kk : W p l e R s m args below meth c H locs cells slots Q (F0 m (pc + 1) ls (.int (f j) :: rest))) : W p l e R s m args below meth c H locs cells slots Q (F0 m pc ls (.int i :: .ref a :: rest)) := by
  subst hj
  refine va_iald hexec hb hE.K (hI.one hg) 0 0 rfl rfl (vp_in_nI hjn hn) hdg ?_
  rw [nI_clamp (Nat.lt_trans hjn hn)]
  exact kk
theorem g_iast (hexec : p.tables.exec = Jvm.exec) (hb : c.code = cc) (hE : Env0 E s) (hI : Inv E G H) (hS : va_S (eA E) s.heap H locs) (hL : Lo E s.heap) {n : Nat} {f : Nat → Int32} (hg : G a = some (t, .inl (eC E 0, n, .inl f))) {i x : Int32} (j : Nat) (hj : i = nI j) (hjn : j < n) (hn : n < 2 ^ 31) (hdg : decode cc pc = .ok (.iastore, 1))
    (kk : ∀ (H1 : Heap) (locs1 : List Loc), Inv E (gU G a (t, .inl (eC E 0, n, .inl (upd f j x)))) H1 → va_S (eA E) s.heap H1 locs1 → W p l e R s m args below meth c H1 locs1 cells slots Q (F0 m (pc + 1) ls rest)) : W p l e R s m args below meth c H locs cells slots Q (F0 m pc ls (.int x :: .int i :: .ref a :: rest)) := by
  subst hj
  obtain ⟨-, ws, hP, hD, hG⟩ := hI
  obtain ⟨k9, hk9⟩ := hG a t _ hg
  refine va_iast hexec hb hE.K hP hD hS k9 0 hk9 rfl (vp_in_nI hjn hn) hdg (fun H1 locs1 hP1 hD1 hS1 => ?_)
  rw [nI_clamp (Nat.lt_trans hjn hn)] at hP1 hD1
  exact kk H1 locs1 (Inv.put (hL.step hS1) hG hD hk9 hP1 hD1) hS1
theorem g_alen (hexec : p.tables.exec = Jvm.exec) (hb : c.code = cc) (hE : Env0 E s) (hI : Inv E G H) {cA : ClassId} {x : vp_A} (hg : G a = some (t, .inl (cA, x))) (t0 : Nat) {ty : FieldType} (ht : (tys0 E)[t0]? = some (cA, ty)) (hdg : decode cc pc = .ok (.arraylength, 1))
    (kk : W p l e R s m args below meth c H locs cells slots Q (F0 m (pc + 1) ls (.int (nI x.1) :: rest))) : W p l e R s m args below meth c H locs cells slots Q (F0 m pc ls (.ref a :: rest)) :=
  va_alen hexec hb hE.K (hI.one hg) 0 t0 rfl ht rfl hdg kk
theorem g_newi (t : Tg) (hexec : p.tables.exec = Jvm.exec) (hb : c.code = cc) (hts : ∀ w ∈ lw_all, w.before args s = true) (hE : Env0 E s) (hI : Inv E G H) (hS : va_S (eA E) s.heap H locs) (hL : Lo E s.heap)
    {n : Int32} (N' : Nat) (hN : n = nI N') (hb2 : N' ≤ 1000) (hcells : cells + 1 ≤ R.cells) (hslots : slots + N' ≤ R.slots) (hdg : decode cc pc = .ok (.newarray .int, 2))
    (kk : ∀ (q : Nat) (H1 : Heap), G q = none → Inv E (gU G q (t, .inl (eC E 0, N', .inl (fun _ => 0)))) H1 → va_S (eA E) s.heap H1 locs →
      W p l e R s m args below meth c H1 locs (cells + 1) (slots + N') Q (F0 m (pc + 2) ls (.ref q :: rest))) : W p l e R s m args below meth c H locs cells slots Q (F0 m pc ls (.int n :: rest)) := by
  subst hN
  have hK := hE.K
  obtain ⟨-, ws, hP, hD, hG⟩ := hI
  refine va_newa (atype := .int) (ty := .int) (N' := N') (a0 := (N', .inl (fun _ => 0))) hexec hb (hts _ q871) rfl hK hP hD hS (fun q h => Nat.le_trans hL.1 h) (fun _ => rfl) (nI_pos (by omega)) (nI_clamp (by omega)) (by show N' * 4 ≤ _; omega) hcells hslots hdg (fun q cA H1 hK1 hP1 hD1 hS1 => ?_)
  have e1 : s.vm.findClass "[I" = some cA := va_nm_int (hK1.2 5 (cA, .int) rfl).2
  have e2 : s.vm.findClass "[I" = some (eC E 0) := va_nm_int (hK.2 0 (eC E 0, .int) rfl).2
  cases Option.some.inj (e1.symm.trans e2)
  obtain ⟨h1, h2⟩ := Inv.add (t' := t) (hL.step hS1) hG hP1 hD1
  exact kk q H1 h2 h1 hS1
theorem g_newl (t : Tg) (hexec : p.tables.exec = Jvm.exec) (hb : c.code = cc) (hts : ∀ w ∈ lw_all, w.before args s = true) (hE : Env0 E s) (hI : Inv E G H) (hS : va_S (eA E) s.heap H locs) (hL : Lo E s.heap)
    {n : Int32} (N' : Nat) (hN : n = nI N') (hb2 : N' ≤ 1000) (hcells : cells + 1 ≤ R.cells) (hslots : slots + N' ≤ R.slots) (hdg : decode cc pc = .ok (.newarray .long, 2))
    (kk : ∀ (q : Nat) (H1 : Heap), G q = none → Inv E (gU G q (t, .inl (eC E 2, N', .inr (.inl (fun _ => 0))))) H1 → va_S (eA E) s.heap H1 locs →
      W p l e R s m args below meth c H1 locs (cells + 1) (slots + N') Q (F0 m (pc + 2) ls (.ref q :: rest))) : W p l e R s m args below meth c H locs cells slots Q (F0 m pc ls (.int n :: rest)) := by
  subst hN
  have hK := hE.K
  obtain ⟨-, ws, hP, hD, hG⟩ := hI
  refine va_newa (atype := .long) (ty := .long) (N' := N') (a0 := (N', .inr (.inl (fun _ => 0)))) hexec hb (hts _ q1042) rfl hK hP hD hS (fun q h => Nat.le_trans hL.1 h) (fun _ => rfl) (nI_pos (by omega)) (nI_clamp (by omega)) (by show N' * 8 ≤ _; omega) hcells hslots hdg (fun q cA H1 hK1 hP1 hD1 hS1 => ?_)
  have e1 : s.vm.findClass "[J" = some cA := va_nm_long (hK1.2 5 (cA, .long) rfl).2
  have e2 : s.vm.findClass "[J" = some (eC E 2) := va_nm_long (hK.2 2 (eC E 2, .long) rfl).2
  cases Option.some.inj (e1.symm.trans e2)
  obtain ⟨h1, h2⟩ := Inv.add (t' := t) (hL.step hS1) hG hP1 hD1
  exact kk q H1 h2 h1 hS1
theorem g_aald (hexec : p.tables.exec = Jvm.exec) (hb : c.code = cc) (hE : Env0 E s) (hI : Inv E G H) {cA : ClassId} {n : Nat} {f : Nat → Option Nat} (hg : G a = some (t, .inl (cA, n, .inr (.inr (.inr (.inr f)))))) (t0 : Nat) {C : String} (ht : (tys0 E)[t0]? = some (cA, .object C)) {i : Int32} (j : Nat) (hj : i = nI j) (hjn : j < n) (hn : n < 2 ^ 31) {b : Nat} (hv : f j = some b) (hdg : decode cc pc = .ok (.aaload, 1))
    (kk : W p l e R s m args below meth c H locs cells slots Q (F0 m (pc + 1) ls (.ref b :: rest))) : W p l e R s m args below meth c H locs cells slots Q (F0 m pc ls (.int i :: .ref a :: rest)) := by
  subst hj
  refine va_aldq hexec hb hE.K (hI.one hg) 0 t0 rfl ht (vp_in_nI hjn hn) hdg ?_
  rw [nI_clamp (Nat.lt_trans hjn hn), hv]
  exact kk
/-! ends -/
theorem g_iret {post : Int32 → Gh → Prop} {v : Int32} {mc ms : Nat} (hexec : p.tables.exec = Jvm.exec) (hb : c.code = cc) (hr : meth.sig.returnType = some .int) (hlk : meth.locks = false) (hI : Inv E G H) (hS : va_S (eA E) s.heap H locs) (hdg : decode cc pc = .ok (.ireturn, 1)) (hc : cells ≤ mc) (hs : slots ≤ ms) (hp : post v G) : W p l e R s m args below meth c H locs cells slots (MQ below (cI E post) args s mc ms (eA E)) (F0 m pc ls [.int v]) :=
  W.widen hc hs (W.iret hexec hb hr (fun T hT hW => ⟨⟨v, G, rfl, hp, by show Inv E _ T.heap; rw [hT]; exact hI⟩, hS.F hT⟩) hS.2.2 hdg hlk)
theorem g_zret {post : Int32 → Gh → Prop} {v : Int32} {mc ms : Nat} (hexec : p.tables.exec = Jvm.exec) (hb : c.code = cc) (hr : meth.sig.returnType = some .boolean) (hlk : meth.locks = false) (hI : Inv E G H) (hS : va_S (eA E) s.heap H locs) (hdg : decode cc pc = .ok (.ireturn, 1)) (hc : cells ≤ mc) (hs : slots ≤ ms) (hz : narrow .boolean (.int v) = .int v) (hp : post v G) : W p l e R s m args below meth c H locs cells slots (MQ below (cI E post) args s mc ms (eA E)) (F0 m pc ls [.int v]) :=
  W.widen hc hs (W.zret hexec hb hr hz (fun T hT hW => ⟨⟨v, G, rfl, hp, by show Inv E _ T.heap; rw [hT]; exact hI⟩, hS.F hT⟩) hS.2.2 hdg hlk)
theorem g_lret {post : Int64 → Gh → Prop} {v : Int64} {mc ms : Nat} (hexec : p.tables.exec = Jvm.exec) (hb : c.code = cc) (hr : meth.sig.returnType = some .long) (hlk : meth.locks = false) (hI : Inv E G H) (hS : va_S (eA E) s.heap H locs) (hdg : decode cc pc = .ok (.lreturn, 1)) (hc : cells ≤ mc) (hs : slots ≤ ms) (hp : post v G) : W p l e R s m args below meth c H locs cells slots (MQ below (cL E post) args s mc ms (eA E)) (F0 m pc ls [.long v]) :=
  W.widen hc hs (W.lret hexec hb hr (fun T hT hW => ⟨⟨v, G, rfl, hp, by show Inv E _ T.heap; rw [hT]; exact hI⟩, hS.F hT⟩) hS.2.2 hdg hlk)
theorem g_dret {post : UInt64 → Gh → Prop} {v : UInt64} {mc ms : Nat} (hexec : p.tables.exec = Jvm.exec) (hb : c.code = cc) (hr : meth.sig.returnType = some .double) (hlk : meth.locks = false) (hI : Inv E G H) (hS : va_S (eA E) s.heap H locs) (hdg : decode cc pc = .ok (.dreturn, 1)) (hc : cells ≤ mc) (hs : slots ≤ ms) (hp : post v G) : W p l e R s m args below meth c H locs cells slots (MQ below (cF E post) args s mc ms (eA E)) (F0 m pc ls [.double v]) :=
  W.widen hc hs (W.dret hexec hb hr (fun T hT hW => ⟨⟨v, G, rfl, hp, by show Inv E _ T.heap; rw [hT]; exact hI⟩, hS.F hT⟩) hS.2.2 hdg hlk)
theorem g_vret {post : Gh → Prop} {mc ms : Nat} (hexec : p.tables.exec = Jvm.exec) (hb : c.code = cc) (hr : meth.sig.returnType = none) (hlk : meth.locks = false) (hI : Inv E G H) (hS : va_S (eA E) s.heap H locs) (hdg : decode cc pc = .ok (.return_, 1)) (hc : cells ≤ mc) (hs : slots ≤ ms) (hp : post G) : W p l e R s m args below meth c H locs cells slots (MQ below (cV E post) args s mc ms (eA E)) (F0 m pc ls []) :=
  W.widen hc hs (W.vret hexec hb hr (fun T hT hW => ⟨⟨G, rfl, hp, by show Inv E _ T.heap; rw [hT]; exact hI⟩, hS.F hT⟩) hS.2.2 hdg hlk)
theorem g_aret {post : Nat → Gh → Prop} {v : Nat} {mc ms : Nat} {rt : FieldType} (hexec : p.tables.exec = Jvm.exec) (hb : c.code = cc) (hr : meth.sig.returnType = some rt) (hrt : (∃ n, rt = .object n) ∨ ∃ t, rt = .array t) (hlk : meth.locks = false) (hI : Inv E G H) (hS : va_S (eA E) s.heap H locs) (hdg : decode cc pc = .ok (.areturn, 1)) (hc : cells ≤ mc) (hs : slots ≤ ms) (hp : post v G) : W p l e R s m args below meth c H locs cells slots (MQ below (cR E post) args s mc ms (eA E)) (F0 m pc ls [.ref v]) :=
  W.widen hc hs (W.aret hexec hb hr hrt (Or.inr ⟨v, rfl⟩) (fun T hT hW => ⟨⟨G, v, rfl, trivial, hp, by show Inv E _ T.heap; rw [hT]; exact hI⟩, hS.F hT⟩) hS.2.2 hdg hlk)
/-! behind a call -/
variable {rest st0 : List Value} {av : Array Value} {mc ms : Nat}
theorem g_ci {post : Int32 → Gh → Prop} (hS : va_S (eA E) s.heap H locs) (hr : va_Run p l e R s m args below meth c H locs cells slots mc ms (F0 m pc ls st0) rest (cI E post av) (eA E))
    (kk : ∀ (r : Int32) (G' : Gh) (H1 : Heap) (locs1 : List Loc), post r G' → Inv E G' H1 → va_S (eA E) s.heap H1 locs1 → W p l e R s m args below meth c H1 locs1 (cells + mc) (slots + ms) Q (F0 m (pc + 3) ls (.int r :: rest))) : W p l e R s m args below meth c H locs cells slots Q (F0 m pc ls st0) :=
  va_calli hr hS (fun _ _ h => h) (fun _ h => h) (fun r u T H1 locs1 hT _ hp hB _ _ hS1 => kk r u H1 locs1 hp (by rw [← hT]; exact hB) hS1)
theorem g_cl {post : Int64 → Gh → Prop} (hS : va_S (eA E) s.heap H locs) (hr : va_Run p l e R s m args below meth c H locs cells slots mc ms (F0 m pc ls st0) rest (cL E post av) (eA E))
    (kk : ∀ (r : Int64) (G' : Gh) (H1 : Heap) (locs1 : List Loc), post r G' → Inv E G' H1 → va_S (eA E) s.heap H1 locs1 → W p l e R s m args below meth c H1 locs1 (cells + mc) (slots + ms) Q (F0 m (pc + 3) ls (.long r :: rest))) : W p l e R s m args below meth c H locs cells slots Q (F0 m pc ls st0) :=
  va_calll hr hS (fun _ _ h => h) (fun _ h => h) (fun r u T H1 locs1 hT _ hp hB _ _ hS1 => kk r u H1 locs1 hp (by rw [← hT]; exact hB) hS1)
theorem g_cd {post : UInt64 → Gh → Prop} (hS : va_S (eA E) s.heap H locs) (hr : va_Run p l e R s m args below meth c H locs cells slots mc ms (F0 m pc ls st0) rest (cF E post av) (eA E))
    (kk : ∀ (r : UInt64) (G' : Gh) (H1 : Heap) (locs1 : List Loc), post r G' → Inv E G' H1 → va_S (eA E) s.heap H1 locs1 → W p l e R s m args below meth c H1 locs1 (cells + mc) (slots + ms) Q (F0 m (pc + 3) ls (.double r :: rest))) : W p l e R s m args below meth c H locs cells slots Q (F0 m pc ls st0) :=
  va_calld hr hS (fun _ _ h => h) (fun _ h => h) (fun r u T H1 locs1 hT _ hp hB _ _ hS1 => kk r u H1 locs1 hp (by rw [← hT]; exact hB) hS1)
theorem g_cv {post : Gh → Prop} (hS : va_S (eA E) s.heap H locs) (hr : va_Run p l e R s m args below meth c H locs cells slots mc ms (F0 m pc ls st0) rest (cV E post av) (eA E))
    (kk : ∀ (G' : Gh) (H1 : Heap) (locs1 : List Loc), post G' → Inv E G' H1 → va_S (eA E) s.heap H1 locs1 → W p l e R s m args below meth c H1 locs1 (cells + mc) (slots + ms) Q (F0 m (pc + 3) ls rest)) : W p l e R s m args below meth c H locs cells slots Q (F0 m pc ls st0) :=
  va_callv hr hS (fun _ _ h => h) (fun _ h => h) (fun u T H1 locs1 hT _ hp hB _ _ hS1 => kk u H1 locs1 hp (by rw [← hT]; exact hB) hS1)
theorem g_cr {post : Nat → Gh → Prop} (hS : va_S (eA E) s.heap H locs) (hr : va_Run p l e R s m args below meth c H locs cells slots mc ms (F0 m pc ls st0) rest (cR E post av) (eA E))
    (kk : ∀ (r : Nat) (G' : Gh) (H1 : Heap) (locs1 : List Loc), post r G' → Inv E G' H1 → va_S (eA E) s.heap H1 locs1 → W p l e R s m args below meth c H1 locs1 (cells + mc) (slots + ms) Q (F0 m (pc + 3) ls (.ref r :: rest))) : W p l e R s m args below meth c H locs cells slots Q (F0 m pc ls st0) :=
  va_callr hr hS (fun _ _ h => h) (fun _ h => h) (fun u ra T H1 locs1 hT _ _ hB _ _ hS1 => kk ra u H1 locs1 hB.1 (by rw [← hT]; exact hB.2) hS1)
end GR
