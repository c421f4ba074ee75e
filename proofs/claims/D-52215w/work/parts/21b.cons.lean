/-! THE CONSOLE's PICTURE, in plain values -/
/-- a dimmer: part, pace, level, aim, life -/
abbrev Dm : Type := Int32 × Int32 × Int32 × Int32 × Int32
/-- a comet: speed, angle, ticks left -/
abbrev Km : Type := Int32 × Int32 × Int32
abbrev Sm : Type := Int32 × Int32
/-- a cue: time, kind, its two numbers -/
abbrev Um : Type := Int32 × Nat × Int32 × Int32
abbrev dOt (d : Dm) : va_E := dO d.1 d.2.1 d.2.2.1 d.2.2.2.1 d.2.2.2.2
abbrev kOt (k : Km) : va_E := kO k.1 k.2.1 k.2.2
abbrev sOt (k : Sm) : va_E := sO k.1 k.2
abbrev uOt (E : EnvT) (u : Um) : va_E := uO u.1 (eK E u.2.1) u.2.2.1 u.2.2.2
/-- tick, clock, runs, angle, speed, line, left -/
abbrev Sc : Type := Int32 × Int32 × Int32 × Int32 × Int32 × Int32 × Int32
abbrev Cn : Type := Sc × (Nat × (Nat → Dm)) × (Nat × (Nat → Km))
/-- addresses: the console, its two lists, its dimmers, its comets -/
abbrev CA : Type := Nat × Nat × Nat × (Nat → Nat) × (Nat → Nat)
abbrev coOt (c : Sc) (ld lc : Nat) : va_E := coO c.1 c.2.1 c.2.2.1 c.2.2.2.1 c.2.2.2.2.1 c.2.2.2.2.2.1 c.2.2.2.2.2.2 ld lc
def CRep (E : EnvT) (G : Gh) (o : Nat) (A : CA) (w : Cn) : Prop :=
  G A.1 = some ((o, 0, 0), coOt w.1 A.2.1 A.2.2.1) ∧ (∃ ed, LRep E G (o, 1, 0) (o, 2, 0) A.2.1 ed w.2.1.1 A.2.2.2.1) ∧ (∃ ec, LRep E G (o, 3, 0) (o, 4, 0) A.2.2.1 ec w.2.2.1 A.2.2.2.2) ∧
  (∀ k, k < w.2.1.1 → G (A.2.2.2.1 k) = some ((o, 5, k), dOt (w.2.1.2 k))) ∧ (∀ k, k < w.2.2.1 → G (A.2.2.2.2 k) = some ((o, 6, k), kOt (w.2.2.2 k)))
abbrev Ow (o : Nat) : Tg → Prop := fun t => t.1 = o
theorem CRep.fr {E : EnvT} {P : Tg → Prop} {G G' : Gh} {o : Nat} {A : CA} {w : Cn} (h : CRep E G o A w) (hF : Fr P G G') (hP : ∀ t, P t → t.1 ≠ o) : CRep E G' o A w := by
  obtain ⟨h1, ⟨ed, h2⟩, ⟨ec, h3⟩, h4, h5⟩ := h
  exact ⟨hF _ _ _ (fun z => hP _ z rfl) h1, ⟨ed, h2.fr hF (fun z => hP _ z rfl) (fun z => hP _ z rfl)⟩, ⟨ec, h3.fr hF (fun z => hP _ z rfl) (fun z => hP _ z rfl)⟩, fun k hk => hF _ _ _ (fun z => hP _ z rfl) (h4 k hk), fun k hk => hF _ _ _ (fun z => hP _ z rfl) (h5 k hk)⟩
/-- the console's own numbers written -/
theorem CRep.setC {E : EnvT} {G : Gh} {o : Nat} {A : CA} {w : Cn} (h : CRep E G o A w) (c : Sc) : CRep E (gU G A.1 ((o, 0, 0), coOt c A.2.1 A.2.2.1)) o A (c, w.2) ∧ Fr (Ow o) G (gU G A.1 ((o, 0, 0), coOt c A.2.1 A.2.2.1)) := by
  obtain ⟨h1, ⟨ed, h2⟩, ⟨ec, h3⟩, h4, h5⟩ := h
  have hF : Fr (fun t => t = (o, 0, 0)) G (gU G A.1 ((o, 0, 0), coOt c A.2.1 A.2.2.1)) := Fr.put h1 rfl
  exact ⟨⟨gU_self, ⟨ed, h2.fr hF (by simp) (by simp)⟩, ⟨ec, h3.fr hF (by simp) (by simp)⟩, fun k hk => hF _ _ _ (by simp) (h4 k hk), fun k hk => hF _ _ _ (by simp) (h5 k hk)⟩, hF.mono (fun t z => by rw [z])⟩
theorem CRep.setD {E : EnvT} {G : Gh} {o : Nat} {A : CA} {w : Cn} (h : CRep E G o A w) {j : Nat} (hj : j < w.2.1.1) (d : Dm) : CRep E (gU G (A.2.2.2.1 j) ((o, 5, j), dOt d)) o A (w.1, (w.2.1.1, va_up w.2.1.2 j d), w.2.2) ∧ Fr (Ow o) G (gU G (A.2.2.2.1 j) ((o, 5, j), dOt d)) := by
  obtain ⟨h1, ⟨ed, h2⟩, ⟨ec, h3⟩, h4, h5⟩ := h
  have hF : Fr (fun t => t = (o, 5, j)) G (gU G (A.2.2.2.1 j) ((o, 5, j), dOt d)) := Fr.put (h4 j hj) rfl
  refine ⟨⟨hF _ _ _ (by simp) h1, ⟨ed, h2.fr hF (by simp) (by simp)⟩, ⟨ec, h3.fr hF (by simp) (by simp)⟩, fun k hk => ?_, fun k hk => hF _ _ _ (by simp) (h5 k hk)⟩, hF.mono (fun t z => by rw [z])⟩
  by_cases z : k = j
  · subst z
    show _ = some (_, dOt (va_up w.2.1.2 k d k))
    rw [va_up_self]
    exact gU_self
  · show _ = some (_, dOt (va_up w.2.1.2 j d k))
    rw [va_up_ne _ _ z]
    exact hF _ _ _ (by simp [z]) (h4 k hk)
theorem CRep.setK {E : EnvT} {G : Gh} {o : Nat} {A : CA} {w : Cn} (h : CRep E G o A w) {j : Nat} (hj : j < w.2.2.1) (d : Km) : CRep E (gU G (A.2.2.2.2 j) ((o, 6, j), kOt d)) o A (w.1, w.2.1, (w.2.2.1, va_up w.2.2.2 j d)) ∧ Fr (Ow o) G (gU G (A.2.2.2.2 j) ((o, 6, j), kOt d)) := by
  obtain ⟨h1, ⟨ed, h2⟩, ⟨ec, h3⟩, h4, h5⟩ := h
  have hF : Fr (fun t => t = (o, 6, j)) G (gU G (A.2.2.2.2 j) ((o, 6, j), kOt d)) := Fr.put (h5 j hj) rfl
  refine ⟨⟨hF _ _ _ (by simp) h1, ⟨ed, h2.fr hF (by simp) (by simp)⟩, ⟨ec, h3.fr hF (by simp) (by simp)⟩, fun k hk => hF _ _ _ (by simp) (h4 k hk), fun k hk => ?_⟩, hF.mono (fun t z => by rw [z])⟩
  by_cases z : k = j
  · subst z
    show _ = some (_, kOt (va_up w.2.2.2 k d k))
    rw [va_up_self]
    exact gU_self
  · show _ = some (_, kOt (va_up w.2.2.2 j d k))
    rw [va_up_ne _ _ z]
    exact hF _ _ _ (by simp [z]) (h5 k hk)
/-- numbers -/
def dps (d : Dm) : Dm := (d.1, d.2.1, lvEnd (lvGo d.2.1 d.2.2.1 d.2.2.2.1) (lfGo (lvGo d.2.1 d.2.2.1 d.2.2.2.1) d.2.2.2.2), d.2.2.2.1, lfGo (lvGo d.2.1 d.2.2.1 d.2.2.2.1) d.2.2.2.2)
def kps (k : Km) : Km := (k.1, cpsA k.1 k.2.1 k.2.2, cpsL k.2.2)
def glS (dm : Nat → Dm) (of : Int32) : Nat → Int32
  | 0 => 0
  | k + 1 => glS dm of k + glr (dm k).1 (dm k).2.2.1 of
def seenV (dm : Nat → Dm) (nd : Nat) (at_ lt : Int32) : Int32 := if 10 * lt ≤ glS dm (at_ / 30) nd then 0 else 1
def starV (dm : Nat → Dm) (nd : Nat) (an : Int32) (s : Sm) : Int32 := seenV dm nd (rnd (s.1 + an)) s.2
def comeV (dm : Nat → Dm) (nd : Nat) (k : Km) : Int32 := if goneV k.2.2 = 0 then (if seenV dm nd k.2.1 6 = 0 then 0 else 1) else 0
/-- one cue carried out -/
def crun (w : Cn) (k : Nat) (a b : Int32) : Cn := match k with
  | 0 => (w.1, (w.2.1.1, va_up w.2.1.2 a.toNatClampNeg ((w.2.1.2 a.toNatClampNeg).1, (w.2.1.2 a.toNatClampNeg).2.1, (w.2.1.2 a.toNatClampNeg).2.2.1, b, (w.2.1.2 a.toNatClampNeg).2.2.2.2)), w.2.2)
  | 1 => ((w.1.1, w.1.2.1, w.1.2.2.1, w.1.2.2.2.1, b, w.1.2.2.2.2.2.1, w.1.2.2.2.2.2.2), w.2)
  | 2 => if w.2.2.1 < 12 then (w.1, w.2.1, (w.2.2.1 + 1, va_up w.2.2.2 w.2.2.1 (b, a, 20))) else w
  | 3 => ((w.1.1, w.1.2.1, w.1.2.2.1, w.1.2.2.2.1, w.1.2.2.2.2.1, a, b), w.2)
  | _ => ((w.1.1, w.1.2.1, 0, w.1.2.2.2.1, w.1.2.2.2.2.1, w.1.2.2.2.2.2.1, w.1.2.2.2.2.2.2), w.2)
theorem crun_ck (w : Cn) (k : Nat) (a b : Int32) : (crun w k a b).1.2.1 = w.1.2.1 := by
  unfold crun
  split <;> first | rfl | (split <;> rfl)
theorem crun_nd (w : Cn) (k : Nat) (a b : Int32) : (crun w k a b).2.1.1 = w.2.1.1 := by
  unfold crun
  split <;> first | rfl | (split <;> rfl)
theorem crun_nc (w : Cn) (k : Nat) (a b : Int32) : w.2.2.1 ≤ (crun w k a b).2.2.1 ∧ (w.2.2.1 ≤ 12 → (crun w k a b).2.2.1 ≤ 12) := by
  unfold crun
  split <;> first | exact ⟨Nat.le_refl _, id⟩ | (split <;> exact ⟨by first | omega | (dsimp only; omega), fun _ => by first | omega | (dsimp only; omega)⟩)
/-- the cues of the time ck among the first i, carried out; how many -/
def runS (uq : Nat → Um) (ck : Int32) (w : Cn) : Nat → Cn × Int32
  | 0 => (w, 0)
  | i + 1 => if (uq i).1 = ck then (crun (runS uq ck w i).1 (uq i).2.1 (uq i).2.2.1 (uq i).2.2.2, (runS uq ck w i).2 + 1) else runS uq ck w i
/-- what a cue must be, for a console of nd dimmers -/
def uOk (nd : Nat) (u : Um) : Prop := u.2.1 < 5 ∧ (u.2.1 = 0 → ∃ j, j < nd ∧ u.2.2.1 = nI j)
/-- how many comets a cue of kind k makes -/
def cst (k nc : Nat) : Nat := if k = 2 then (if nc < 12 then 1 else 0) else 0
theorem crun_cst (w : Cn) (k : Nat) (a b : Int32) : (crun w k a b).2.2.1 = w.2.2.1 + cst k w.2.2.1 := by
  unfold crun cst
  split
  · rfl
  · rfl
  · rw [if_pos rfl]
    split <;> rfl
  · rfl
  · rw [if_neg (by assumption)]; rfl
theorem runS_ck (uq : Nat → Um) (ck : Int32) (w : Cn) : ∀ i, (runS uq ck w i).1.1.2.1 = w.1.2.1
  | 0 => rfl
  | i + 1 => by
    unfold runS
    split
    · rw [crun_ck]; exact runS_ck uq ck w i
    · exact runS_ck uq ck w i
theorem runS_nd (uq : Nat → Um) (ck : Int32) (w : Cn) : ∀ i, (runS uq ck w i).1.2.1.1 = w.2.1.1
  | 0 => rfl
  | i + 1 => by
    unfold runS
    split
    · rw [crun_nd]; exact runS_nd uq ck w i
    · exact runS_nd uq ck w i
theorem runS_nc (uq : Nat → Um) (ck : Int32) (w : Cn) : ∀ i, w.2.2.1 ≤ (runS uq ck w i).1.2.2.1 ∧ (w.2.2.1 ≤ 12 → (runS uq ck w i).1.2.2.1 ≤ 12)
  | 0 => ⟨Nat.le_refl _, id⟩
  | i + 1 => by
    have ih := runS_nc uq ck w i
    unfold runS
    split
    · have h := crun_nc (runS uq ck w i).1 (uq i).2.1 (uq i).2.2.1 (uq i).2.2.2
      exact ⟨Nat.le_trans ih.1 h.1, fun z => h.2 (ih.2 z)⟩
    · exact ih
/-- the cues of a tick, and the clock -/
def runW (uq : Nat → Um) (nu : Nat) (w : Cn) : Cn × Int32 :=
  if w.1.2.2.1 = 0 then (w, 0)
  else ((((runS uq w.1.2.1 w nu).1.1.1, w.1.2.1 + 1, (runS uq w.1.2.1 w nu).1.1.2.2), (runS uq w.1.2.1 w nu).1.2), (runS uq w.1.2.1 w nu).2)
theorem runS_mono (uq : Nat → Um) (ck : Int32) (w : Cn) (i : Nat) : ∀ d, (runS uq ck w i).1.2.2.1 ≤ (runS uq ck w (i + d)).1.2.2.1
  | 0 => Nat.le_refl _
  | d + 1 => by
    refine Nat.le_trans (runS_mono uq ck w i d) ?_
    show _ ≤ (runS uq ck w ((i + d) + 1)).1.2.2.1
    rw [runS]
    split
    · exact (crun_nc _ _ _ _).1
    · exact Nat.le_refl _
/-- the first i done -/
def mapN {α : Type} (f : α → α) (g : Nat → α) (i : Nat) : Nat → α := fun k => if k < i then f (g k) else g k
theorem mapN_0 {α : Type} (f : α → α) (g : Nat → α) : mapN f g 0 = g := by funext k; simp [mapN]
theorem mapN_at {α : Type} (f : α → α) (g : Nat → α) (i : Nat) : mapN f g i i = g i := by simp [mapN]
theorem mapN_s {α : Type} (f : α → α) (g : Nat → α) (i : Nat) : va_up (mapN f g i) i (f (g i)) = mapN f g (i + 1) := by
  funext k
  unfold va_up mapN
  by_cases h : k = i
  · subst h; simp
  · by_cases h2 : k < i
    · rw [if_neg h, if_pos h2, if_pos (by omega)]
    · rw [if_neg h, if_neg h2, if_neg (by omega)]
def lfS (lf : Int32) : Int32 := if 0 < lf - 1 then lf - 1 else 0
def lnS (ln lf : Int32) : Int32 := if lfS lf = 0 then -1 else ln
def spk (w : Cn) : Cn := ((w.1.1, w.1.2.1, w.1.2.2.1, w.1.2.2.2.1, w.1.2.2.2.2.1, lnS w.1.2.2.2.2.2.1 w.1.2.2.2.2.2.2, lfS w.1.2.2.2.2.2.2), w.2)
/-- a cue list's picture -/
def URep (E : EnvT) (G : Gh) (o lu eu nu : Nat) (uA : Nat → Nat) (uq : Nat → Um) : Prop := LRep E G (o, 1, 0) (o, 2, 0) lu eu nu uA ∧ ∀ k, k < nu → G (uA k) = some ((o, 5, k), uOt E (uq k))
theorem URep.fr {E : EnvT} {P : Tg → Prop} {G G' : Gh} {o lu eu nu : Nat} {uA : Nat → Nat} {uq : Nat → Um} (h : URep E G o lu eu nu uA uq) (hF : Fr P G G') (hP : ∀ t, P t → t.1 ≠ o) : URep E G' o lu eu nu uA uq :=
  ⟨h.1.fr hF (fun z => hP _ z rfl) (fun z => hP _ z rfl), fun k hk => hF _ _ _ (fun z => hP _ z rfl) (h.2 k hk)⟩
theorem Ow.ne {o o' : Nat} (h : o' ≠ o) : ∀ t : Tg, Ow o t → t.1 ≠ o' := fun t z => by rw [show t.1 = o from z]; exact Ne.symm h
/-- a comet added -/
theorem CRep.addK {E : EnvT} {G G' : Gh} {o : Nat} {A : CA} {w : Cn} {q ec : Nat} {k : Km} (h : CRep E G o A w) (hF : Fr (fun t => t = (o, 3, 0) ∨ t = (o, 4, 0)) G G') (hq : G' q = some ((o, 6, w.2.2.1), kOt k)) (hL : LRep E G' (o, 3, 0) (o, 4, 0) A.2.2.1 ec (w.2.2.1 + 1) (va_up A.2.2.2.2 w.2.2.1 q)) :
    CRep E G' o (A.1, A.2.1, A.2.2.1, A.2.2.2.1, va_up A.2.2.2.2 w.2.2.1 q) (w.1, w.2.1, (w.2.2.1 + 1, va_up w.2.2.2 w.2.2.1 k)) := by
  obtain ⟨h1, ⟨ed, h2⟩, ⟨ec0, h3⟩, h4, h5⟩ := h
  refine ⟨hF _ _ _ (by simp) h1, ⟨ed, h2.fr hF (by simp) (by simp)⟩, ⟨ec, hL⟩, fun j hj => hF _ _ _ (by simp) (h4 j hj), fun j hj => ?_⟩
  show G' (va_up A.2.2.2.2 w.2.2.1 q j) = some ((o, 6, j), kOt (va_up w.2.2.2 w.2.2.1 k j))
  by_cases z : j = w.2.2.1
  · subst z
    rw [va_up_self, va_up_self]
    exact hq
  · rw [va_up_ne _ _ z, va_up_ne _ _ z]
    exact hF _ _ _ (by simp) (h5 j (by have hj : j < w.2.2.1 + 1 := hj; omega))
theorem CRep.addD {E : EnvT} {G G' : Gh} {o : Nat} {A : CA} {w : Cn} {q ed : Nat} {k : Dm} (h : CRep E G o A w) (hF : Fr (fun t => t = (o, 1, 0) ∨ t = (o, 2, 0)) G G') (hq : G' q = some ((o, 5, w.2.1.1), dOt k)) (hL : LRep E G' (o, 1, 0) (o, 2, 0) A.2.1 ed (w.2.1.1 + 1) (va_up A.2.2.2.1 w.2.1.1 q)) :
    CRep E G' o (A.1, A.2.1, A.2.2.1, va_up A.2.2.2.1 w.2.1.1 q, A.2.2.2.2) (w.1, (w.2.1.1 + 1, va_up w.2.1.2 w.2.1.1 k), w.2.2) := by
  obtain ⟨h1, ⟨ed0, h2⟩, ⟨ec0, h3⟩, h4, h5⟩ := h
  refine ⟨hF _ _ _ (by simp) h1, ⟨ed, hL⟩, ⟨ec0, h3.fr hF (by simp) (by simp)⟩, fun j hj => ?_, fun j hj => hF _ _ _ (by simp) (h5 j hj)⟩
  show G' (va_up A.2.2.2.1 w.2.1.1 q j) = some ((o, 5, j), dOt (va_up w.2.1.2 w.2.1.1 k j))
  by_cases z : j = w.2.1.1
  · subst z
    rw [va_up_self, va_up_self]
    exact hq
  · rw [va_up_ne _ _ z, va_up_ne _ _ z]
    exact hF _ _ _ (by simp) (h4 j (by have hj : j < w.2.1.1 + 1 := hj; omega))
