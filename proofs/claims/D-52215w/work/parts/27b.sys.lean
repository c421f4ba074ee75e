/-! THE SYSTEM's PICTURE, and what its methods answer, in plain values -/
/-- the console, the cues, the stars -/
abbrev Sy : Type := Cn × (Nat × (Nat → Um)) × (Nat × (Nat → Sm))
abbrev XA : Type := CA × (Nat × (Nat → Nat)) × (Nat × (Nat → Nat))
def XRep (E : EnvT) (G : Gh) (x : Nat) (B : XA) (σ : Sy) : Prop :=
  G x = some ((3, 0, 0), xO B.2.1.1 B.2.2.1 B.1.1) ∧ CRep E G 1 B.1 σ.1 ∧ (∃ eu, URep E G 3 B.2.1.1 eu σ.2.1.1 B.2.1.2 σ.2.1.2) ∧
  (∃ et, LRep E G (3, 3, 0) (3, 4, 0) B.2.2.1 et σ.2.2.1 B.2.2.2) ∧ (∀ k, k < σ.2.2.1 → G (B.2.2.2 k) = some ((3, 6, k), sOt (σ.2.2.2 k)))
abbrev Sys : Tg → Prop := fun t => t.1 ≤ 3
/-- the console has moved, the rest stands -/
theorem XRep.con {E : EnvT} {G G' : Gh} {x : Nat} {B : XA} {σ : Sy} {A : CA} {w : Cn} (h : XRep E G x B σ) (hF : Fr (Ow 1) G G') (hC : CRep E G' 1 A w) (ha : A.1 = B.1.1) : XRep E G' x (A, B.2) (w, σ.2) := by
  obtain ⟨h1, h2, ⟨eu, h3⟩, ⟨et, h4⟩, h5⟩ := h
  refine ⟨?_, hC, ⟨eu, h3.fr hF (fun t z => by rw [show t.1 = 1 from z]; decide)⟩, ⟨et, h4.fr hF (by simp) (by simp)⟩, fun k hk => hF _ _ _ (by simp) (h5 k hk)⟩
  show G' x = some ((3, 0, 0), xO B.2.1.1 B.2.2.1 A.1)
  rw [ha]
  exact hF _ _ _ (by simp) h1
theorem XRep.fr {E : EnvT} {G G' : Gh} {P : Tg → Prop} {x : Nat} {B : XA} {σ : Sy} (h : XRep E G x B σ) (hF : Fr P G G') (hP : ∀ t, P t → t.1 ≠ 1 ∧ t.1 ≠ 3) : XRep E G' x B σ := by
  obtain ⟨h1, h2, ⟨eu, h3⟩, ⟨et, h4⟩, h5⟩ := h
  exact ⟨hF _ _ _ (fun z => (hP _ z).2 rfl) h1, h2.fr hF (fun t z => (hP t z).1), ⟨eu, h3.fr hF (fun t z => (hP t z).2)⟩, ⟨et, h4.fr hF (fun z => (hP _ z).2 rfl) (fun z => (hP _ z).2 rfl)⟩, fun k hk => hF _ _ _ (fun z => (hP _ z).2 rfl) (h5 k hk)⟩
theorem Fr.sys1 {G G' : Gh} (h : Fr (Ow 1) G G') : Fr Sys G G' := h.mono (fun t z => by show t.1 ≤ 3; rw [show t.1 = 1 from z]; decide)
theorem Fr.sys2 {G G' : Gh} (h : Fr (Ow 2) G G') : Fr Sys G G' := h.mono (fun t z => by show t.1 ≤ 3; rw [show t.1 = 2 from z]; decide)
/-- an index that isn't one -/
abbrev outI (i : Int32) (n : Nat) : Prop := i < 0 ∨ nI n ≤ i
/-- codes: 0 it is done, else which exception -/
def dimR (nd : Nat) (p0 p1 p2 : Int32) : Int32 := if isInV p0 0 11 = 0 then 1 else if isInV p1 1 50 = 0 then 1 else if isInV p2 0 9999 = 0 then 1 else if nd < 8 then 0 else 2
def lamR (nd : Nat) (d z : Int32) : Int32 := if outI d nd then 1 else if isInV z 0 9999 = 0 then 2 else 0
def staR (ns : Nat) (p0 p1 : Int32) : Int32 := if isInV p0 0 359 = 0 then 1 else if isInV p1 1 9 = 0 then 1 else if ns < 20 then 0 else 2
def cueR (nd nu : Nat) (tm kd a b : Int32) : Int32 := if isInV tm 0 999 = 0 then 1 else if isInV kd 0 4 = 0 then 1 else if takesV nd kd.toNatClampNeg a b = 0 then 1 else if nu < 24 then 0 else 2
def jumR (t : Int32) : Int32 := if isInV t 0 1000 = 0 then 1 else 0
def fadR (nd : Nat) (d z : Int32) : Int32 := if outI d nd then 1 else if isInV z 0 100 = 0 then 2 else 0
def pasR (t : Int32) : Int32 := if isInV t 1 500 = 0 then 1 else 0
def idxR (n : Nat) (i : Int32) (m : Nat) (j : Int32) : Int32 := if outI i n then 1 else if outI j m then 1 else 0
/-- the new states -/
def dimS (σ : Sy) (p0 p1 p2 : Int32) : Sy := ((σ.1.1, (σ.1.2.1.1 + 1, va_up σ.1.2.1.2 σ.1.2.1.1 (p0, p1, 0, 0, p2)), σ.1.2.2), σ.2)
def setDm (σ : Sy) (k : Nat) (d : Dm) : Sy := ((σ.1.1, (σ.1.2.1.1, va_up σ.1.2.1.2 k d), σ.1.2.2), σ.2)
def lamS (σ : Sy) (d z : Int32) : Sy := setDm σ d.toNatClampNeg ((σ.1.2.1.2 d.toNatClampNeg).1, (σ.1.2.1.2 d.toNatClampNeg).2.1, lvEnd (σ.1.2.1.2 d.toNatClampNeg).2.2.1 z, (σ.1.2.1.2 d.toNatClampNeg).2.2.2.1, z)
def fadS (σ : Sy) (d z : Int32) : Sy := setDm σ d.toNatClampNeg ((σ.1.2.1.2 d.toNatClampNeg).1, (σ.1.2.1.2 d.toNatClampNeg).2.1, (σ.1.2.1.2 d.toNatClampNeg).2.2.1, z, (σ.1.2.1.2 d.toNatClampNeg).2.2.2.2)
def staS (σ : Sy) (p0 p1 : Int32) : Sy := (σ.1, σ.2.1, (σ.2.2.1 + 1, va_up σ.2.2.2 σ.2.2.1 (p0, p1)))
def cueS (σ : Sy) (tm kd a b : Int32) : Sy := (σ.1, (σ.2.1.1 + 1, va_up σ.2.1.2 σ.2.1.1 (tm, kd.toNatClampNeg, a, b)), σ.2.2)
def runV (rn : Int32) : Int32 := if rn = 0 then 1 else 0
def setSc (σ : Sy) (c : Sc) : Sy := ((c, σ.1.2), σ.2)
def runSy (σ : Sy) : Sy := setSc σ (σ.1.1.1, σ.1.1.2.1, runV σ.1.1.2.2.1, σ.1.1.2.2.2)
def jumS (σ : Sy) (t : Int32) : Sy := setSc σ (σ.1.1.1, t, σ.1.1.2.2)
