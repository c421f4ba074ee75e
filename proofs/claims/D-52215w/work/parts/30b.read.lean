/-! WHAT THE READING METHODS ANSWER, in plain values -/
def toldV (d : Dm) (what : Int32) : Int32 := if what = 0 then d.1 else if what = 1 then d.2.2.1 else if what = 2 then d.2.2.2.1 else if what = 3 then d.2.1 else d.2.2.2.2
def sTold (dm : Nat → Dm) (nd : Nat) (an : Int32) (s : Sm) (what : Int32) : Int32 := if what = 0 then s.1 else if what = 1 then s.2 else if what = 2 then rnd (s.1 + an) else if starV dm nd an s = 0 then 0 else 1
def kTold (dm : Nat → Dm) (nd : Nat) (k : Km) (what : Int32) : Int32 := if what = 0 then k.2.1 else if what = 1 then k.1 else if what = 2 then k.2.2 else if comeV dm nd k = 0 then 0 else 1
def stS (dm : Nat → Dm) (nd : Nat) (an : Int32) (st : Nat → Sm) : Nat → Int32
  | 0 => 0
  | k + 1 => stS dm nd an st k + (if starV dm nd an (st k) = 0 then 0 else 1)
def kmS (dm : Nat → Dm) (nd : Nat) (km : Nat → Km) : Nat → Int32
  | 0 => 0
  | k + 1 => kmS dm nd km k + (if comeV dm nd (km k) = 0 then 0 else 1)
/-- what is counted -/
def cntV (w : Cn) (nu ns : Nat) (st : Nat → Sm) (what : Int32) : Int32 :=
  if what = 0 then w.1.1 else if what = 1 then w.1.2.1 else if what = 2 then (if w.1.2.2.1 = 0 then 0 else 1) else if what = 3 then nI w.2.1.1 else if what = 4 then nI ns else if what = 5 then nI w.2.2.1 else if what = 6 then nI nu
  else if what = 7 then stS w.2.1.2 w.2.1.1 w.1.2.2.2.1 st ns else if what = 8 then kmS w.2.1.2 w.2.1.1 w.2.2.2 w.2.2.1 else if what = 9 then w.1.2.2.2.2.2.1 else if what = 10 then w.1.2.2.2.2.2.2 else if what = 11 then w.1.2.2.2.1 else w.1.2.2.2.2.1
/-- the next cue among the first i -/
def nxS (uq : Nat → Um) (ck : Int32) : Nat → Int32
  | 0 => -1
  | i + 1 => if (uq i).1 < ck then nxS uq ck i else if nxS uq ck i = -1 then nI i else if (uq (nxS uq ck i).toNatClampNeg).1 ≤ (uq i).1 then nxS uq ck i else nI i
theorem nxS_in (uq : Nat → Um) (ck : Int32) : ∀ i, nxS uq ck i = -1 ∨ ∃ j, j < i ∧ nxS uq ck i = nI j
  | 0 => Or.inl rfl
  | i + 1 => by
    have ih := nxS_in uq ck i
    have keep : nxS uq ck i = -1 ∨ ∃ j, j < i + 1 ∧ nxS uq ck i = nI j := ih.imp id (fun ⟨j, h, e⟩ => ⟨j, by omega, e⟩)
    rw [nxS]
    split
    · exact keep
    · split
      · exact Or.inr ⟨i, by omega, rfl⟩
      · split
        · exact keep
        · exact Or.inr ⟨i, by omega, rfl⟩
/-- whether the clock is held ahead of a time, by the first i cues -/
def hbS (rn : Int32) (uq : Nat → Um) (ck tm : Int32) : Nat → Int32
  | 0 => if rn = 0 then 1 else 0
  | i + 1 => hbS rn uq ck tm i ||| (if (uq i).2.1 = 4 then (if isInV (uq i).1 ck (tm - 1) = 0 then 0 else 1) else 0)
theorem hbS_01 (rn : Int32) (uq : Nat → Um) (ck tm : Int32) : ∀ i, hbS rn uq ck tm i = 0 ∨ hbS rn uq ck tm i = 1
  | 0 => by
    rw [hbS]
    split
    · exact Or.inr rfl
    · exact Or.inl rfl
  | i + 1 => by
    rw [hbS]
    rcases hbS_01 rn uq ck tm i with h | h <;> rw [h]
    · split
      · split
        · exact Or.inl (by decide)
        · exact Or.inr (by decide)
      · exact Or.inl (by decide)
    · split
      · split
        · exact Or.inr (by decide)
        · exact Or.inr (by decide)
      · exact Or.inr (by decide)
def whenV (rn : Int32) (uq : Nat → Um) (nu : Nat) (ck tm : Int32) : Int32 := if tm < ck then -1 else if hbS rn uq ck tm nu = 0 then tm - ck + 1 else -1
/-- the darkest of the parts 0 .. k -/
def dkS (dm : Nat → Dm) (nd : Nat) : Nat → Int32
  | 0 => 0
  | k + 1 => if glS dm (dkS dm nd k) nd ≤ glS dm (nI (k + 1)) nd then dkS dm nd k else nI (k + 1)
def mnS (dm : Nat → Dm) (nd : Nat) : Nat → Int32
  | 0 => 0
  | k + 1 => mnS dm nd k + glS dm (nI k) nd
/-- digests: f 0, f 1 .. taken in -/
def dgF (d : Int64) (f : Nat → Int32) : Nat → Int64
  | 0 => d
  | k + 1 => dgF d f k * 31 + (f k).toInt64
def dgG (d : Int64) (F : Nat → Nat → Int32) (m : Nat) : Nat → Int64
  | 0 => d
  | k + 1 => dgF (dgG d F m k) (F k) m
def uTold (u : Um) (j : Nat) : Int32 := if j = 0 then u.1 else if j = 1 then nI u.2.1 else if j = 2 then u.2.2.1 else u.2.2.2
def dgV (σ : Sy) : Int64 :=
  dgG (dgG (dgG (dgG (dgF (dgF 1109 (fun k => cntV σ.1 σ.2.1.1 σ.2.2.1 σ.2.2.2 (nI k)) 13) (fun k => glS σ.1.2.1.2 (nI k) σ.1.2.1.1) 12)
    (fun k j => toldV (σ.1.2.1.2 k) (nI j)) 5 σ.1.2.1.1) (fun k j => sTold σ.1.2.1.2 σ.1.2.1.1 σ.1.1.2.2.2.1 (σ.2.2.2 k) (nI j)) 4 σ.2.2.1)
    (fun k j => kTold σ.1.2.1.2 σ.1.2.1.1 (σ.1.2.2.2 k) (nI j)) 4 σ.1.2.2.1) (fun k j => uTold (σ.2.1.2 k) j) 4 σ.2.1.1
