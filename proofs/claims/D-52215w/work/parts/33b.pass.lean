/-! MANY TICKS, in plain values -/
theorem runW_nd (uq : Nat → Um) (nu : Nat) (w : Cn) : (runW uq nu w).1.2.1.1 = w.2.1.1 := by
  unfold runW
  split
  · rfl
  · exact runS_nd uq w.1.2.1 w nu
theorem runW_nc (uq : Nat → Um) (nu : Nat) (w : Cn) : w.2.2.1 ≤ (runW uq nu w).1.2.2.1 ∧ (w.2.2.1 ≤ 12 → (runW uq nu w).1.2.2.1 ≤ 12) := by
  unfold runW
  split
  · exact ⟨Nat.le_refl _, id⟩
  · exact runS_nc uq w.1.2.1 w nu
/-- t ticks; how many cues are run in them -/
def passS (uq : Nat → Um) (nu : Nat) (w : Cn) : Nat → Cn × Int32
  | 0 => (w, 0)
  | i + 1 => ((tickW uq nu (passS uq nu w i).1).1, (passS uq nu w i).2 + (tickW uq nu (passS uq nu w i).1).2)
theorem passS_nd (uq : Nat → Um) (nu : Nat) (w : Cn) : ∀ i, (passS uq nu w i).1.2.1.1 = w.2.1.1
  | 0 => rfl
  | i + 1 => (runW_nd uq nu (passS uq nu w i).1).trans (passS_nd uq nu w i)
theorem passS_s (uq : Nat → Um) (nu : Nat) (w : Cn) (i : Nat) : (passS uq nu w (i + 1)).1.2.2.1 = (runW uq nu (passS uq nu w i).1).1.2.2.1 := rfl
theorem passS_nc (uq : Nat → Um) (nu : Nat) (w : Cn) : ∀ i, w.2.2.1 ≤ (passS uq nu w i).1.2.2.1 ∧ (w.2.2.1 ≤ 12 → (passS uq nu w i).1.2.2.1 ≤ 12)
  | 0 => ⟨Nat.le_refl _, id⟩
  | i + 1 => by
    have h := passS_nc uq nu w i
    have h' := runW_nc uq nu (passS uq nu w i).1
    rw [passS_s]
    exact ⟨Nat.le_trans h.1 h'.1, fun z => h'.2 (h.2 z)⟩
theorem passS_mono (uq : Nat → Um) (nu : Nat) (w : Cn) (i : Nat) : ∀ d, (passS uq nu w i).1.2.2.1 ≤ (passS uq nu w (i + d)).1.2.2.1
  | 0 => Nat.le_refl _
  | d + 1 => Nat.le_trans (passS_mono uq nu w i d) (by rw [← Nat.add_assoc, passS_s]; exact (runW_nc _ _ _).1)
/-- how long a lamp lasts: from the i-th tick on, f of them -/
def lsV (uq : Nat → Um) (nu : Nat) (w : Cn) (d : Nat) : Nat → Nat → Int32
  | 0, _ => -1
  | f + 1, i => if ((passS uq nu w i).1.2.1.2 d).2.2.2.2 = 0 then nI i else lsV uq nu w d f (i + 1)
def foV (v : Int32) : Int32 := if v = 1 then 1 else if v = 5 then 1 else if v = 7 then 1 else if v = 8 then 1 else if v = 11 then 1 else 0
def forR (t v : Int32) : Int32 := if isInV t 1 500 = 0 then 1 else if foV v = 0 then 2 else 0
theorem isIn_idx1 {v : Int32} {n : Nat} (hn : n < 2 ^ 31) (h : ¬ isInV v 1 (nI n) = 0) : ∃ k, k ≤ n ∧ v = nI k := by
  obtain ⟨h1, h2⟩ := isIn_of h
  obtain ⟨k, hk, rfl⟩ := nI_of (fun z => h1 (Int32.lt_trans z (by decide)))
  exact ⟨k, Nat.le_of_not_lt (fun z => h2 (nI_lt z hk)), rfl⟩
