/-! plain laws for the model's readers -/
theorem dkS_in (dm : Nat → Dm) (nd : Nat) : ∀ k, ∃ j, j ≤ k ∧ dkS dm nd k = nI j
  | 0 => ⟨0, Nat.le_refl _, rfl⟩
  | k + 1 => by
    obtain ⟨j, hj, e⟩ := dkS_in dm nd k
    rw [dkS]
    split
    · exact ⟨j, by omega, e⟩
    · exact ⟨k + 1, Nat.le_refl _, rfl⟩
theorem dgF_add (d : Int64) (f : Nat → Int32) (a : Nat) : ∀ b, dgF d f (a + b) = dgF (dgF d f a) (fun j => f (a + j)) b
  | 0 => rfl
  | b + 1 => by show dgF d f (a + b) * 31 + (f (a + b)).toInt64 = _; rw [dgF_add d f a b]; rfl
theorem dgF_congr (d : Int64) (f g : Nat → Int32) : ∀ n, (∀ j, j < n → f j = g j) → dgF d f n = dgF d g n
  | 0, _ => rfl
  | n + 1, h => by rw [dgF, dgF, dgF_congr d f g n (fun j hj => h j (by omega)), h n (by omega)]
theorem dg_flat (d : Int64) (f : Nat → Int32) (F : Nat → Nat → Int32) (m : Nat) (hF : ∀ k j, j < m → f (m * k + j) = F k j) : ∀ k, dgF d f (m * k) = dgG d F m k
  | 0 => rfl
  | k + 1 => by rw [Nat.mul_succ, dgF_add, dg_flat d f F m hF k, dgG]; exact dgF_congr _ _ _ _ (fun j hj => hF k j hj)
theorem showF_t (uq : Nat → Um) (k j : Nat) (hj : j < 4) : showF uq (4 * k + j) = uTold (uq k) j := by
  rcases (show j = 0 ∨ j = 1 ∨ j = 2 ∨ j = 3 by omega) with rfl | rfl | rfl | rfl
  · exact showF_0 uq k
  · exact showF_1 uq k
  · exact showF_2 uq k
  · exact showF_3 uq k
theorem hbS_up (rn : Int32) (uq : Nat → Um) (ck tm : Int32) (i : Nat) (h : hbS rn uq ck tm i = 1) : ∀ d, hbS rn uq ck tm (i + d) = 1
  | 0 => h
  | d + 1 => by
    show hbS rn uq ck tm ((i + d) + 1) = 1
    rw [hbS, hbS_up rn uq ck tm i h d]
    split
    · split <;> decide
    · decide
theorem hbS_r0 (uq : Nat → Um) (ck tm : Int32) (n : Nat) : hbS 0 uq ck tm n = 1 := by
  have h := hbS_up 0 uq ck tm 0 rfl n
  rwa [Nat.zero_add] at h
