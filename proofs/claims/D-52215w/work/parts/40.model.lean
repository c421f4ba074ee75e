/-! THE MODEL's PICTURE: the same plain values, in rows of numbers -/
abbrev MA : Type := Nat × Nat × Nat × Nat × Nat
def lampF (dm : Nat → Dm) : Nat → Int32 := fun k => if k % 5 = 0 then (dm (k / 5)).1 else if k % 5 = 1 then (dm (k / 5)).2.2.1 else if k % 5 = 2 then (dm (k / 5)).2.2.2.1 else if k % 5 = 3 then (dm (k / 5)).2.1 else (dm (k / 5)).2.2.2.2
def skyF (st : Nat → Sm) : Nat → Int32 := fun k => if k % 2 = 0 then (st (k / 2)).1 else (st (k / 2)).2
def tailF (km : Nat → Km) : Nat → Int32 := fun k => if k % 3 = 0 then (km (k / 3)).2.1 else if k % 3 = 1 then (km (k / 3)).1 else (km (k / 3)).2.2
def showF (uq : Nat → Um) : Nat → Int32 := fun k => if k % 4 = 0 then (uq (k / 4)).1 else if k % 4 = 1 then nI (uq (k / 4)).2.1 else if k % 4 = 2 then (uq (k / 4)).2.2.1 else (uq (k / 4)).2.2.2
def numF (c : Sc) (nc : Nat) : Nat → Int32 := fun k => if k = 0 then c.1 else if k = 1 then c.2.1 else if k = 2 then c.2.2.1 else if k = 3 then c.2.2.2.2.2.1 else if k = 4 then c.2.2.2.2.2.2 else if k = 5 then c.2.2.2.1 else if k = 6 then c.2.2.2.2.1 else if k = 7 then nI nc else 0
def MRep (E : EnvT) (G : Gh) (y : Nat) (M : MA) (th : Int32) (σ : Sy) : Prop :=
  G y = some ((4, 0, 0), mO th (nI σ.1.2.1.1) (nI σ.2.2.1) (nI σ.2.1.1) M.1 M.2.1 M.2.2.1 M.2.2.2.1 M.2.2.2.2) ∧ G M.1 = some ((4, 1, 0), iO E 40 (lampF σ.1.2.1.2)) ∧ G M.2.1 = some ((4, 2, 0), iO E 40 (skyF σ.2.2.2)) ∧
  G M.2.2.1 = some ((4, 3, 0), iO E 36 (tailF σ.1.2.2.2)) ∧ G M.2.2.2.1 = some ((4, 4, 0), iO E 96 (showF σ.2.1.2)) ∧ G M.2.2.2.2 = some ((4, 5, 0), iO E 8 (numF σ.1.1 σ.1.2.2.1))
theorem MRep.fr {E : EnvT} {G G' : Gh} {P : Tg → Prop} {y : Nat} {M : MA} {th : Int32} {σ : Sy} (h : MRep E G y M th σ) (hF : Fr P G G') (hP : ∀ t, P t → t.1 ≠ 4) : MRep E G' y M th σ := by
  obtain ⟨h1, h2, h3, h4, h5, h6⟩ := h
  exact ⟨hF _ _ _ (fun z => hP _ z rfl) h1, hF _ _ _ (fun z => hP _ z rfl) h2, hF _ _ _ (fun z => hP _ z rfl) h3, hF _ _ _ (fun z => hP _ z rfl) h4, hF _ _ _ (fun z => hP _ z rfl) h5, hF _ _ _ (fun z => hP _ z rfl) h6⟩
/-- the object itself written -/
theorem MRep.setT {E : EnvT} {G : Gh} {y : Nat} {M : MA} {th : Int32} {σ : Sy} (h : MRep E G y M th σ) (th' : Int32) : MRep E (gU G y ((4, 0, 0), mO th' (nI σ.1.2.1.1) (nI σ.2.2.1) (nI σ.2.1.1) M.1 M.2.1 M.2.2.1 M.2.2.2.1 M.2.2.2.2)) y M th' σ ∧ Fr (Ow 4) G (gU G y ((4, 0, 0), mO th' (nI σ.1.2.1.1) (nI σ.2.2.1) (nI σ.2.1.1) M.1 M.2.1 M.2.2.1 M.2.2.2.1 M.2.2.2.2)) := by
  obtain ⟨h1, h2, h3, h4, h5, h6⟩ := h
  have hF : Fr (fun t => t = (4, 0, 0)) G (gU G y ((4, 0, 0), mO th' (nI σ.1.2.1.1) (nI σ.2.2.1) (nI σ.2.1.1) M.1 M.2.1 M.2.2.1 M.2.2.2.1 M.2.2.2.2)) := Fr.put h1 rfl
  exact ⟨⟨gU_self, hF _ _ _ (by simp) h2, hF _ _ _ (by simp) h3, hF _ _ _ (by simp) h4, hF _ _ _ (by simp) h5, hF _ _ _ (by simp) h6⟩, hF.mono (fun t z => by rw [z])⟩
/-! indices -/
theorem ix (a b c : Nat) : nI a * nI b + nI c = nI (a * b + c) := by unfold nI; rw [← Int32.ofNat_mul, ← Int32.ofNat_add]
theorem ix0 (a b : Nat) : nI a * nI b = nI (a * b) := by unfold nI; rw [← Int32.ofNat_mul]
theorem lampF_0 (dm : Nat → Dm) (d : Nat) : lampF dm (5 * d + 0) = (dm d).1 := by unfold lampF; rw [if_pos (by omega), show (5 * d + 0) / 5 = d by omega]
theorem lampF_1 (dm : Nat → Dm) (d : Nat) : lampF dm (5 * d + 1) = (dm d).2.2.1 := by unfold lampF; rw [if_neg (by omega), if_pos (by omega), show (5 * d + 1) / 5 = d by omega]
theorem lampF_2 (dm : Nat → Dm) (d : Nat) : lampF dm (5 * d + 2) = (dm d).2.2.2.1 := by unfold lampF; rw [if_neg (by omega), if_neg (by omega), if_pos (by omega), show (5 * d + 2) / 5 = d by omega]
theorem lampF_3 (dm : Nat → Dm) (d : Nat) : lampF dm (5 * d + 3) = (dm d).2.1 := by unfold lampF; rw [if_neg (by omega), if_neg (by omega), if_neg (by omega), if_pos (by omega), show (5 * d + 3) / 5 = d by omega]
theorem lampF_4 (dm : Nat → Dm) (d : Nat) : lampF dm (5 * d + 4) = (dm d).2.2.2.2 := by unfold lampF; rw [if_neg (by omega), if_neg (by omega), if_neg (by omega), if_neg (by omega), show (5 * d + 4) / 5 = d by omega]
theorem lampF_t (dm : Nat → Dm) (d w : Nat) (hw : w < 5) : lampF dm (5 * d + w) = toldV (dm d) (nI w) := by
  rcases (show w = 0 ∨ w = 1 ∨ w = 2 ∨ w = 3 ∨ w = 4 by omega) with rfl | rfl | rfl | rfl | rfl
  · exact lampF_0 dm d
  · exact lampF_1 dm d
  · exact lampF_2 dm d
  · exact lampF_3 dm d
  · exact lampF_4 dm d
/-- one number of a dimmer -/
def putD (d : Dm) (w : Nat) (v : Int32) : Dm := if w = 0 then (v, d.2.1, d.2.2.1, d.2.2.2.1, d.2.2.2.2) else if w = 1 then (d.1, d.2.1, v, d.2.2.2.1, d.2.2.2.2) else if w = 2 then (d.1, d.2.1, d.2.2.1, v, d.2.2.2.2) else if w = 3 then (d.1, v, d.2.2.1, d.2.2.2.1, d.2.2.2.2) else (d.1, d.2.1, d.2.2.1, d.2.2.2.1, v)
theorem lampF_up (dm : Nat → Dm) (d w : Nat) (hw : w < 5) (v : Int32) : upd (lampF dm) (5 * d + w) v = lampF (va_up dm d (putD (dm d) w v)) := by
  funext k
  by_cases hk : k = 5 * d + w
  · subst hk
    rw [show upd (lampF dm) (5 * d + w) v (5 * d + w) = v by simp [upd]]
    rcases (show w = 0 ∨ w = 1 ∨ w = 2 ∨ w = 3 ∨ w = 4 by omega) with rfl | rfl | rfl | rfl | rfl
    · rw [lampF_0, va_up_self]; rfl
    · rw [lampF_1, va_up_self]; rfl
    · rw [lampF_2, va_up_self]; rfl
    · rw [lampF_3, va_up_self]; rfl
    · rw [lampF_4, va_up_self]; rfl
  · rw [show upd (lampF dm) (5 * d + w) v k = lampF dm k by simp [upd, hk]]
    by_cases hd : k / 5 = d
    · obtain ⟨r, hr, hkr⟩ : ∃ r, r < 5 ∧ k = 5 * d + r := ⟨k % 5, Nat.mod_lt _ (by decide), by omega⟩
      have hrw : r ≠ w := fun z => hk (by rw [hkr, z])
      rw [hkr]
      rcases (show r = 0 ∨ r = 1 ∨ r = 2 ∨ r = 3 ∨ r = 4 by omega) with rfl | rfl | rfl | rfl | rfl <;> rcases (show w = 0 ∨ w = 1 ∨ w = 2 ∨ w = 3 ∨ w = 4 by omega) with rfl | rfl | rfl | rfl | rfl <;> first | exact absurd rfl hrw | (simp only [lampF_0, lampF_1, lampF_2, lampF_3, lampF_4, va_up_self]; rfl)
    · unfold lampF
      rw [va_up_ne _ _ hd]
theorem skyF_0 (st : Nat → Sm) (d : Nat) : skyF st (2 * d + 0) = (st d).1 := by unfold skyF; rw [if_pos (by omega), show (2 * d + 0) / 2 = d by omega]
theorem skyF_1 (st : Nat → Sm) (d : Nat) : skyF st (2 * d + 1) = (st d).2 := by unfold skyF; rw [if_neg (by omega), show (2 * d + 1) / 2 = d by omega]
theorem skyF_up (st : Nat → Sm) (d : Nat) (a b : Int32) : upd (upd (skyF st) (2 * d + 0) a) (2 * d + 1) b = skyF (va_up st d (a, b)) := by
  funext k
  by_cases h : k / 2 = d
  · rcases (show k = 2 * d + 0 ∨ k = 2 * d + 1 by omega) with rfl | rfl
    · rw [skyF_0, va_up_self]; simp [upd]
    · rw [skyF_1, va_up_self]; simp [upd]
  · rw [show skyF (va_up st d (a, b)) k = skyF st k by unfold skyF; rw [va_up_ne _ _ h]]
    simp only [upd]
    rw [if_neg (by omega), if_neg (by omega)]
theorem tailF_0 (km : Nat → Km) (d : Nat) : tailF km (3 * d + 0) = (km d).2.1 := by unfold tailF; rw [if_pos (by omega), show (3 * d + 0) / 3 = d by omega]
theorem tailF_1 (km : Nat → Km) (d : Nat) : tailF km (3 * d + 1) = (km d).1 := by unfold tailF; rw [if_neg (by omega), if_pos (by omega), show (3 * d + 1) / 3 = d by omega]
theorem tailF_2 (km : Nat → Km) (d : Nat) : tailF km (3 * d + 2) = (km d).2.2 := by unfold tailF; rw [if_neg (by omega), if_neg (by omega), show (3 * d + 2) / 3 = d by omega]
/-- one number of a comet -/
def putK (k : Km) (w : Nat) (v : Int32) : Km := if w = 0 then (k.1, v, k.2.2) else if w = 1 then (v, k.2.1, k.2.2) else (k.1, k.2.1, v)
theorem tailF_up (km : Nat → Km) (d w : Nat) (hw : w < 3) (v : Int32) : upd (tailF km) (3 * d + w) v = tailF (va_up km d (putK (km d) w v)) := by
  funext k
  by_cases hk : k = 3 * d + w
  · subst hk
    rw [show upd (tailF km) (3 * d + w) v (3 * d + w) = v by simp [upd]]
    rcases (show w = 0 ∨ w = 1 ∨ w = 2 by omega) with rfl | rfl | rfl
    · rw [tailF_0, va_up_self]; rfl
    · rw [tailF_1, va_up_self]; rfl
    · rw [tailF_2, va_up_self]; rfl
  · rw [show upd (tailF km) (3 * d + w) v k = tailF km k by simp [upd, hk]]
    by_cases hd : k / 3 = d
    · obtain ⟨r, hr, hkr⟩ : ∃ r, r < 3 ∧ k = 3 * d + r := ⟨k % 3, Nat.mod_lt _ (by decide), by omega⟩
      have hrw : r ≠ w := fun z => hk (by rw [hkr, z])
      rw [hkr]
      rcases (show r = 0 ∨ r = 1 ∨ r = 2 by omega) with rfl | rfl | rfl <;> rcases (show w = 0 ∨ w = 1 ∨ w = 2 by omega) with rfl | rfl | rfl <;> first | exact absurd rfl hrw | (simp only [tailF_0, tailF_1, tailF_2, va_up_self]; rfl)
    · unfold tailF
      rw [va_up_ne _ _ hd]
theorem showF_0 (uq : Nat → Um) (d : Nat) : showF uq (4 * d + 0) = (uq d).1 := by unfold showF; rw [if_pos (by omega), show (4 * d + 0) / 4 = d by omega]
theorem showF_1 (uq : Nat → Um) (d : Nat) : showF uq (4 * d + 1) = nI (uq d).2.1 := by unfold showF; rw [if_neg (by omega), if_pos (by omega), show (4 * d + 1) / 4 = d by omega]
theorem showF_2 (uq : Nat → Um) (d : Nat) : showF uq (4 * d + 2) = (uq d).2.2.1 := by unfold showF; rw [if_neg (by omega), if_neg (by omega), if_pos (by omega), show (4 * d + 2) / 4 = d by omega]
theorem showF_3 (uq : Nat → Um) (d : Nat) : showF uq (4 * d + 3) = (uq d).2.2.2 := by unfold showF; rw [if_neg (by omega), if_neg (by omega), if_neg (by omega), show (4 * d + 3) / 4 = d by omega]
theorem numF_up0 (c : Sc) (n : Nat) (v : Int32) : upd (numF c n) 0 v = numF (v, c.2) n := by funext k; unfold upd numF; split <;> rfl
theorem numF_up1 (c : Sc) (n : Nat) (v : Int32) : upd (numF c n) 1 v = numF (c.1, v, c.2.2) n := by
  funext k; unfold upd numF; by_cases h : k = 1
  · subst h; rfl
  · rw [if_neg h]; simp only [if_neg h]
theorem numF_up2 (c : Sc) (n : Nat) (v : Int32) : upd (numF c n) 2 v = numF (c.1, c.2.1, v, c.2.2.2) n := by
  funext k; unfold upd numF; by_cases h : k = 2
  · subst h; rfl
  · rw [if_neg h]; simp only [if_neg h]
theorem numF_up3 (c : Sc) (n : Nat) (v : Int32) : upd (numF c n) 3 v = numF (c.1, c.2.1, c.2.2.1, c.2.2.2.1, c.2.2.2.2.1, v, c.2.2.2.2.2.2) n := by
  funext k; unfold upd numF; by_cases h : k = 3
  · subst h; rfl
  · rw [if_neg h]; simp only [if_neg h]
theorem numF_up4 (c : Sc) (n : Nat) (v : Int32) : upd (numF c n) 4 v = numF (c.1, c.2.1, c.2.2.1, c.2.2.2.1, c.2.2.2.2.1, c.2.2.2.2.2.1, v) n := by
  funext k; unfold upd numF; by_cases h : k = 4
  · subst h; rfl
  · rw [if_neg h]; simp only [if_neg h]
theorem numF_up5 (c : Sc) (n : Nat) (v : Int32) : upd (numF c n) 5 v = numF (c.1, c.2.1, c.2.2.1, v, c.2.2.2.2) n := by
  funext k; unfold upd numF; by_cases h : k = 5
  · subst h; rfl
  · rw [if_neg h]; simp only [if_neg h]
theorem numF_up6 (c : Sc) (n : Nat) (v : Int32) : upd (numF c n) 6 v = numF (c.1, c.2.1, c.2.2.1, c.2.2.2.1, v, c.2.2.2.2.2) n := by
  funext k; unfold upd numF; by_cases h : k = 6
  · subst h; rfl
  · rw [if_neg h]; simp only [if_neg h]
theorem numF_up7 (c : Sc) (n n' : Nat) : upd (numF c n) 7 (nI n') = numF c n' := by
  funext k; unfold upd numF; by_cases h : k = 7
  · subst h; rfl
  · rw [if_neg h]; simp only [if_neg h]
/-! the model's numbers are the system's -/
theorem outI_in {d : Int32} {n : Nat} (hn : n < 1000) : isInV d 0 (nI n - 1) = 0 ↔ outI d n := by
  have e1 : (nI n).toInt = (n : Int) := nI_toInt (by omega)
  have e2 : (nI n - 1).toInt = (n : Int) - 1 := by
    cases n with
    | zero => decide
    | succ k => rw [nI_pred, nI_toInt (by omega)]; omega
  unfold isInV outI
  simp only [Int32.lt_iff_toInt_lt, Int32.le_iff_toInt_le, e1, e2, show (0 : Int32).toInt = 0 by decide]
  constructor
  · intro h
    by_cases h1 : d.toInt < 0
    · exact Or.inl h1
    · rw [if_neg h1] at h
      by_cases h2 : (n : Int) - 1 < d.toInt
      · exact Or.inr (by omega)
      · rw [if_neg h2] at h; exact absurd h (by decide)
  · rintro (h | h)
    · rw [if_pos h]
    · by_cases h1 : d.toInt < 0
      · rw [if_pos h1]
      · rw [if_neg h1, if_pos (by omega)]
