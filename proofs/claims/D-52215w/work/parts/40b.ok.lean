/-! WHAT ALWAYS HOLDS of the plain values -/
def inT (lo : Int) (v : Int32) (hi : Int) : Prop := lo ≤ v.toInt ∧ v.toInt ≤ hi
def angO (v : Int32) : Prop := ∃ a, a < 360 ∧ v = nI a
def dOk (d : Dm) : Prop := (∃ q, q < 12 ∧ d.1 = nI q) ∧ inT 1 d.2.1 50 ∧ inT 0 d.2.2.1 100 ∧ inT 0 d.2.2.2.1 100 ∧ inT 0 d.2.2.2.2 9999
def kOk (k : Km) : Prop := inT (-20) k.1 20 ∧ angO k.2.1 ∧ inT 0 k.2.2 20
def cOk (nd : Nat) (u : Um) : Prop := uOk nd u ∧ (u.2.1 = 0 → inT 0 u.2.2.2 100) ∧ (u.2.1 = 1 → inT (-30) u.2.2.2 30) ∧ (u.2.1 = 2 → angO u.2.2.1 ∧ inT (-20) u.2.2.2 20) ∧ (u.2.1 = 3 → inT 1 u.2.2.2 60)
def CnOk (w : Cn) : Prop :=
  (w.2.1.1 ≤ 8) ∧ (w.2.2.1 ≤ 12) ∧ (w.1.2.2.1 = 0 ∨ w.1.2.2.1 = 1) ∧ (angO w.1.2.2.2.1) ∧ (inT (-30) w.1.2.2.2.2.1 30) ∧ (inT 0 w.1.2.2.2.2.2.2 60) ∧ (∀ d, d < w.2.1.1 → dOk (w.2.1.2 d)) ∧ (∀ k, k < w.2.2.1 → kOk (w.2.2.2 k))
theorem CnOk.nd {w : Cn} (h : CnOk w) : w.2.1.1 ≤ 8 := h.1
theorem CnOk.nc {w : Cn} (h : CnOk w) : w.2.2.1 ≤ 12 := h.2.1
theorem CnOk.rn {w : Cn} (h : CnOk w) : w.1.2.2.1 = 0 ∨ w.1.2.2.1 = 1 := h.2.2.1
theorem CnOk.an {w : Cn} (h : CnOk w) : angO w.1.2.2.2.1 := h.2.2.2.1
theorem CnOk.sp {w : Cn} (h : CnOk w) : inT (-30) w.1.2.2.2.2.1 30 := h.2.2.2.2.1
theorem CnOk.lf {w : Cn} (h : CnOk w) : inT 0 w.1.2.2.2.2.2.2 60 := h.2.2.2.2.2.1
theorem CnOk.dm {w : Cn} (h : CnOk w) : ∀ d, d < w.2.1.1 → dOk (w.2.1.2 d) := h.2.2.2.2.2.2.1
theorem CnOk.km {w : Cn} (h : CnOk w) : ∀ k, k < w.2.2.1 → kOk (w.2.2.2 k) := h.2.2.2.2.2.2.2
def OkS (σ : Sy) : Prop :=
  (CnOk σ.1) ∧ (σ.2.1.1 ≤ 24) ∧ (σ.2.2.1 ≤ 20) ∧ (∀ i, i < σ.2.1.1 → cOk σ.1.2.1.1 (σ.2.1.2 i)) ∧ (∀ s, s < σ.2.2.1 → angO (σ.2.2.2 s).1)
theorem OkS.cn {σ : Sy} (h : OkS σ) : CnOk σ.1 := h.1
theorem OkS.nu {σ : Sy} (h : OkS σ) : σ.2.1.1 ≤ 24 := h.2.1
theorem OkS.ns {σ : Sy} (h : OkS σ) : σ.2.2.1 ≤ 20 := h.2.2.1
theorem OkS.uq {σ : Sy} (h : OkS σ) : ∀ i, i < σ.2.1.1 → cOk σ.1.2.1.1 (σ.2.1.2 i) := h.2.2.2.1
theorem OkS.st {σ : Sy} (h : OkS σ) : ∀ s, s < σ.2.2.1 → angO (σ.2.2.2 s).1 := h.2.2.2.2
/-- the two roads round -/
theorem glr_sym : ∀ q, q < 12 → ∀ p, p < 12 → (iR (nI q - nI p + 12) 12 = 0 ↔ iR (nI p - nI q + 12) 12 = 0) ∧ (iR (nI q - nI p + 12) 12 = 1 ↔ iR (nI p - nI q + 12) 12 = 11) ∧ (iR (nI q - nI p + 12) 12 = 11 ↔ iR (nI p - nI q + 12) 12 = 1) := by decide +kernel
theorem rnd_pos : ∀ n, n < 1080 → rnd (nI n - 360) = iR (nI n - 360 + 360) 360 := by decide +kernel
theorem rnd_two : ∀ n, n < 720 → rnd (nI n) = iR (nI n) 360 := by decide +kernel
theorem rnd_ang : ∀ n, n < 1080 → ∃ a, a < 360 ∧ rnd (nI n - 360) = nI a := fun n hn => ⟨n % 360, Nat.mod_lt _ (by decide), (show ∀ n, n < 1080 → rnd (nI n - 360) = nI (n % 360) by decide +kernel) n hn⟩
theorem d30 : ∀ a, a < 360 → nI a / 30 = nI (a / 30) := by decide +kernel
theorem glr_M {q p : Nat} (hq : q < 12) (hp : p < 12) (lv : Int32) : glr (nI q) lv (nI p) = (if iR (nI q - nI p + 12) 12 = 0 then lv else if iR (nI q - nI p + 12) 12 = 1 then lv / 4 else if iR (nI q - nI p + 12) 12 = 11 then lv / 4 else 0) := by
  obtain ⟨h0, h1, h2⟩ := glr_sym q hq p hp
  unfold glr
  by_cases z0 : iR (nI p - nI q + 12) 12 = 0
  · rw [if_pos z0, if_pos (h0.mpr z0)]
  · rw [if_neg z0, if_neg (fun z => z0 (h0.mp z))]
    by_cases z1 : iR (nI p - nI q + 12) 12 = 1
    · rw [if_pos z1]
      by_cases z2 : iR (nI q - nI p + 12) 12 = 1
      · rw [if_pos z2]
      · rw [if_neg z2, if_pos (h2.mpr z1)]
    · rw [if_neg z1]
      by_cases z2 : iR (nI p - nI q + 12) 12 = 11
      · rw [if_pos z2, if_pos (h1.mpr z2)]
      · rw [if_neg z2, if_neg (fun z => z2 (h1.mp z)), if_neg (fun z => z1 (h2.mp z))]
theorem outI_l {d hi : Int32} {n : Nat} (hn : n < 1000) (e : nI n - 1 = hi) : isInV d 0 hi = 0 ↔ outI d n := e ▸ outI_in hn
theorem outI_no {d : Int32} {n : Nat} (hn : n < 1000) (h : ¬ outI d n) : ∃ k, k < n ∧ d = nI k := by
  obtain ⟨k, hk, rfl⟩ := nI_of (fun z => h (Or.inl z))
  exact ⟨k, Nat.lt_of_not_le (fun z => h (Or.inr (nI_le z hk))), rfl⟩
theorem ang_add {a b : Nat} (ha : a < 360) (hb : b < 360) : rnd (nI a + nI b) = iR (nI a + nI b) 360 := by rw [nI_add]; exact rnd_two _ (by omega)
theorem sTold_3 (dm : Nat → Dm) (nd : Nat) (an : Int32) (s : Sm) : sTold dm nd an s 3 = if starV dm nd an s = 0 then 0 else 1 := rfl
theorem kTold_3 (dm : Nat → Dm) (nd : Nat) (k : Km) : kTold dm nd k 3 = if comeV dm nd k = 0 then 0 else 1 := rfl
theorem seenV_01 (dm : Nat → Dm) (nd : Nat) (a l : Int32) : seenV dm nd a l = 0 ∨ seenV dm nd a l = 1 := by
  unfold seenV
  split
  · exact Or.inl rfl
  · exact Or.inr rfl
theorem le0 {v : Int32} (h : 0 ≤ v.toInt) : v ≤ 0 ↔ v = 0 := by
  constructor
  · intro z
    rw [Int32.le_iff_toInt_le] at z
    exact Int32.toInt_inj.mp (by have e : (0 : Int32).toInt = 0 := by decide
                                 omega)
  · rintro rfl
    decide
