/-! the invariant is kept: ticks -/
theorem add_s {x y : Int32} (h1 : -1000000 ≤ x.toInt + y.toInt) (h2 : x.toInt + y.toInt ≤ 1000000) : (x + y).toInt = x.toInt + y.toInt := by rw [Int32.toInt_add]; exact Int.bmod_eq_of_le (by omega) (by omega)
theorem sub_s {x y : Int32} (h1 : -1000000 ≤ x.toInt - y.toInt) (h2 : x.toInt - y.toInt ≤ 1000000) : (x - y).toInt = x.toInt - y.toInt := by rw [Int32.toInt_sub]; exact Int.bmod_eq_of_le (by omega) (by omega)
theorem div10 {x : Int32} (h1 : 0 ≤ x.toInt) (h2 : x.toInt ≤ 1000000) : (x / 10).toInt = x.toInt / 10 := by
  rw [Int32.toInt_div, show (10 : Int32).toInt = 10 by decide, Int.tdiv_eq_ediv_of_nonneg h1]
  exact Int.bmod_eq_of_le (by omega) (by omega)
theorem t0 : (0 : Int32).toInt = 0 := by decide
theorem t1 : (1 : Int32).toInt = 1 := by decide
theorem lvGo_in {pa lv am : Int32} (hp : inT 1 pa 50) (hl : inT 0 lv 100) (ha : inT 0 am 100) : inT 0 (lvGo pa lv am) 100 := by
  obtain ⟨p1, p2⟩ := hp
  obtain ⟨l1, l2⟩ := hl
  obtain ⟨a1, a2⟩ := ha
  have s1 : (lv - pa).toInt = lv.toInt - pa.toInt := sub_s (by omega) (by omega)
  have s2 : (lv + pa).toInt = lv.toInt + pa.toInt := add_s (by omega) (by omega)
  unfold lvGo inT
  simp only [Int32.le_iff_toInt_le, Int32.lt_iff_toInt_lt]
  split <;> split <;> omega
theorem lfGo_in {lv lf : Int32} (hl : inT 0 lv 100) (hf : inT 0 lf 9999) : inT 0 (lfGo lv lf) 9999 := by
  obtain ⟨l1, l2⟩ := hl
  obtain ⟨f1, f2⟩ := hf
  have s0 : (lv / 10).toInt = lv.toInt / 10 := div10 l1 (by omega)
  have s1 : (lf - lv / 10).toInt = lf.toInt - (lv / 10).toInt := sub_s (by omega) (by omega)
  unfold lfGo inT
  simp only [Int32.lt_iff_toInt_lt, t0]
  split
  · omega
  · rw [t0]; omega
theorem lvEnd_in {lv lf : Int32} (hl : inT 0 lv 100) : inT 0 (lvEnd lv lf) 100 := by
  unfold lvEnd
  split
  · unfold inT; rw [t0]; omega
  · exact hl
theorem dps_ok {d : Dm} (h : dOk d) : dOk (dps d) := by
  obtain ⟨hp, ha, hb, hc, he⟩ := h
  have h1 := lvGo_in ha hb hc
  exact ⟨hp, ha, lvEnd_in h1, hc, lfGo_in h1 he⟩
theorem ang_sp {a : Int32} {s : Int32} (ha : angO a) (hs : inT (-100) s 100) : angO (rnd (a + s)) ∧ rnd (a + s) = iR (a + s + 360) 360 := by
  obtain ⟨k, hk, rfl⟩ := ha
  obtain ⟨s1, s2⟩ := hs
  have e1 : (nI k).toInt = (k : Int) := nI_toInt (by omega)
  obtain ⟨n, hn⟩ : ∃ n : Nat, (n : Int) = k + s.toInt + 360 := ⟨((k : Int) + s.toInt + 360).toNat, Int.toNat_of_nonneg (by omega)⟩
  have e2 : nI k + s = nI n - 360 := by
    apply Int32.toInt_inj.mp
    have e3 : (nI n).toInt = (n : Int) := nI_toInt (by omega)
    have e4 : (360 : Int32).toInt = 360 := by decide
    rw [add_s (by omega) (by omega), sub_s (by omega) (by omega)]
    omega
  rw [e2]
  exact ⟨rnd_ang n (by omega), rnd_pos n (by omega)⟩
theorem kps_ok {k : Km} (h : kOk k) : kOk (kps k) := by
  obtain ⟨hs, ha, h1, h2⟩ := h
  refine ⟨hs, ?_, ?_⟩
  · show angO (cpsA k.1 k.2.1 k.2.2)
    unfold cpsA
    split
    · exact ha
    · exact (ang_sp ha ⟨by have := hs.1; omega, by have := hs.2; omega⟩).1
  · show inT 0 (cpsL k.2.2) 20
    unfold cpsL
    split
    · exact ⟨h1, h2⟩
    · rename_i h0
      have h3 : k.2.2.toInt ≠ 0 := fun z => h0 (Int32.toInt_inj.mp (by rw [z, t0]))
      have s1 : (k.2.2 - 1).toInt = k.2.2.toInt - 1 := by rw [sub_s (by rw [t1]; omega) (by rw [t1]; omega), t1]
      unfold inT
      omega
theorem crun_ok {w : Cn} (h : CnOk w) {u : Um} (hu : cOk w.2.1.1 u) : CnOk (crun w u.2.1 u.2.2.1 u.2.2.2) := by
  obtain ⟨tm, k, a, b⟩ := u
  obtain ⟨⟨hk5, hk0⟩, u0, u1, u2, u3⟩ := hu
  dsimp only at hk5 hk0 u0 u1 u2 u3 ⊢
  rcases (show k = 0 ∨ k = 1 ∨ k = 2 ∨ k = 3 ∨ k = 4 by omega) with rfl | rfl | rfl | rfl | rfl
  · obtain ⟨j, hj, rfl⟩ := hk0 rfl
    refine ⟨h.nd, h.nc, h.rn, h.an, h.sp, h.lf, fun d hd => ?_, h.km⟩
    show dOk (va_up w.2.1.2 (nI j).toNatClampNeg _ d)
    rw [nI_clamp (by have := h.nd; omega)]
    by_cases z : d = j
    · subst z
      rw [va_up_self]
      obtain ⟨q1, q2, q3, q4, q5⟩ := h.dm d hd
      exact ⟨q1, q2, q3, u0 rfl, q5⟩
    · rw [va_up_ne _ _ z]
      exact h.dm d hd
  · exact ⟨h.nd, h.nc, h.rn, h.an, u1 rfl, h.lf, h.dm, h.km⟩
  · show CnOk (if w.2.2.1 < 12 then (w.1, w.2.1, (w.2.2.1 + 1, va_up w.2.2.2 w.2.2.1 (b, a, 20))) else w)
    split
    · rename_i hlt
      refine ⟨h.nd, hlt, h.rn, h.an, h.sp, h.lf, h.dm, fun i hi => ?_⟩
      show kOk (va_up w.2.2.2 w.2.2.1 (b, a, 20) i)
      by_cases z : i = w.2.2.1
      · rw [z, va_up_self]
        exact ⟨(u2 rfl).2, (u2 rfl).1, by show inT 0 20 20; unfold inT; decide⟩
      · rw [va_up_ne _ _ z]
        exact h.km i (by have hi : i < w.2.2.1 + 1 := hi; omega)
    · exact h
  · refine ⟨h.nd, h.nc, h.rn, h.an, h.sp, ?_, h.dm, h.km⟩
    obtain ⟨q1, q2⟩ := u3 rfl
    exact ⟨by show (0 : Int) ≤ b.toInt; omega, q2⟩
  · exact ⟨h.nd, h.nc, Or.inl rfl, h.an, h.sp, h.lf, h.dm, h.km⟩
theorem runS_ok {uq : Nat → Um} {ck : Int32} {w : Cn} {nu : Nat} (h : CnOk w) (hu : ∀ i, i < nu → cOk w.2.1.1 (uq i)) : ∀ i, i ≤ nu → CnOk (runS uq ck w i).1
  | 0, _ => h
  | i + 1, hi => by
    have ih := runS_ok (ck := ck) h hu i (by omega)
    unfold runS
    split
    · exact crun_ok ih (by rw [runS_nd]; exact hu i (by omega))
    · exact ih
theorem runW_ok {uq : Nat → Um} {w : Cn} {nu : Nat} (h : CnOk w) (hu : ∀ i, i < nu → cOk w.2.1.1 (uq i)) : CnOk (runW uq nu w).1 := by
  unfold runW
  split
  · exact h
  · have h1 := runS_ok (ck := w.1.2.1) h hu nu (Nat.le_refl _)
    exact ⟨h1.nd, h1.nc, h1.rn, h1.an, h1.sp, h1.lf, h1.dm, h1.km⟩
theorem lfS_in {lf : Int32} (h : inT 0 lf 60) : inT 0 (lfS lf) 60 := by
  obtain ⟨h1, h2⟩ := h
  have s1 : (lf - 1).toInt = lf.toInt - 1 := by rw [sub_s (by rw [t1]; omega) (by rw [t1]; omega), t1]
  unfold lfS inT
  simp only [Int32.lt_iff_toInt_lt, t0]
  split
  · omega
  · rw [t0]; omega
theorem tickW_ok {uq : Nat → Um} {w : Cn} {nu : Nat} (h : CnOk w) (hu : ∀ i, i < nu → cOk w.2.1.1 (uq i)) : CnOk (tickW uq nu w).1 := by
  have h1 := runW_ok h hu
  unfold tickW
  refine ⟨h1.nd, h1.nc, h1.rn, (ang_sp h1.an ⟨by have := h1.sp.1; omega, by have := h1.sp.2; omega⟩).1, h1.sp, lfS_in h1.lf, fun d hd => ?_, fun k hk => ?_⟩
  · show dOk (mapN dps _ _ d)
    unfold mapN
    have hd : d < (runW uq nu w).1.2.1.1 := hd
    rw [if_pos hd]
    exact dps_ok (h1.dm d hd)
  · show kOk (mapN kps _ _ k)
    unfold mapN
    have hk : k < (runW uq nu w).1.2.2.1 := hk
    rw [if_pos hk]
    exact kps_ok (h1.km k hk)
theorem passS_ok {uq : Nat → Um} {w : Cn} {nu : Nat} (h : CnOk w) (hu : ∀ i, i < nu → cOk w.2.1.1 (uq i)) : ∀ t, CnOk (passS uq nu w t).1
  | 0 => h
  | t + 1 => tickW_ok (passS_ok h hu t) (by rw [passS_nd]; exact hu)
theorem neg_s {x : Int32} (h1 : -1000000 ≤ x.toInt) (h2 : x.toInt ≤ 1000000) : (-x).toInt = -x.toInt := by rw [Int32.toInt_neg]; exact Int.bmod_eq_of_le (by omega) (by omega)
/-- the model's way to the aim -/
theorem glow_lv {pa lv am : Int32} (hp : inT 1 pa 50) (hl : inT 0 lv 100) (ha : inT 0 am 100) : lv + (if -pa < (if am - lv < pa then am - lv else pa) then (if am - lv < pa then am - lv else pa) else -pa) = lvGo pa lv am := by
  obtain ⟨p1, p2⟩ := hp
  obtain ⟨l1, l2⟩ := hl
  obtain ⟨a1, a2⟩ := ha
  have s0 : (am - lv).toInt = am.toInt - lv.toInt := sub_s (by omega) (by omega)
  have s1 : (lv - pa).toInt = lv.toInt - pa.toInt := sub_s (by omega) (by omega)
  have s2 : (lv + pa).toInt = lv.toInt + pa.toInt := add_s (by omega) (by omega)
  have s3 : (-pa).toInt = -pa.toInt := neg_s (by omega) (by omega)
  apply Int32.toInt_inj.mp
  unfold lvGo
  have s4 : (lv + (am - lv)).toInt = am.toInt := by rw [add_s (by omega) (by omega)]; omega
  have s5 : (lv + -pa).toInt = lv.toInt - pa.toInt := by rw [add_s (by omega) (by omega)]; omega
  simp only [Int32.le_iff_toInt_le, Int32.lt_iff_toInt_lt]
  by_cases h1 : (am - lv).toInt < pa.toInt
  · simp only [if_pos h1]
    by_cases h2 : (-pa).toInt < (am - lv).toInt
    · rw [if_pos h2]
      split <;> split <;> omega
    · rw [if_neg h2]
      split <;> split <;> omega
  · simp only [if_neg h1]
    rw [if_pos (by omega)]
    split <;> split <;> omega
