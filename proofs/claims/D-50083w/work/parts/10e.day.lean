/-! days, writes (own) -/
set_option maxRecDepth 100000
/-- what no act but write changes -/
def KeepR (w v : Int → Int) : Prop := (∀ i, i < 6 ∨ i = 7 ∨ i = 11 ∨ 1862 ≤ i → v i = w i) ∧ (∀ u, 0 ≤ u ∧ u ≤ 98 → (v (23 + 17 * u + 0) = w (23 + 17 * u + 0) ∧ v (23 + 17 * u + 1) = w (23 + 17 * u + 1) ∧ v (23 + 17 * u + 2) = w (23 + 17 * u + 2) ∧ v (23 + 17 * u + 3) = w (23 + 17 * u + 3) ∧ v (23 + 17 * u + 7) = w (23 + 17 * u + 7) ∧ v (23 + 17 * u + 16) = w (23 + 17 * u + 16)))
theorem KeepR.rf {w : Int → Int} : KeepR w w := ⟨fun _ _ => rfl, fun _ _ => ⟨rfl, rfl, rfl, rfl, rfl, rfl⟩⟩
theorem KeepR.tr {w v x : Int → Int} (a : KeepR w v) (b : KeepR v x) : KeepR w x := ⟨fun i hi => (b.1 i hi).trans (a.1 i hi), fun u hu => by
  have a1 := a.2 u hu
  have b1 := b.2 u hu
  omega⟩
theorem KeepR.of {w v : Int → Int} (h : ∀ i, i < 6 ∨ i = 7 ∨ i = 11 ∨ 1862 ≤ i ∨ (∃ u f : Int, 0 ≤ u ∧ u ≤ 98 ∧ (f = 0 ∨ f = 1 ∨ f = 2 ∨ f = 3 ∨ f = 7 ∨ f = 16) ∧ i = 23 + 17 * u + f) → v i = w i) : KeepR w v :=
  ⟨fun i hi => h i (by omega), fun u hu => ⟨h _ (Or.inr (Or.inr (Or.inr (Or.inr ⟨u, 0, hu.1, hu.2, by omega, rfl⟩)))), h _ (Or.inr (Or.inr (Or.inr (Or.inr ⟨u, 1, hu.1, hu.2, by omega, rfl⟩)))), h _ (Or.inr (Or.inr (Or.inr (Or.inr ⟨u, 2, hu.1, hu.2, by omega, rfl⟩)))), h _ (Or.inr (Or.inr (Or.inr (Or.inr ⟨u, 3, hu.1, hu.2, by omega, rfl⟩)))), h _ (Or.inr (Or.inr (Or.inr (Or.inr ⟨u, 7, hu.1, hu.2, by omega, rfl⟩)))), h _ (Or.inr (Or.inr (Or.inr (Or.inr ⟨u, 16, hu.1, hu.2, by omega, rfl⟩))))⟩⟩
theorem mDies_keep {w : Int → Int} {u c : Int} (h : ROK w c) (hu : 0 ≤ u ∧ u ≤ 98) : KeepR w (mDies w u) := by
  obtain ⟨fr, -⟩ := mDies_inv (w := w) (u := u) hu.1 h.s5 (fun g hg => (h.g g hg).1)
  refine KeepR.of fun i hi => fr i ?_
  rcases hi with q | q | q | q | ⟨x, f, q1, q2, q3, q4⟩ <;> omega
theorem mResets_keep {w : Int → Int} {z : Int} (hz : 0 ≤ z ∧ z ≤ 11) : KeepR w (mResets w z) := by
  refine KeepR.of fun i hi => mResets_fr i ?_
  rcases hi with q | q | q | q | ⟨x, f, q1, q2, q3, q4⟩ <;> omega
theorem mBuries_keep {w as w' : Int → Int} {way z c : Int} (h : ROK w c) (hc : c + 100 ≤ 14000000) (hz : 0 ≤ z ∧ z ≤ 11) (e : mBuries w as way z = some w') : KeepR w w' := by
  obtain ⟨-, fr⟩ := mBuries_inv h hc hz e
  have h7 := h.s7
  refine KeepR.of fun i hi => fr i ?_
  rcases hi with q | q | q | q | ⟨x, f, q1, q2, q3, q4⟩
  · exact Or.inl ⟨by omega, by omega, by omega, fun y hy => by omega⟩
  · exact Or.inl ⟨by omega, by omega, by omega, fun y hy => by omega⟩
  · exact Or.inl ⟨by omega, by omega, by omega, fun y hy => by omega⟩
  · exact Or.inr q
  · exact Or.inl ⟨by omega, by omega, by omega, fun y hy => by omega⟩
def mDayU (w : Int → Int) (k : Int) : Int → Int := fI k (fun u v => if v (23 + 17 * u + 4) = 1 ∧ 0 < v (23 + 17 * u + 2) ∧ v (23 + 17 * u + 3) + v (23 + 17 * u + 2) ≤ v 6 then mDies v u else v) (upi w 6 (w 6 + 1))
theorem mDayU_s {w : Int → Int} {k : Int} (hk : 0 ≤ k) : mDayU w (k + 1) = if mDayU w k (23 + 17 * k + 4) = 1 ∧ 0 < mDayU w k (23 + 17 * k + 2) ∧ mDayU w k (23 + 17 * k + 3) + mDayU w k (23 + 17 * k + 2) ≤ mDayU w k 6 then mDies (mDayU w k) k else mDayU w k := fI_s hk
def mDayZ1 (as : Int → Int) (way z : Int) (v : Int → Int) : Int → Int := if v (1706 + 13 * z + 0) = -1 ∨ v 6 ≤ v (1706 + 13 * z + 0) * v 2 + v 2 - 1 + v 3 then v else if mLivIn v z (v 7) = 0 then mResets v z else (mBuries v as way z).getD v
def mDayZ (w as : Int → Int) (way k : Int) : Int → Int := fI k (mDayZ1 as way) (mDayU w (w 7))
theorem mDayZ_s {w as : Int → Int} {way k : Int} (hk : 0 ≤ k) : mDayZ w as way (k + 1) = mDayZ1 as way k (mDayZ w as way k) := fI_s hk
def mDay (w as : Int → Int) (way : Int) : Int → Int := mDayZ w as way (w 0)
theorem day_fr {w : Int → Int} (i : Int) (h : i ≠ 6) : upi w 6 (w 6 + 1) i = w i := upi_n h
-- printed
theorem day_ok {w : Int → Int} {c : Int} (h : ROK w c) (hc : c + 1 ≤ 14000000) : ROK (upi w 6 (w 6 + 1)) (c + 1) := by
  have fr := @day_fr w
  have v6 := upi_s w 6 (w 6 + 1)
  have hc0 := h.c0
  have hs0 := h.s0
  have hs1 := h.s1
  have hs2 := h.s2
  have hs3 := h.s3
  have hs4 := h.s4
  have hs5 := h.s5
  have hs6 := h.s6
  have hs7 := h.s7
  have hs8 := h.s8
  have hs9 := h.s9
  have hs10 := h.s10
  have hs11 := h.s11
  have hs12 := h.s12
  have f7 : (upi w 6 (w 6 + 1)) 7 = w 7 := by exact fr 7 (by omega)
  have f0 : (upi w 6 (w 6 + 1)) 0 = w 0 := fr 0 (by omega)
  have f6 : (upi w 6 (w 6 + 1)) 6 = w 6 + 1 := by exact v6
  refine ⟨?_, ?_, ?_, ?_, ?_, ?_, ?_, ?_, ?_, ?_, ?_, ?_, ?_, ?_, ?_, ?_, ?_, ?_, ?_, ?_, ?_⟩
  · -- c0
    omega
  · -- s0
    rw [fr 0 (by omega)]
    omega
  · -- s1
    rw [fr 1 (by omega)]
    omega
  · -- s2
    rw [fr 2 (by omega)]
    omega
  · -- s3
    rw [fr 3 (by omega)]
    omega
  · -- s4
    rw [fr 4 (by omega)]
    omega
  · -- s5
    rw [fr 5 (by omega)]
    omega
  · -- s6
    rw [v6]
    omega
  · -- s7
    rw [fr 7 (by omega)]
    omega
  · -- s8
    rw [fr 8 (by omega)]
    omega
  · -- s9
    rw [fr 9 (by omega)]
    omega
  · -- s10
    rw [fr 10 (by omega)]
    omega
  · -- s11
    rw [fr 11 (by omega)]
    omega
  · -- s12
    rw [fr 12 (by omega)]
    omega
  · -- g
    exact fun g hg => by rw [fr (13 + g) (by omega), fr (18 + g) (by omega)]; have := h.g g hg; omega
  · -- u
    intro x hx
    rw [f7] at hx
    rw [f0, f6]
    have hq := h.u x hx
    simp (disch := omega) only [fr]
    omega
  · -- t
    exact fun x g hx hg => by rw [f7] at hx; rw [fr (23 + 17 * x + (10 + g)) (by omega)]; exact h.t x g hx hg
  · -- z
    exact fun x hx => by rw [f0]; have := h.z x hx; simp (disch := omega) only [fr]; omega
  · -- p
    exact fun x k hx hk => by rw [f7]; have hm := h.zM x hx; have hf := h.zF x hx; rw [fr (1706 + 13 * x + 3) (by omega)] at hk; rw [fr (1706 + 13 * x + 4 + k) (by omega)]; exact h.p x k hx hk
  · -- n
    exact fun x hx => by rw [f7] at hx; rw [fr (23 + 17 * x + 5) (by omega)]; exact h.n x hx
  · -- sup
    exact fun i hi => by rw [fr i (by omega)]; exact h.sup i hi
theorem mDayU_inv {w : Int → Int} {c : Int} (h : ROK w c) (hc : c + 100 ≤ 14000000) : ∀ k, 0 ≤ k → k ≤ w 7 → ROK (mDayU w k) (c + 1 + k) ∧ KeepR w (mDayU w k) := by
  unfold mDayU
  have h7 := h.s7
  refine fI_indb (m := w 7) (fun (k : Int) (v : Int → Int) => ROK v (c + 1 + k) ∧ KeepR w v) ⟨by rw [Int.add_zero]; exact day_ok h (by omega), ?_⟩ (fun k v h0 hk ih => ?_)
  · refine KeepR.of fun i hi => day_fr i ?_
    rcases hi with q | q | q | q | ⟨x, f, q1, q2, q3, q4⟩ <;> omega
  · obtain ⟨a1, a2⟩ := ih
    have v7 := a2.1 7 (by omega)
    split
    · exact ⟨by rw [← Int.add_assoc]; exact mDies_ok a1 (by omega) (by omega), a2.tr (mDies_keep a1 (by omega))⟩
    · exact ⟨a1.mono (by omega) (by omega), a2⟩
theorem mDayZ_inv {w as : Int → Int} {way c : Int} (h : ROK w c) (hc : c + 1300 ≤ 14000000) : ∀ k, 0 ≤ k → k ≤ w 0 → ROK (mDayZ w as way k) (c + 100 + 100 * k) ∧ KeepR w (mDayZ w as way k) := by
  unfold mDayZ
  have h7 := h.s7
  have h0' := h.s0
  obtain ⟨u1, u2⟩ := mDayU_inv h (by omega) (w 7) (by omega) (Int.le_refl _)
  refine fI_indb (m := w 0) (fun (k : Int) (v : Int → Int) => ROK v (c + 100 + 100 * k) ∧ KeepR w v) ⟨u1.mono (by omega) (by omega), u2⟩ (fun k v h0 hk ih => ?_)
  obtain ⟨a1, a2⟩ := ih
  unfold mDayZ1
  split
  · exact ⟨a1.mono (by omega) (by omega), a2⟩
  · split
    · exact ⟨(mResets_ok a1 (z := k) (by omega) (by omega)).mono (by omega) (by omega), a2.tr (mResets_keep (by omega))⟩
    · cases e : mBuries v as way k with
      | none => exact ⟨a1.mono (by omega) (by omega), a2⟩
      | some v' => exact ⟨(mBuries_inv a1 (by omega) (by omega) e).1.mono (by omega) (by omega), a2.tr (mBuries_keep a1 (by omega) (by omega) e)⟩
theorem mDay_inv {w as : Int → Int} {way c : Int} (h : ROK w c) (hc : c + 1300 ≤ 14000000) : ROK (mDay w as way) (c + 1300) ∧ KeepR w (mDay w as way) := by
  have h0 := h.s0
  obtain ⟨a1, a2⟩ := mDayZ_inv (as := as) (way := way) h hc (w 0) (by omega) (Int.le_refl _)
  exact ⟨a1.mono (by omega) (by omega), a2⟩
def mDays (w as : Int → Int) (way k : Int) : Int → Int := fI k (fun _ v => mDay v as way) w
theorem mDays_s {w as : Int → Int} {way k : Int} (hk : 0 ≤ k) : mDays w as way (k + 1) = mDay (mDays w as way k) as way := fI_s hk
theorem mDays_inv {w as : Int → Int} {way c m : Int} (h : ROK w c) (hc : c + 1300 * m ≤ 14000000) : ∀ k, 0 ≤ k → k ≤ m → ROK (mDays w as way k) (c + 1300 * k) ∧ KeepR w (mDays w as way k) := by
  unfold mDays
  refine fI_indb (m := m) (fun (k : Int) (v : Int → Int) => ROK v (c + 1300 * k) ∧ KeepR w v) ⟨by rw [Int.mul_zero, Int.add_zero]; exact h, KeepR.rf⟩ (fun k v h0 hk ih => ?_)
  obtain ⟨a1, a2⟩ := mDay_inv (as := as) (way := way) ih.1 (by omega)
  exact ⟨a1.mono (by omega) (by omega), ih.2.tr a2⟩
/-- who had known knows every unit here -/
def KA (as : Int → Int) (way ca : Int) (w : Int → Int) : Prop := way = 6 → ROK as ca ∧ ∀ u, 0 ≤ u ∧ u < w 7 → 0 ≤ w (23 + 17 * u + 16) ∧ w (23 + 17 * u + 16) < as 7
theorem KA.keep {as w v : Int → Int} {way ca : Int} (h : KA as way ca w) (k : KeepR w v) (h7 : w 7 ≤ 99) : KA as way ca v := fun q => ⟨(h q).1, fun u hu => by
  have v7 := k.1 7 (by omega)
  have := (h q).2 u (by omega)
  have := (k.2 u (by omega)).2.2.2.2.2
  omega⟩
