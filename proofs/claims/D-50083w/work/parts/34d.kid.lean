/-! A DEATH IN THE TALLIES (own) -/
theorem xLearn_v {w x : Int → Int} {u : Int} (h0 : 0 ≤ w (23 + 17 * u + 0) ∧ w (23 + 17 * u + 0) ≤ 7) (h1 : 1 ≤ w (23 + 17 * u + 1) ∧ w (23 + 17 * u + 1) ≤ 3) (j : Int) :
    xLearn w x u j = if j = 400 then x 400 + w (23 + 17 * u + 9) else if j = 50 + (4 * w (23 + 17 * u + 0) + w (23 + 17 * u + 1)) then w (23 + 17 * u + 9) else if j = 40 + w (23 + 17 * u + 1) then x j + w (23 + 17 * u + 9) else if j = 30 + w (23 + 17 * u + 1) then x j + 1
      else if j = 20 + w (23 + 17 * u + 0) then (if x j < w (23 + 17 * u + 9) then w (23 + 17 * u + 9) else x j) else if j = 10 + w (23 + 17 * u + 0) then x j + w (23 + 17 * u + 9) else if j = 0 + w (23 + 17 * u + 0) then x j + 1 else x j := by
  unfold xLearn
  simp (disch := omega) only [upi_n]
  unfold upi
  generalize w (23 + 17 * u + 0) = a at h0 ⊢
  generalize w (23 + 17 * u + 1) = b at h1 ⊢
  by_cases q1 : j = 400
  · rw [if_pos q1, if_pos q1]
  rw [if_neg q1, if_neg q1]
  by_cases q2 : j = 50 + (4 * a + b)
  · rw [if_pos q2, if_pos q2]
  rw [if_neg q2, if_neg q2]
  by_cases q3 : j = 40 + b
  · rw [if_pos q3, if_pos q3, q3]
  rw [if_neg q3, if_neg q3]
  by_cases q4 : j = 30 + b
  · rw [if_pos q4, if_pos q4, q4]
  rw [if_neg q4, if_neg q4]
  by_cases q5 : j = 20 + a
  · rw [if_pos q5, if_pos q5, q5]
  rw [if_neg q5, if_neg q5]
  by_cases q6 : j = 10 + a
  · rw [if_pos q6, if_pos q6, q6]
  rw [if_neg q6, if_neg q6]
  by_cases q7 : j = 0 + a
  · rw [if_pos q7, if_pos q7, q7]
  rw [if_neg q7, if_neg q7]
theorem KI.dies {w x : Int → Int} {c u : Int} (hR : ROK w c) (hK : KI w x) (hu : 0 ≤ u ∧ u < w 7) (hl : w (23 + 17 * u + 4) = 1) : KI (mDies w u) (xLearn (mDies w u) x u) := by
  obtain ⟨m1, -, m12, ⟨m4, m5, m9, m15⟩, -⟩ := mDies_inv (w := w) (u := u) hu.1 hR.s5 hR.gW
  have h7 := hR.s7
  have v7 : mDies w u 7 = w 7 := m1 7 (by omega)
  have hf : ∀ j f, 0 ≤ j → j < w 7 → j ≠ u → kF f → mDies w u (23 + 17 * j + f) = w (23 + 17 * j + f) := fun j f h0 h1 hn hk => m1 _ (by omega)
  have f0 : mDies w u (23 + 17 * u + 0) = w (23 + 17 * u + 0) := m1 _ (by omega)
  have f1 : mDies w u (23 + 17 * u + 1) = w (23 + 17 * u + 1) := m1 _ (by omega)
  have hwr := hR.uWr u hu
  have hsz := hR.uSz u hu
  have hwt := hR.uWt u hu
  have hord := hK.2.2.2
  have hdd : ∀ j, 0 ≤ j → j < w 7 → ¬ w (23 + 17 * j + 4) = 1 → 0 ≤ w (23 + 17 * j + 9) := fun j h0 h1 hn => by
    have a := hR.uLv j ⟨h0, h1⟩
    exact (hR.uDd j ⟨h0, h1⟩ (by omega)).2
  have hX := xLearn_v (w := mDies w u) (x := x) (u := u) (by rw [f0]; exact hwr) (by rw [f1]; exact hsz)
  rw [f0, f1, m9] at hX
  generalize hv : mDies w u = v at m4 m5 m9 m12 m15 v7 hf f0 f1 hX ⊢
  have hnc : ∀ g wr sz, ¬ mCounts w g u wr sz := fun g wr sz z => z.1 hl
  have hcc : ∀ g wr sz j, 0 ≤ j → j < w 7 → j ≠ u → (mCounts v g j wr sz ↔ mCounts w g j wr sz) := fun g wr sz j h0 h1 hn => mCounts_cg (fun f hk => hf j f h0 h1 hn hk)
  have hcu : ∀ g wr sz, (mCounts v g u wr sz ↔ (g = 2 ∧ w (23 + 17 * u + 1) = sz ∨ g = 3 ∧ w (23 + 17 * u + 0) = wr ∧ w (23 + 17 * u + 1) = sz ∨ g ≠ 2 ∧ g ≠ 3 ∧ w (23 + 17 * u + 0) = wr)) := fun g wr sz => by
    unfold mCounts
    rw [m4, f0, f1]
    exact ⟨fun z => z.2, fun z => ⟨by omega, z⟩⟩
  have e1 : ∀ g wr sz, tMany v g wr sz (v 7) = tMany w g wr sz (w 7) + (if mCounts v g u wr sz then 1 else 0) := fun g wr sz => by
    rw [v7, tMany_sU, tMany_sU, sU_upd (u := u) (f := fun u => if mCounts w g u wr sz then 1 else 0) hu (fun j h0 h1 hn => ite_iff (hcc g wr sz j h0 h1 hn) _ _)]
    rw [if_neg (hnc g wr sz)]
    omega
  have e2 : ∀ g wr sz, tSum v g wr sz (v 7) = tSum w g wr sz (w 7) + (if mCounts v g u wr sz then w 6 - w (23 + 17 * u + 3) else 0) := fun g wr sz => by
    rw [v7, tSum_sU, tSum_sU, sU_upd (u := u) (f := fun u => if mCounts w g u wr sz then w (23 + 17 * u + 9) else 0) hu (fun j h0 h1 hn => by rw [hf j 9 h0 h1 hn (by omega)]; exact ite_iff (hcc g wr sz j h0 h1 hn) _ _)]
    rw [if_neg (hnc g wr sz), m9]
    omega
  have e3 : ∀ g wr sz, tMost v g wr sz (v 7) = if mCounts v g u wr sz ∧ tMost w g wr sz (w 7) < w 6 - w (23 + 17 * u + 3) then w 6 - w (23 + 17 * u + 3) else tMost w g wr sz (w 7) := fun g wr sz => by
    rw [v7, tMost_mxI (w := v) (fun j h0 h1 hc => by
      by_cases q : j = u
      · rw [q, m9]; omega
      · rw [hf j 9 h0 h1 q (by omega)]; exact hdd j h0 h1 ((hcc g wr sz j h0 h1 q).mp hc).1), tMost_mxI (w := w) (fun j h0 h1 hc => hdd j h0 h1 hc.1)]
    rw [mxI_upd (u := u) (f := fun u => if mCounts w g u wr sz then w (23 + 17 * u + 9) else 0) hu (fun j h0 h1 hn => by rw [hf j 9 h0 h1 hn (by omega)]; exact ite_iff (hcc g wr sz j h0 h1 hn) _ _) (if_neg (hnc g wr sz)) (by rw [m9]; split <;> omega)]
    rw [m9]
    have nn : 0 ≤ mxI (w 7) (fun u => if mCounts w g u wr sz then w (23 + 17 * u + 9) else 0) := by
      unfold mxI
      refine fI_ind (fun _ a => 0 ≤ a) (Int.le_refl _) (fun k a _ ha => ?_) (w 7) h7.1
      split <;> omega
    generalize mxI (w 7) (fun u => if mCounts w g u wr sz then w (23 + 17 * u + 9) else 0) = b at nn ⊢
    by_cases q : mCounts v g u wr sz
    · rw [if_pos q]
      exact ite_iff ⟨fun z => ⟨q, z⟩, fun z => z.2⟩ _ _
    · rw [if_neg q, if_neg (by omega), if_neg (fun z => q z.1)]
  have e4 : ∀ g wr sz, tLate v g wr sz (v 7) = if mCounts v g u wr sz then u else tLate w g wr sz (w 7) := fun g wr sz => by
    rw [v7]
    exact tLate_upd hu (fun j h0 h1 hn => hcc g wr sz j h0 h1 hn) (hnc g wr sz) (fun j h0 h1 hn => ⟨hf j 15 h0 h1 hn (by omega), by rw [m15]; exact hord j ⟨h0, h1⟩⟩)
  refine ⟨fun wr sz h1 h2 => ?_, ?_, ?_, fun j hj => ?_⟩
  · obtain ⟨k1, k2, k3, k4, k5, k6, k7⟩ := hK.1 wr sz h1 h2
    have c1 := hcu 1 wr sz
    have c2 := hcu 2 wr sz
    have c3 := hcu 3 wr sz
    have c4 := hcu 4 wr sz
    refine ⟨?_, ?_, ?_, ?_, ?_, ?_, ?_⟩
    · rw [e1, hX, if_neg (by omega), if_neg (by omega), if_neg (by omega), if_neg (by omega), if_neg (by omega), if_neg (by omega), k1]
      by_cases q : w (23 + 17 * u + 0) = wr
      · rw [if_pos (by omega), if_pos (c1.mpr (by omega))]
      · rw [if_neg (by omega), if_neg (fun z => by have := c1.mp z; omega)]; omega
    · rw [e2, hX, if_neg (by omega), if_neg (by omega), if_neg (by omega), if_neg (by omega), if_neg (by omega), k2]
      by_cases q : w (23 + 17 * u + 0) = wr
      · rw [if_pos (by omega), if_pos (c1.mpr (by omega))]
      · rw [if_neg (by omega), if_neg (by omega), if_neg (fun z => by have := c1.mp z; omega)]; omega
    · rw [e1, hX, if_neg (by omega), if_neg (by omega), if_neg (by omega), if_neg (by omega), if_neg (by omega), if_neg (by omega), k3]
      by_cases q : w (23 + 17 * u + 0) = wr
      · rw [if_pos (by omega), if_pos (c4.mpr (by omega))]
      · rw [if_neg (by omega), if_neg (fun z => by have := c4.mp z; omega)]; omega
    · rw [e3, hX, if_neg (by omega), if_neg (by omega), if_neg (by omega), if_neg (by omega), k4]
      by_cases q : w (23 + 17 * u + 0) = wr
      · rw [if_pos (c := 20 + wr = _) (by omega)]
        exact ite_iff ⟨fun z => ⟨c4.mpr (by omega), z⟩, fun z => z.2⟩ _ _
      · rw [if_neg (by omega), if_neg (by omega), if_neg (by omega), if_neg (fun z => by have := c4.mp z.1; omega)]
    · rw [e1, hX, if_neg (by omega), if_neg (by omega), if_neg (by omega), k5]
      by_cases q : w (23 + 17 * u + 1) = sz
      · rw [if_pos (by omega), if_pos (c2.mpr (by omega))]
      · rw [if_neg (by omega), if_neg (by omega), if_neg (by omega), if_neg (by omega), if_neg (fun z => by have := c2.mp z; omega)]; omega
    · rw [e2, hX, if_neg (by omega), if_neg (by omega), k6]
      by_cases q : w (23 + 17 * u + 1) = sz
      · rw [if_pos (by omega), if_pos (c2.mpr (by omega))]
      · rw [if_neg (by omega), if_neg (by omega), if_neg (by omega), if_neg (by omega), if_neg (by omega), if_neg (fun z => by have := c2.mp z; omega)]; omega
    · have hn0 : 0 ≤ tMany w 3 wr sz (w 7) := by
        unfold tMany
        refine fI_ind (fun _ a => 0 ≤ a) (Int.le_refl _) (fun k a _ ha => ?_) (w 7) h7.1
        split <;> omega
      rw [e1, e4, hX, if_neg (by omega)]
      by_cases q : w (23 + 17 * u + 0) = wr ∧ w (23 + 17 * u + 1) = sz
      · have qc := c3.mpr (by omega)
        rw [if_pos (by omega), if_pos qc, if_pos qc, if_neg (by omega), m9]
      · have qc : ¬ mCounts v 3 u wr sz := fun z => by have := c3.mp z; omega
        rw [if_neg (by omega), if_neg qc, if_neg qc, if_neg (by omega), if_neg (by omega), if_neg (by omega), if_neg (by omega), if_neg (by omega), k7, Int.add_zero]
        by_cases z : tMany w 3 wr sz (w 7) = 0
        · rw [if_pos z, if_pos z]
        · obtain ⟨r1, r2⟩ := tLate_in h7.1 z
          rw [if_neg z, if_neg z, hf _ 9 r1.1 r1.2 (fun y => by rw [y] at r2; exact r2.1 hl) (by omega)]
  · rw [hX, if_pos rfl, v7, hK.2.1]
    unfold mLived
    have e := sU_upd (u := u) (f := fun u => if w (23 + 17 * u + 4) = 1 then 0 else w (23 + 17 * u + 9)) (f' := fun u => if v (23 + 17 * u + 4) = 1 then 0 else v (23 + 17 * u + 9)) hu (fun j h0 h1 hn => by rw [hf j 4 h0 h1 hn (by omega), hf j 9 h0 h1 hn (by omega)])
    rw [e, if_neg (by omega), if_pos hl, m9]
    omega
  · rw [m12, v7, hK.2.2.1]
    unfold mDead
    have e := sU_upd (u := u) (f := fun u => if w (23 + 17 * u + 4) = 1 then 0 else 1) (f' := fun u => if v (23 + 17 * u + 4) = 1 then 0 else 1) hu (fun j h0 h1 hn => by rw [hf j 4 h0 h1 hn (by omega)])
    rw [e, if_neg (by omega), if_pos hl]
    omega
  · rw [v7] at hj
    rw [m12]
    by_cases q : j = u
    · rw [q, m15]; omega
    · rw [hf j 15 hj.1 hj.2 q (by omega)]
      have := hord j hj
      omega
