/-! WHAT THE CLASS KEEPS (own): KI: the tallies are those of the row -/
def KI (w x : Int → Int) : Prop :=
  (∀ wr sz, 0 ≤ wr ∧ wr ≤ 7 → 1 ≤ sz ∧ sz ≤ 3 → x (0 + wr) = tMany w 1 wr sz (w 7) ∧ x (10 + wr) = tSum w 1 wr sz (w 7) ∧ x (0 + wr) = tMany w 4 wr sz (w 7) ∧ x (20 + wr) = tMost w 4 wr sz (w 7) ∧
    x (30 + sz) = tMany w 2 wr sz (w 7) ∧ x (40 + sz) = tSum w 2 wr sz (w 7) ∧ x (50 + (4 * wr + sz)) = (if tMany w 3 wr sz (w 7) = 0 then -1 else w (23 + 17 * tLate w 3 wr sz (w 7) + 9))) ∧
  x 400 = mLived w (w 7) ∧ w 12 = mDead w (w 7) ∧ (∀ u, 0 ≤ u ∧ u < w 7 → w (23 + 17 * u + 15) < w 12)
abbrev kF (f : Int) : Prop := f = 0 ∨ f = 1 ∨ f = 4 ∨ f = 9 ∨ f = 15
theorem mCounts_cg {v w : Int → Int} {g u wr sz : Int} (h : ∀ f, kF f → v (23 + 17 * u + f) = w (23 + 17 * u + f)) : mCounts v g u wr sz ↔ mCounts w g u wr sz := by
  unfold mCounts
  rw [h 0 (by omega), h 1 (by omega), h 4 (by omega)]
/-- what does not touch the units' lives -/
theorem KI.cg {w x v y : Int → Int} (h : KI w x) (hn : 0 ≤ w 7) (h7 : v 7 = w 7) (h12 : v 12 = w 12) (hu : ∀ u f, 0 ≤ u → u < w 7 → kF f → v (23 + 17 * u + f) = w (23 + 17 * u + f)) (hx : ∀ j, (0 ≤ j ∧ j ≤ 81) ∨ j = 400 → y j = x j) : KI v y := by
  have hc : ∀ g u wr sz, 0 ≤ u → u < w 7 → (mCounts v g u wr sz ↔ mCounts w g u wr sz) := fun g u wr sz h0 h1 => mCounts_cg (fun f hf => hu u f h0 h1 hf)
  have e1 : ∀ g wr sz, tMany v g wr sz (v 7) = tMany w g wr sz (w 7) := fun g wr sz => by
    rw [h7, tMany_sU, tMany_sU]
    exact sU_cg fun u h0 h1 => ite_iff (hc g u wr sz h0 h1) _ _
  have e2 : ∀ g wr sz, tSum v g wr sz (v 7) = tSum w g wr sz (w 7) := fun g wr sz => by
    rw [h7, tSum_sU, tSum_sU]
    refine sU_cg fun u h0 h1 => ?_
    rw [hu u 9 h0 h1 (by omega)]
    exact ite_iff (hc g u wr sz h0 h1) _ _
  have e3 : ∀ g wr sz, tMost v g wr sz (v 7) = tMost w g wr sz (w 7) := fun g wr sz => by
    rw [h7]
    unfold tMost
    refine fI_congr fun u a h0 h1 => ?_
    rw [hu u 9 h0 h1 (by omega)]
    exact ite_iff (hc g u wr sz h0 h1) _ _
  have rg : ∀ g wr sz k, 0 ≤ k → k ≤ w 7 → -1 ≤ tLate w g wr sz k ∧ tLate w g wr sz k < k ∨ tLate w g wr sz k = -1 := fun g wr sz k hk _ => by
    unfold tLate
    refine fI_ind (fun k a => -1 ≤ a ∧ a < k ∨ a = -1) (Or.inr rfl) (fun k a _ ha => ?_) k hk
    (repeat (any_goals split)) <;> omega
  have e4 : ∀ g wr sz, tLate v g wr sz (v 7) = tLate w g wr sz (w 7) := fun g wr sz => by
    rw [h7]
    unfold tLate
    refine fI_congrP (fun k a => -1 ≤ a ∧ a < k ∨ a = -1) (Or.inr rfl) (fun u a h0 h1 ha => ?_) hn
    constructor
    · rw [hu u 15 h0 h1 (by omega)]
      by_cases qa : a = -1
      · rw [qa]
        have hcc := hc g u wr sz h0 h1
        by_cases q2 : mCounts w g u wr sz
        · rw [if_pos (hcc.mpr q2), if_pos q2, if_pos (Or.inl rfl), if_pos (Or.inl rfl)]
        · rw [if_neg (fun z => q2 (hcc.mp z)), if_neg q2]
      · rw [hu a 15 (by omega) (by omega) (by omega)]
        exact ite_iff (hc g u wr sz h0 h1) _ _
    · (repeat (any_goals split)) <;> omega
  have e5 : ∀ wr sz, (if tMany w 3 wr sz (w 7) = 0 then (-1 : Int) else v (23 + 17 * tLate w 3 wr sz (w 7) + 9)) = (if tMany w 3 wr sz (w 7) = 0 then -1 else w (23 + 17 * tLate w 3 wr sz (w 7) + 9)) := fun wr sz => by
    by_cases q : tMany w 3 wr sz (w 7) = 0
    · rw [if_pos q, if_pos q]
    · rw [if_neg q, if_neg q]
      have r := rg 3 wr sz (w 7) hn (Int.le_refl _)
      by_cases q1 : tLate w 3 wr sz (w 7) = -1
      · exfalso
        apply q
        have key : ∀ k, 0 ≤ k → (tLate w 3 wr sz k = -1 → tMany w 3 wr sz k = 0) ∧ (-1 ≤ tLate w 3 wr sz k) := fun k hk => by
          obtain ⟨m, rfl⟩ := Int.eq_ofNat_of_zero_le hk
          induction m with
          | zero => exact ⟨fun _ => rfl, by show (-1 : Int) ≤ -1; omega⟩
          | succ m ih =>
            have ih := ih (by omega)
            rw [show ((m + 1 : Nat) : Int) = (m : Int) + 1 from rfl, tLate_s (by omega), tMany_s (by omega)]
            by_cases qc : mCounts w 3 m wr sz
            · rw [if_pos qc, if_pos qc]
              by_cases qo : tLate w 3 wr sz m = -1 ∨ w (23 + 17 * tLate w 3 wr sz m + 15) < w (23 + 17 * m + 15)
              · rw [if_pos qo]; exact ⟨fun z => by omega, by omega⟩
              · rw [if_neg qo]; exact ⟨fun z => absurd (Or.inl z) qo, ih.2⟩
            · rw [if_neg qc, if_neg qc]; exact ih
        exact (key (w 7) hn).1 q1
      · exact hu _ 9 (by omega) (by omega) (by omega)
  refine ⟨fun wr sz h1 h2 => ?_, ?_, ?_, fun u hh => ?_⟩
  · obtain ⟨k1, k2, k3, k4, k5, k6, k7⟩ := h.1 wr sz h1 h2
    rw [e1, e2, e1, e3, e1, e2, e1, e4, e5, hx (0 + wr) (by omega), hx (10 + wr) (by omega), hx (20 + wr) (by omega), hx (30 + sz) (by omega), hx (40 + sz) (by omega), hx (50 + (4 * wr + sz)) (by omega)]
    exact ⟨k1, k2, k3, k4, k5, k6, k7⟩
  · rw [hx 400 (by omega), h.2.1, h7]
    refine (sU_cg fun u h0 h1 => ?_).symm
    rw [hu u 4 h0 h1 (by omega), hu u 9 h0 h1 (by omega)]
  · rw [h12, h.2.2.1, h7]
    refine (sU_cg fun u h0 h1 => ?_).symm
    rw [hu u 4 h0 h1 (by omega)]
  · rw [h12, hu u 15 hh.1 (by omega) (by omega)]
    exact h.2.2.2 u (by omega)
/-- where one counts there is a latest, and it counts -/
theorem tLate_in {w : Int → Int} {g wr sz k : Int} (hk : 0 ≤ k) (h : tMany w g wr sz k ≠ 0) : (0 ≤ tLate w g wr sz k ∧ tLate w g wr sz k < k) ∧ mCounts w g (tLate w g wr sz k) wr sz := by
  have key : ∀ k, 0 ≤ k → (tMany w g wr sz k = 0 ∧ tLate w g wr sz k = -1) ∨ ((0 ≤ tLate w g wr sz k ∧ tLate w g wr sz k < k) ∧ mCounts w g (tLate w g wr sz k) wr sz) := fun k hk => by
    obtain ⟨m, rfl⟩ := Int.eq_ofNat_of_zero_le hk
    induction m with
    | zero => exact Or.inl ⟨rfl, rfl⟩
    | succ m ih =>
      have ih := ih (by omega)
      rw [show ((m + 1 : Nat) : Int) = (m : Int) + 1 from rfl, tLate_s (by omega), tMany_s (by omega)]
      by_cases qc : mCounts w g m wr sz
      · rw [if_pos qc, if_pos qc]
        by_cases qo : tLate w g wr sz m = -1 ∨ w (23 + 17 * tLate w g wr sz m + 15) < w (23 + 17 * m + 15)
        · rw [if_pos qo]; exact Or.inr ⟨by omega, qc⟩
        · rw [if_neg qo]
          rcases ih with z | z
          · exact absurd (Or.inl z.2) qo
          · exact Or.inr ⟨by omega, z.2⟩
      · rw [if_neg qc, if_neg qc]
        rcases ih with z | z
        · exact Or.inl z
        · exact Or.inr ⟨by omega, z.2⟩
  rcases key k hk with z | z
  · exact absurd z.1 h
  · exact z
/-- what a guesser of the class tells is what the row tells -/
theorem xTells_eq {w x : Int → Int} {c g wr sz nm : Int} (hR : ROK w c) (hK : KI w x) (hg : 0 ≤ g ∧ g ≤ 4) (hwr : 0 ≤ wr ∧ wr ≤ 7) (hsz : 1 ≤ sz ∧ sz ≤ 3) : mBounded (xG w x g wr sz nm) = mTells w g wr sz := by
  obtain ⟨k1, k2, k3, k4, k5, k6, k7⟩ := hK.1 wr sz hwr hsz
  have h7 := hR.s7
  unfold xG mTells
  rcases (show g = 0 ∨ g = 1 ∨ g = 2 ∨ g = 3 ∨ g = 4 by omega) with rfl | rfl | rfl | rfl | rfl
  · rw [if_pos rfl, if_pos (Or.inl (by omega))]
  · rw [if_neg (by omega), if_pos rfl, k1, k2]
    by_cases q : tMany w 1 wr sz (w 7) = 0
    · rw [if_pos q, if_pos (Or.inr q)]
    · rw [if_neg q, if_neg (by omega), if_neg (by omega), if_neg (by omega)]
  · rw [if_neg (by omega), if_neg (by omega), if_pos rfl, k5, k6]
    by_cases q : tMany w 2 wr sz (w 7) = 0
    · rw [if_pos q, if_pos (Or.inr q)]
    · rw [if_neg q, if_neg (by omega), if_neg (by omega), if_neg (by omega)]
  · rw [if_neg (by omega), if_neg (by omega), if_neg (by omega), if_pos rfl, k7]
    by_cases q : tMany w 3 wr sz (w 7) = 0
    · rw [if_pos q, if_pos rfl, if_pos (Or.inr q)]
    · obtain ⟨r1, r2⟩ := tLate_in h7.1 q
      have hdd := hR.uDd (tLate w 3 wr sz (w 7)) (by omega)
      have hlv := hR.uLv (tLate w 3 wr sz (w 7)) (by omega)
      have r3 := r2.1
      rw [if_neg q, if_neg (by omega), if_neg (by omega), if_pos rfl]
  · rw [if_neg (by omega), if_neg (by omega), if_neg (by omega), if_neg (by omega), if_pos rfl, k3, k4]
    by_cases q : tMany w 4 wr sz (w 7) = 0
    · rw [if_pos q, if_pos (Or.inr q)]
    · rw [if_neg q, if_neg (by omega), if_neg (by omega), if_pos rfl]
