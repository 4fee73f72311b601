/-! DEATHS AND TALLIES, plain (own): what the class keeps is what the row tells -/
abbrev dS (u j : Int) : Prop := j = 5 ∨ (13 ≤ j ∧ j ≤ 22) ∨ (23 + 17 * u + 9 ≤ j ∧ j ≤ 23 + 17 * u + 14)
theorem mLoss_cg {v w : Int → Int} {u g : Int} (h : ∀ j, dS u j → v j = w j) (hg : 0 ≤ g ∧ g ≤ 4) : mLoss v u g = mLoss w u g := by
  unfold mLoss
  rw [h _ (by omega), h _ (by omega)]
theorem mW1_cg {v w : Int → Int} {u : Int} (h : ∀ j, dS u j → v j = w j) : ∀ k, 0 ≤ k → k ≤ 5 → (fI k (mW1 u) (v, 1)).2 = (fI k (mW1 u) (w, 1)).2 ∧ ∀ j, dS u j → (fI k (mW1 u) (v, 1)).1 j = (fI k (mW1 u) (w, 1)).1 j := by
  intro k hk h5
  obtain ⟨n, rfl⟩ := Int.eq_ofNat_of_zero_le hk
  induction n with
  | zero => exact ⟨rfl, h⟩
  | succ n ih =>
    obtain ⟨i1, i2⟩ := ih (by omega) (by omega)
    rw [show ((n + 1 : Nat) : Int) = (n : Int) + 1 from rfl, fI_s (by omega), fI_s (by omega)]
    generalize fI (n : Int) (mW1 u) (v, 1) = a at i1 i2 ⊢
    generalize fI (n : Int) (mW1 u) (w, 1) = b at i1 i2 ⊢
    have e1 := mLoss_cg (v := a.1) (w := b.1) (g := n) i2 (by omega)
    have e2 : mWt a.1 u n = mWt b.1 u n := by
      unfold mWt
      rw [e1, i2 (13 + n) (by omega), i2 5 (by omega)]
    unfold mW1
    dsimp only
    rw [e2, i1]
    refine ⟨rfl, fun j hj => ?_⟩
    rw [e1, i2 (18 + n) (by omega)]
    unfold upi
    rw [i2 j hj]
theorem mW2_at {w : Int → Int} (j : Int) : mW2 w 5 j = if 13 ≤ j ∧ j < 18 then w j * 2 else w j := by
  obtain ⟨h1, h2⟩ := mW2_inv (w := w) 5 (by omega) (by omega)
  by_cases q : 13 ≤ j ∧ j < 18
  · rw [if_pos q]
    have := h2 (j - 13) (by omega)
    rw [show 13 + (j - 13) = j by omega, if_pos (by omega)] at this
    exact this
  · rw [if_neg q]
    exact h1 j (by omega)
theorem XWt_cg {v w : Int → Int} {u : Int} (h : ∀ j, dS u j → v j = w j) (j : Int) (hj : dS u j) : XWt v u j = XWt w u j := by
  obtain ⟨h1, h2⟩ := mW1_cg h 5 (by omega) (by omega)
  unfold XWt
  rw [h1]
  split
  · rw [mW2_at, mW2_at, h2 j hj]
  · exact h2 j hj
theorem XWt_fr {w : Int → Int} {u : Int} (h5 : 0 ≤ w 5 ∧ w 5 ≤ 90) (hw : ∀ g, 0 ≤ g ∧ g ≤ 4 → 1 ≤ w (13 + g) ∧ w (13 + g) ≤ 1000) (j : Int) (hj : j < 13 ∨ 23 ≤ j) : XWt w u j = w j := by
  obtain ⟨h1, -⟩ := mW1_inv (u := u) h5 hw 5 (by omega) (by omega)
  unfold XWt
  split
  · rw [mW2_at, if_neg (by omega), h1 j hj]
  · exact h1 j hj
theorem xDies_eq {w : Int → Int} {u : Int} (hu : 0 ≤ u) (h5 : 0 ≤ w 5 ∧ w 5 ≤ 90) (hw : ∀ g, 0 ≤ g ∧ g ≤ 4 → 1 ≤ w (13 + g) ∧ w (13 + g) ≤ 1000) (hle : 0 ≤ w (23 + 17 * u + 7) ∧ w (23 + 17 * u + 7) ≤ 6 ∧ w (23 + 17 * u + 7) ≠ 5) :
    ∀ j, j ≠ 23 + 17 * u + 4 → j ≠ 23 + 17 * u + 15 → xDies w u j = mDies w u j := by
  intro j n4 n15
  have hD := fun i => mDies0_v (w := w) hu i
  obtain ⟨m1, -, m12, ⟨-, m5, m9, -⟩, -⟩ := mDies_inv (w := w) hu h5 hw
  have ha : ∀ i, upi (upi w (23 + 17 * u + 9) (w 6 - w (23 + 17 * u + 3))) (23 + 17 * u + 5) (-1) i = if i = 23 + 17 * u + 5 then -1 else if i = 23 + 17 * u + 9 then w 6 - w (23 + 17 * u + 3) else w i := fun i => rfl
  unfold xDies
  generalize hA : upi (upi w (23 + 17 * u + 9) (w 6 - w (23 + 17 * u + 3))) (23 + 17 * u + 5) (-1) = a at ha ⊢
  have a7 : a (23 + 17 * u + 7) = w (23 + 17 * u + 7) := by rw [ha, if_neg (by omega), if_neg (by omega)]
  have a10 : a 10 = w 10 := by rw [ha, if_neg (by omega), if_neg (by omega)]
  generalize hL : (if a (23 + 17 * u + 7) < 5 then mLoss a u (a (23 + 17 * u + 7)) else 0) = lo
  have hb : ∀ i, upi a 10 (a 10 + lo) i = if i = 10 then w 10 + lo else a i := fun i => by
    rw [a10]
    rfl
  generalize upi a 10 (a 10 + lo) = b at hb ⊢
  have hbw : ∀ i, i ≠ 10 → i ≠ 23 + 17 * u + 5 → i ≠ 23 + 17 * u + 9 → b i = w i := fun i q1 q2 q3 => by rw [hb, if_neg q1, ha, if_neg q2, if_neg q3]
  have hb5 : 0 ≤ b 5 ∧ b 5 ≤ 90 := by rw [hbw 5 (by omega) (by omega) (by omega)]; exact h5
  have hbg : ∀ g, 0 ≤ g ∧ g ≤ 4 → 1 ≤ b (13 + g) ∧ b (13 + g) ≤ 1000 := fun g hg => by rw [hbw _ (by omega) (by omega) (by omega)]; exact hw g hg
  have hDb : ∀ i, dS u i → b i = mDies0 w u i := fun i hi => by
    rw [hD]
    by_cases q9 : i = 23 + 17 * u + 9
    · rw [hb, if_neg (by omega), ha, if_neg (by omega), if_pos q9, if_neg (by omega), if_neg (by omega), if_pos q9]
    · rw [hbw i (by omega) (by omega) q9, if_neg (by omega), if_neg (by omega), if_neg q9, if_neg (by omega), if_neg (by omega)]
  have hD5 : 0 ≤ mDies0 w u 5 ∧ mDies0 w u 5 ≤ 90 := by rw [← hDb 5 (by omega)]; exact hb5
  have hDg : ∀ g, 0 ≤ g ∧ g ≤ 4 → 1 ≤ mDies0 w u (13 + g) ∧ mDies0 w u (13 + g) ≤ 1000 := fun g hg => by rw [← hDb _ (by omega)]; exact hbg g hg
  have hmd : mDies w u = mW3 (XWt (mDies0 w u) u) u := rfl
  by_cases q12 : j = 12
  · rw [q12, upi_s, XWt_fr hb5 hbg 12 (by omega), hbw 12 (by omega) (by omega) (by omega), m12]
  rw [upi_n q12]
  by_cases q10 : j = 10
  · rw [q10, XWt_fr hb5 hbg 10 (by omega), hb, if_pos rfl, hmd]
    unfold mW3
    have e7 : XWt (mDies0 w u) u (23 + 17 * u + 7) = w (23 + 17 * u + 7) := by
      rw [XWt_fr hD5 hDg _ (by omega), hD, if_neg (by omega), if_neg (by omega), if_neg (by omega), if_neg (by omega), if_neg (by omega)]
    have e10 : XWt (mDies0 w u) u 10 = w 10 := by
      rw [XWt_fr hD5 hDg _ (by omega), hD, if_neg (by omega), if_neg (by omega), if_neg (by omega), if_neg (by omega), if_neg (by omega)]
    rw [e7]
    by_cases q6 : w (23 + 17 * u + 7) = 6
    · rw [if_pos q6, e10, ← hL, a7, if_neg (by omega)]
      omega
    · rw [if_neg q6, upi_s, e10, ← hL, a7, if_pos (by omega)]
      congr 1
      unfold mLoss
      rw [XWt_fr hD5 hDg (23 + 17 * u + 9) (by omega), XWt_fr hD5 hDg (23 + 17 * u + (10 + w (23 + 17 * u + 7))) (by omega), ← hDb _ (by omega), ← hDb _ (by omega), hb, hb, if_neg (by omega), if_neg (by omega)]
  by_cases qg : 13 ≤ j ∧ j ≤ 22
  · rw [XWt_cg hDb j (by omega), hmd]
    unfold mW3
    split
    · rfl
    · rw [upi_n q10]
  · rw [XWt_fr hb5 hbg j (by omega), hb, if_neg q10, ha]
    by_cases q5 : j = 23 + 17 * u + 5
    · rw [if_pos q5, q5, m5]
    · rw [if_neg q5]
      by_cases q9 : j = 23 + 17 * u + 9
      · rw [if_pos q9, q9, m9]
      · rw [if_neg q9]
        exact (m1 j ⟨q10, q12, by omega, n4, q5, q9, n15⟩).symm
/-! tallies -/
theorem tMany_sU (w : Int → Int) (g wr sz k : Int) : tMany w g wr sz k = sU k (fun u => if mCounts w g u wr sz then 1 else 0) := by
  unfold tMany sU
  refine fI_congr fun u a _ _ => ?_
  dsimp only
  split <;> omega
theorem tSum_sU (w : Int → Int) (g wr sz k : Int) : tSum w g wr sz k = sU k (fun u => if mCounts w g u wr sz then w (23 + 17 * u + 9) else 0) := by
  unfold tSum sU
  refine fI_congr fun u a _ _ => ?_
  dsimp only
  split <;> omega
theorem sU_cg {k : Int} {f f' : Int → Int} (h : ∀ u, 0 ≤ u → u < k → f' u = f u) : sU k f' = sU k f := by
  unfold sU
  refine fI_congr fun u a h0 h1 => ?_
  rw [h u h0 h1]
/-- one term changed -/
theorem sU_upd {n u : Int} {f f' : Int → Int} (hu : 0 ≤ u ∧ u < n) (h : ∀ j, 0 ≤ j → j < n → j ≠ u → f' j = f j) : sU n f' = sU n f + (f' u - f u) := by
  have key : ∀ k, 0 ≤ k → k ≤ n → sU k f' = sU k f + (if u < k then f' u - f u else 0) := by
    intro k h0 hk
    obtain ⟨m, rfl⟩ := Int.eq_ofNat_of_zero_le h0
    induction m with
    | zero => rw [if_neg (by omega)]; rfl
    | succ m ih =>
      rw [show ((m + 1 : Nat) : Int) = (m : Int) + 1 from rfl, sU_s (by omega), sU_s (by omega), ih (by omega) (by omega)]
      by_cases q : (m : Int) = u
      · rw [q, if_neg (by omega), if_pos (by omega)]; omega
      · rw [h m (by omega) (by omega) q]
        by_cases q2 : u < (m : Int)
        · rw [if_pos q2, if_pos (by omega)]; omega
        · rw [if_neg q2, if_neg (by omega)]; omega
  have := key n (by omega) (Int.le_refl _)
  rw [if_pos hu.2] at this
  exact this
def mxI (k : Int) (f : Int → Int) : Int := fI k (fun u a => if a < f u then f u else a) 0
theorem mxI_s {k : Int} {f : Int → Int} (hk : 0 ≤ k) : mxI (k + 1) f = if mxI k f < f k then f k else mxI k f := fI_s hk
theorem mxI_upd {n u : Int} {f f' : Int → Int} (hu : 0 ≤ u ∧ u < n) (h : ∀ j, 0 ≤ j → j < n → j ≠ u → f' j = f j) (h0 : f u = 0) (h1 : 0 ≤ f' u) : mxI n f' = if mxI n f < f' u then f' u else mxI n f := by
  have nn : ∀ k, 0 ≤ k → 0 ≤ mxI k f := fun k hk => by
    unfold mxI
    refine fI_ind (fun _ a => 0 ≤ a) (Int.le_refl _) (fun k a _ ha => ?_) k hk
    split <;> omega
  have key : ∀ k, 0 ≤ k → k ≤ n → mxI k f' = if u < k ∧ mxI k f < f' u then f' u else mxI k f := by
    intro k hk0 hk
    obtain ⟨m, rfl⟩ := Int.eq_ofNat_of_zero_le hk0
    induction m with
    | zero => rw [if_neg (by omega)]; rfl
    | succ m ih =>
      have n1 := nn m (by omega)
      rw [show ((m + 1 : Nat) : Int) = (m : Int) + 1 from rfl, mxI_s (by omega), mxI_s (by omega), ih (by omega) (by omega)]
      by_cases q : (m : Int) = u
      · rw [q] at n1 ⊢
        rw [if_neg (c := u < u ∧ mxI u f < f' u) (by omega), h0]
        by_cases q2 : mxI u f < f' u
        · rw [if_pos (c := mxI u f < f' u) q2, if_neg (c := mxI u f < 0) (by omega), if_pos ⟨by omega, q2⟩]
        · rw [if_neg (c := mxI u f < f' u) q2, if_neg (c := mxI u f < 0) (by omega), if_neg (fun z => q2 z.2)]
      · rw [h m (by omega) (by omega) q]
        generalize mxI (m : Int) f = b
        generalize f (m : Int) = y
        generalize f' u = v
        (repeat (any_goals split)) <;> omega
  have := key n (by omega) (Int.le_refl _)
  rw [this]
  by_cases q : mxI n f < f' u
  · rw [if_pos ⟨hu.2, q⟩, if_pos q]
  · rw [if_neg (fun z => q z.2), if_neg q]
theorem tMost_mxI {w : Int → Int} {g wr sz k : Int} (h : ∀ u, 0 ≤ u → u < k → mCounts w g u wr sz → 0 ≤ w (23 + 17 * u + 9)) : tMost w g wr sz k = mxI k (fun u => if mCounts w g u wr sz then w (23 + 17 * u + 9) else 0) := by
  by_cases hk : 0 ≤ k
  · unfold tMost mxI
    refine (fI_congrP (fun _ a => 0 ≤ a) (Int.le_refl _) (fun u a h0 h1 ha => ?_) hk)
    have := h u h0 h1
    dsimp only
    constructor
    · split
      · rfl
      · rw [if_neg (by omega)]
    · (repeat (any_goals split)) <;> omega
  · unfold tMost mxI
    rw [fI_neg (by omega), fI_neg (by omega)]
/-- the latest of those that count, when one dies later than all -/
theorem tLate_upd {w v : Int → Int} {g wr sz n u : Int} (hu : 0 ≤ u ∧ u < n) (hc : ∀ j, 0 ≤ j → j < n → j ≠ u → (mCounts v g j wr sz ↔ mCounts w g j wr sz)) (hn : ¬ mCounts w g u wr sz) (ho : ∀ j, 0 ≤ j → j < n → j ≠ u → v (23 + 17 * j + 15) = w (23 + 17 * j + 15) ∧ w (23 + 17 * j + 15) < v (23 + 17 * u + 15)) :
    tLate v g wr sz n = if mCounts v g u wr sz then u else tLate w g wr sz n := by
  have rg : ∀ k, 0 ≤ k → -1 ≤ tLate w g wr sz k ∧ tLate w g wr sz k < k ∨ tLate w g wr sz k = -1 := fun k hk => by
    unfold tLate
    refine fI_ind (fun k a => -1 ≤ a ∧ a < k ∨ a = -1) (Or.inr rfl) (fun k a _ ha => ?_) k hk
    (repeat (any_goals split)) <;> omega
  have nu : ∀ k, 0 ≤ k → tLate w g wr sz k ≠ u := fun k hk => by
    unfold tLate
    refine fI_ind (fun k a => a ≠ u) (by omega) (fun k a h0 ha => ?_) k hk
    split
    · rename_i q
      split
      · intro z
        rw [z] at q
        exact hn q
      · exact ha
    · exact ha
  have key : ∀ k, 0 ≤ k → k ≤ n → tLate v g wr sz k = if u < k ∧ mCounts v g u wr sz then u else tLate w g wr sz k := by
    intro k hk0 hk
    obtain ⟨m, rfl⟩ := Int.eq_ofNat_of_zero_le hk0
    induction m with
    | zero => rw [if_neg (by omega)]; rfl
    | succ m ih =>
      have r := rg m (by omega)
      have r2 := nu m (by omega)
      rw [show ((m + 1 : Nat) : Int) = (m : Int) + 1 from rfl, tLate_s (by omega), tLate_s (by omega), ih (by omega) (by omega)]
      by_cases q : (m : Int) = u
      · rw [q] at r r2 ⊢
        rw [if_neg (c := u < u ∧ _) (by omega), if_neg hn]
        by_cases qc : mCounts v g u wr sz
        · rw [if_pos qc, if_pos (c := u < u + 1 ∧ _) ⟨by omega, qc⟩]
          by_cases q1 : tLate w g wr sz u = -1
          · rw [if_pos (Or.inl q1)]
          · have := ho (tLate w g wr sz u) (by omega) (by omega) r2
            rw [if_pos (Or.inr (by omega))]
        · rw [if_neg qc, if_neg (fun z => qc z.2)]
      · by_cases qm : mCounts w g m wr sz
        · rw [if_pos qm, if_pos ((hc m (by omega) (by omega) q).mpr qm)]
          have om := ho m (by omega) (by omega) q
          by_cases qu : u < (m : Int) ∧ mCounts v g u wr sz
          · rw [if_pos qu, if_neg (c := u = -1 ∨ _) (by omega), if_pos ⟨by omega, qu.2⟩]
          · rw [if_neg qu, if_neg (c := u < (m : Int) + 1 ∧ _) (fun z => qu ⟨by omega, z.2⟩)]
            by_cases q1 : tLate w g wr sz m = -1
            · rw [if_pos (Or.inl q1), if_pos (Or.inl q1)]
            · have ol := ho (tLate w g wr sz m) (by omega) (by omega) r2
              exact ite_iff (by omega) _ _
        · rw [if_neg qm, if_neg (fun z => qm ((hc m (by omega) (by omega) q).mp z))]
          by_cases qu : u < (m : Int) ∧ mCounts v g u wr sz
          · rw [if_pos qu, if_pos ⟨by omega, qu.2⟩]
          · rw [if_neg qu, if_neg (fun z => qu ⟨by omega, z.2⟩)]
  have := key n (by omega) (Int.le_refl _)
  rw [this]
  by_cases q : mCounts v g u wr sz
  · rw [if_pos ⟨hu.2, q⟩, if_pos q]
  · rw [if_neg (fun z => q z.2), if_neg q]
