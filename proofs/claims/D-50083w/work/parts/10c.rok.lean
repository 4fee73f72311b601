/-! rows stay in order (printed by gen/mkrok.py) -/
set_option maxRecDepth 100000
theorem ROK.mono {w : Int → Int} {c c' : Int} (h : ROK w c) (h1 : c ≤ c') (h2 : c' ≤ 14000000) : ROK w c' := by
  have hc0 := h.c0
  refine ⟨by omega, h.s0, h.s1, h.s2, h.s3, h.s4, h.s5, ?_, h.s7, ?_, ?_, ?_, h.s11, ?_, ?_, ?_, h.t, ?_, h.p, h.n, h.sup⟩
  · have := h.s6; omega
  · have := h.s8; omega
  · have := h.s9; omega
  · have := h.s10; omega
  · have := h.s12; omega
  · intro g hg; have := h.g g hg; omega
  · intro g hg; have := h.u g hg; omega
  · intro g hg; have := h.z g hg; omega
theorem mResets_fr {w : Int → Int} {z : Int} (i : Int) (h : i ≠ 9 ∧ i ≠ 1706 + 13 * z + 0 ∧ i ≠ 1706 + 13 * z + 1 ∧ i ≠ 1706 + 13 * z + 2 ∧ i ≠ 1706 + 13 * z + 3) : mResets w z i = w i := by
  dsimp only [mResets]
  rw [upi_n (by omega), upi_n (by omega), upi_n (by omega), upi_n (by omega), upi_n (by omega)]
theorem mResets_v {w : Int → Int} {z : Int} (hz : 0 ≤ z) : mResets w z 9 = w 9 + 1 ∧ mResets w z (1706 + 13 * z + 0) = -1 ∧ mResets w z (1706 + 13 * z + 1) = 0 ∧ mResets w z (1706 + 13 * z + 2) = w (1706 + 13 * z + 2) + 1 ∧ mResets w z (1706 + 13 * z + 3) = 0 := by
  dsimp only [mResets]
  refine ⟨?_, ?_, ?_, ?_, ?_⟩
  · rw [upi_s, upi_n (by omega), upi_n (by omega), upi_n (by omega), upi_n (by omega)]
  · rw [upi_n (by omega), upi_n (by omega), upi_n (by omega), upi_n (by omega), upi_s]
  · rw [upi_n (by omega), upi_n (by omega), upi_n (by omega), upi_s]
  · rw [upi_n (by omega), upi_s, upi_n (by omega), upi_n (by omega), upi_n (by omega)]
  · rw [upi_n (by omega), upi_n (by omega), upi_s]
theorem mResets_ok {w : Int → Int} {z c : Int} (h : ROK w c) (hz : 0 ≤ z ∧ z ≤ 11) (hc : c + 1 ≤ 14000000) : ROK (mResets w z) (c + 1) := by
  have fr := @mResets_fr w z
  have hv := mResets_v (w := w) hz.1
  have hc0 := h.c0
  have hs0 := h.s0
  have hs1 := h.s1
  have hs2 := h.s2
  have hs3 := h.s3
  have hs4 := h.s4
  have hs5 := h.s5
  have hs6 := h.s6
  have hs7 := h.s7
  have hs8 := h.s8
  have hs9 := h.s9
  have hs10 := h.s10
  have hs11 := h.s11
  have hs12 := h.s12
  have f7 : (mResets w z) 7 = w 7 := by exact fr 7 (by omega)
  have f0 : (mResets w z) 0 = w 0 := fr 0 (by omega)
  have f6 : (mResets w z) 6 = w 6 := by exact fr 6 (by omega)
  refine ⟨?_, ?_, ?_, ?_, ?_, ?_, ?_, ?_, ?_, ?_, ?_, ?_, ?_, ?_, ?_, ?_, ?_, ?_, ?_, ?_, ?_⟩
  · -- c0
    omega
  · -- s0
    rw [fr 0 (by omega)]
    omega
  · -- s1
    rw [fr 1 (by omega)]
    omega
  · -- s2
    rw [fr 2 (by omega)]
    omega
  · -- s3
    rw [fr 3 (by omega)]
    omega
  · -- s4
    rw [fr 4 (by omega)]
    omega
  · -- s5
    rw [fr 5 (by omega)]
    omega
  · -- s6
    rw [fr 6 (by omega)]
    omega
  · -- s7
    rw [fr 7 (by omega)]
    omega
  · -- s8
    rw [fr 8 (by omega)]
    omega
  · -- s9
    omega
  · -- s10
    rw [fr 10 (by omega)]
    omega
  · -- s11
    rw [fr 11 (by omega)]
    omega
  · -- s12
    rw [fr 12 (by omega)]
    omega
  · -- g
    exact fun g hg => by rw [fr (13 + g) (by omega), fr (18 + g) (by omega)]; have := h.g g hg; omega
  · -- u
    exact fun x hx => by rw [f7] at hx; rw [f0, f6]; have := h.u x hx; simp (disch := omega) only [fr]; omega
  · -- t
    exact fun x g hx hg => by rw [f7] at hx; rw [fr (23 + 17 * x + (10 + g)) (by omega)]; exact h.t x g hx hg
  · -- z
    intro x hx
    rw [f0]
    have hq := h.z x hx
    rw [fr 1 (by omega), fr 2 (by omega)]
    by_cases e : x = z
    · rw [e, hv.2.1, hv.2.2.1, hv.2.2.2.1, hv.2.2.2.2]
      rw [e] at hq
      omega
    · simp (disch := omega) only [fr]
      omega
  · -- p
    intro x k hx hk
    rw [f7]
    have hm := h.zM x hx
    have hf := h.zF x hx
    by_cases e : x = z
    · rw [e, hv.2.2.2.2] at hk
      omega
    · rw [fr (1706 + 13 * x + 3) (by omega)] at hk
      rw [fr (1706 + 13 * x + 4 + k) (by omega)]
      exact h.p x k hx hk
  · -- n
    exact fun x hx => by rw [f7] at hx; rw [fr (23 + 17 * x + 5) (by omega)]; exact h.n x hx
  · -- sup
    exact fun i hi => by rw [fr i (by omega)]; exact h.sup i hi
theorem mW1_inv {w : Int → Int} {u : Int} (h5 : 0 ≤ w 5 ∧ w 5 ≤ 90) (hw : ∀ g, 0 ≤ g ∧ g ≤ 4 → 1 ≤ w (13 + g) ∧ w (13 + g) ≤ 1000) : ∀ k, 0 ≤ k → k ≤ 5 →
    (∀ i, i < 13 ∨ 23 ≤ i → (fI k (mW1 u) (w, 1)).1 i = w i) ∧ (∀ g, 0 ≤ g ∧ g ≤ 4 → 1 ≤ (fI k (mW1 u) (w, 1)).1 (13 + g) ∧ (fI k (mW1 u) (w, 1)).1 (13 + g) ≤ 1000) ∧
    (∀ g, 0 ≤ g ∧ g ≤ 4 → w (18 + g) ≤ (fI k (mW1 u) (w, 1)).1 (18 + g) ∧ (fI k (mW1 u) (w, 1)).1 (18 + g) ≤ w (18 + g) + 20 ∧ (k ≤ g → (fI k (mW1 u) (w, 1)).1 (18 + g) = w (18 + g))) ∧
    (0 ≤ (fI k (mW1 u) (w, 1)).2 ∧ (fI k (mW1 u) (w, 1)).2 ≤ 1) ∧ ((fI k (mW1 u) (w, 1)).2 = 1 → ∀ g, 0 ≤ g ∧ g < k → (fI k (mW1 u) (w, 1)).1 (13 + g) < 500) := by
  refine fI_indb (m := 5) (fun (k : Int) (s : (Int → Int) × Int) => (∀ i, i < 13 ∨ 23 ≤ i → s.1 i = w i) ∧ (∀ g, 0 ≤ g ∧ g ≤ 4 → 1 ≤ s.1 (13 + g) ∧ s.1 (13 + g) ≤ 1000) ∧ (∀ g, 0 ≤ g ∧ g ≤ 4 → w (18 + g) ≤ s.1 (18 + g) ∧ s.1 (18 + g) ≤ w (18 + g) + 20 ∧ (k ≤ g → s.1 (18 + g) = w (18 + g))) ∧ (0 ≤ s.2 ∧ s.2 ≤ 1) ∧ (s.2 = 1 → ∀ g, 0 ≤ g ∧ g < k → s.1 (13 + g) < 500)) ⟨fun _ _ => rfl, hw, fun g hg => ⟨Int.le_refl _, by show w (18 + g) ≤ w (18 + g) + 20; omega, fun _ => rfl⟩, by omega, fun _ g hg => by omega⟩ (fun k s h0 hk5 h => ?_)
  obtain ⟨v, low⟩ := s
  obtain ⟨h1, h2, h3, h4, h6⟩ := h
  dsimp only at h1 h2 h3 h4 h6
  have hv5 := h1 5 (by omega)
  have hl := mLoss_r v u k
  have hr := wt_r (a := v (13 + k)) (b := v 5) (l := mLoss v u k) (h2 k (by omega)) (by omega) hl
  have hwt : ∀ x, x = (if mWt v u k < 1 then 1 else mWt v u k) → 1 ≤ x ∧ x ≤ 1000 := by
    intro x hx
    unfold mWt at hx
    split at hx <;> omega
  generalize hx : (if mWt v u k < 1 then 1 else mWt v u k) = x at hwt
  have hx1 := hwt x rfl
  have e : mW1 u k (v, low) = (upi (upi v (18 + k) (v (18 + k) + mLoss v u k)) (13 + k) x, if low = 1 ∧ x < 500 then 1 else 0) := mW1_ok hx.symm rfl
  rw [e]
  dsimp only
  refine ⟨fun i hi => by rw [upi_n (by omega), upi_n (by omega)]; exact h1 i hi, fun g hg => ?_, fun g hg => ?_, by split <;> omega, fun hq g hg => ?_⟩
  · by_cases e : g = k
    · rw [e, upi_s]; exact hx1
    · rw [upi_n (by omega), upi_n (by omega)]; exact h2 g hg
  · have h3g := h3 g hg
    rw [upi_n (by omega)]
    by_cases e : g = k
    · subst e
      rw [upi_s]
      have := h3g.2.2 (Int.le_refl _)
      omega
    · rw [upi_n (by omega)]
      refine ⟨h3g.1, h3g.2.1, fun q => h3g.2.2 (by omega)⟩
  · have hq1 : low = 1 ∧ x < 500 := by
      by_cases e : low = 1 ∧ x < 500
      · exact e
      · rw [if_neg e] at hq; omega
    by_cases e : g = k
    · rw [e, upi_s]; exact hq1.2
    · rw [upi_n (by omega), upi_n (by omega)]; exact h6 hq1.1 g (by omega)
theorem mW2_inv {w : Int → Int} : ∀ k, 0 ≤ k → k ≤ 5 → (∀ i, i < 13 ∨ 18 ≤ i → mW2 w k i = w i) ∧ (∀ g, 0 ≤ g ∧ g ≤ 4 → mW2 w k (13 + g) = if g < k then w (13 + g) * 2 else w (13 + g)) := by
  unfold mW2
  refine fI_indb (m := 5) (fun (k : Int) (v : Int → Int) => (∀ i, i < 13 ∨ 18 ≤ i → v i = w i) ∧ (∀ g, 0 ≤ g ∧ g ≤ 4 → v (13 + g) = if g < k then w (13 + g) * 2 else w (13 + g))) ⟨fun _ _ => rfl, fun g hg => (if_neg (by omega)).symm⟩ (fun k v h0 hk5 h => ?_)
  obtain ⟨h1, h2⟩ := h
  refine ⟨fun i hi => by rw [upi_n (by omega)]; exact h1 i hi, fun g hg => ?_⟩
  by_cases e : g = k
  · subst e
    rw [upi_s, h2 g hg, if_neg (by omega), if_pos (by omega)]
  · rw [upi_n (by omega), h2 g hg]
    split
    · rw [if_pos (by omega)]
    · rw [if_neg (by omega)]
theorem mWeighs_inv {w : Int → Int} {u : Int} (h5 : 0 ≤ w 5 ∧ w 5 ≤ 90) (hw : ∀ g, 0 ≤ g ∧ g ≤ 4 → 1 ≤ w (13 + g) ∧ w (13 + g) ≤ 1000) : (∀ i, i ≠ 10 ∧ (i < 13 ∨ 23 ≤ i) → mWeighs w u i = w i) ∧ (w 10 ≤ mWeighs w u 10 ∧ mWeighs w u 10 ≤ w 10 + 20) ∧
    (∀ g, 0 ≤ g ∧ g ≤ 4 → (1 ≤ mWeighs w u (13 + g) ∧ mWeighs w u (13 + g) ≤ 1000) ∧ (w (18 + g) ≤ mWeighs w u (18 + g) ∧ mWeighs w u (18 + g) ≤ w (18 + g) + 20)) := by
  have h := mW1_inv (u := u) h5 hw 5 (by omega) (by omega)
  unfold mWeighs
  generalize fI 5 (mW1 u) (w, 1) = s at h
  obtain ⟨v, low⟩ := s
  obtain ⟨h1, h2, h3, h4, h6⟩ := h
  dsimp only at h1 h2 h3 h4 h6 ⊢
  have h7 := mW2_inv (w := v) 5 (by omega) (by omega)
  have key : ∀ v2 : Int → Int, v2 = (if low = 1 then mW2 v 5 else v) → (∀ i, i < 13 ∨ 23 ≤ i → v2 i = w i) ∧ (∀ g, 0 ≤ g ∧ g ≤ 4 → (1 ≤ v2 (13 + g) ∧ v2 (13 + g) ≤ 1000) ∧ (w (18 + g) ≤ v2 (18 + g) ∧ v2 (18 + g) ≤ w (18 + g) + 20)) := by
    intro v2 e
    by_cases hl : low = 1
    · rw [if_pos hl] at e
      subst e
      refine ⟨fun i hi => by rw [h7.1 i (by omega)]; exact h1 i hi, fun g hg => ?_⟩
      have a1 := h7.2 g hg
      rw [if_pos (by omega)] at a1
      have a2 := h7.1 (18 + g) (by omega)
      have a3 := h2 g hg
      have a4 := h3 g hg
      have a5 := h6 hl g (by omega)
      omega
    · rw [if_neg hl] at e
      subst e
      refine ⟨h1, fun g hg => ?_⟩
      have a3 := h2 g hg
      have a4 := h3 g hg
      omega
  generalize hv : (if low = 1 then mW2 v 5 else v) = v2 at key
  obtain ⟨k1, k2⟩ := key v2 rfl
  unfold mW3
  have k10 := k1 10 (by omega)
  split
  · exact ⟨fun i hi => k1 i hi.2, by omega, k2⟩
  · have hl := mLoss_r v2 u (v2 (23 + 17 * u + 7))
    refine ⟨fun i hi => by rw [upi_n hi.1]; exact k1 i hi.2, by rw [upi_s]; omega, fun g hg => ?_⟩
    rw [upi_n (by omega), upi_n (by omega)]
    exact k2 g hg
theorem mDies_inv {w : Int → Int} {u : Int} (hu : 0 ≤ u) (h5 : 0 ≤ w 5 ∧ w 5 ≤ 90) (hw : ∀ g, 0 ≤ g ∧ g ≤ 4 → 1 ≤ w (13 + g) ∧ w (13 + g) ≤ 1000) :
    (∀ i, i ≠ 10 ∧ i ≠ 12 ∧ (i < 13 ∨ 23 ≤ i) ∧ i ≠ 23 + 17 * u + 4 ∧ i ≠ 23 + 17 * u + 5 ∧ i ≠ 23 + 17 * u + 9 ∧ i ≠ 23 + 17 * u + 15 → mDies w u i = w i) ∧ (w 10 ≤ mDies w u 10 ∧ mDies w u 10 ≤ w 10 + 20) ∧ mDies w u 12 = w 12 + 1 ∧
    (mDies w u (23 + 17 * u + 4) = 0 ∧ mDies w u (23 + 17 * u + 5) = -1 ∧ mDies w u (23 + 17 * u + 9) = w 6 - w (23 + 17 * u + 3) ∧ mDies w u (23 + 17 * u + 15) = w 12) ∧
    (∀ g, 0 ≤ g ∧ g ≤ 4 → (1 ≤ mDies w u (13 + g) ∧ mDies w u (13 + g) ≤ 1000) ∧ (w (18 + g) ≤ mDies w u (18 + g) ∧ mDies w u (18 + g) ≤ w (18 + g) + 20)) := by
  have fr : ∀ i, i ≠ 12 ∧ i ≠ 23 + 17 * u + 4 ∧ i ≠ 23 + 17 * u + 5 ∧ i ≠ 23 + 17 * u + 9 ∧ i ≠ 23 + 17 * u + 15 → mDies0 w u i = w i := fun i hi => by rw [mDies0_v hu, if_neg (by omega), if_neg (by omega), if_neg (by omega), if_neg (by omega), if_neg (by omega)]
  have e5 := fr 5 (by omega)
  obtain ⟨a1, a2, a3⟩ := mWeighs_inv (w := mDies0 w u) (u := u) (by omega) (fun g hg => by rw [fr (13 + g) (by omega)]; exact hw g hg)
  unfold mDies
  refine ⟨fun i hi => by rw [a1 i (by omega), fr i (by omega)], by rw [fr 10 (by omega)] at a2; exact a2, ?_, ⟨?_, ?_, ?_, ?_⟩, fun g hg => ?_⟩
  · rw [a1 12 (by omega), mDies0_v hu, if_pos rfl]
  · rw [a1 _ (by omega), mDies0_v hu, if_neg (by omega), if_neg (by omega), if_neg (by omega), if_neg (by omega), if_pos rfl]
  · rw [a1 _ (by omega), mDies0_v hu, if_neg (by omega), if_neg (by omega), if_neg (by omega), if_pos rfl]
  · rw [a1 _ (by omega), mDies0_v hu, if_neg (by omega), if_neg (by omega), if_pos rfl]
  · rw [a1 _ (by omega), mDies0_v hu, if_neg (by omega), if_pos rfl]
  · have := a3 g hg
    rw [fr (18 + g) (by omega)] at this
    exact this
theorem mDies_ok {w : Int → Int} {u c : Int} (h : ROK w c) (hu : 0 ≤ u ∧ u < w 7) (hc : c + 1 ≤ 14000000) : ROK (mDies w u) (c + 1) := by
  obtain ⟨fr, v10, v12, ⟨v4, v5, v9, v15⟩, vg⟩ := mDies_inv (w := w) (u := u) hu.1 h.s5 (fun g hg => (h.g g hg).1)
  have hc0 := h.c0
  have hs0 := h.s0
  have hs1 := h.s1
  have hs2 := h.s2
  have hs3 := h.s3
  have hs4 := h.s4
  have hs5 := h.s5
  have hs6 := h.s6
  have hs7 := h.s7
  have hs8 := h.s8
  have hs9 := h.s9
  have hs10 := h.s10
  have hs11 := h.s11
  have hs12 := h.s12
  have f7 : (mDies w u) 7 = w 7 := by exact fr 7 (by omega)
  have f0 : (mDies w u) 0 = w 0 := fr 0 (by omega)
  have f6 : (mDies w u) 6 = w 6 := by exact fr 6 (by omega)
  refine ⟨?_, ?_, ?_, ?_, ?_, ?_, ?_, ?_, ?_, ?_, ?_, ?_, ?_, ?_, ?_, ?_, ?_, ?_, ?_, ?_, ?_⟩
  · -- c0
    omega
  · -- s0
    rw [fr 0 (by omega)]
    omega
  · -- s1
    rw [fr 1 (by omega)]
    omega
  · -- s2
    rw [fr 2 (by omega)]
    omega
  · -- s3
    rw [fr 3 (by omega)]
    omega
  · -- s4
    rw [fr 4 (by omega)]
    omega
  · -- s5
    rw [fr 5 (by omega)]
    omega
  · -- s6
    rw [fr 6 (by omega)]
    omega
  · -- s7
    rw [fr 7 (by omega)]
    omega
  · -- s8
    rw [fr 8 (by omega)]
    omega
  · -- s9
    rw [fr 9 (by omega)]
    omega
  · -- s10
    omega
  · -- s11
    rw [fr 11 (by omega)]
    omega
  · -- s12
    omega
  · -- g
    intro g hg
    have a1 := vg g hg
    have a2 := h.g g hg
    omega
  · -- u
    intro x hx
    rw [f7] at hx
    rw [f0, f6]
    have hq := h.u x hx
    by_cases e : x = u
    · rw [e] at hq ⊢
      rw [v4, v5, v9, v15]
      simp (disch := omega) only [fr]
      refine ⟨by omega, by omega, by omega, by omega, by omega, by omega, fun q => by omega, fun q => ⟨trivial, by omega⟩, by omega, by omega, by omega, by omega, by omega, by omega⟩
    · simp (disch := omega) only [fr]
      omega
  · -- t
    exact fun x g hx hg => by rw [f7] at hx; rw [fr (23 + 17 * x + (10 + g)) (by omega)]; exact h.t x g hx hg
  · -- z
    exact fun x hx => by rw [f0]; have := h.z x hx; simp (disch := omega) only [fr]; omega
  · -- p
    exact fun x k hx hk => by rw [f7]; have hm := h.zM x hx; have hf := h.zF x hx; rw [fr (1706 + 13 * x + 3) (by omega)] at hk; rw [fr (1706 + 13 * x + 4 + k) (by omega)]; exact h.p x k hx hk
  · -- n
    exact fun x hx => by rw [f7] at hx; rw [fr (23 + 17 * x + 5) (by omega)]; exact h.n x hx
  · -- sup
    exact fun i hi => by rw [fr i (by omega)]; exact h.sup i hi
theorem mPuts_inv {w : Int → Int} {u z win : Int} (hu : 0 ≤ u ∧ u ≤ 98) (hz : 0 ≤ z ∧ z ≤ 11) (hm : 0 ≤ w (1706 + 13 * z + 3) ∧ w (1706 + 13 * z + 3) ≤ 8) :
    (∀ i, i ≠ 1706 + 13 * z + 0 ∧ i ≠ 1706 + 13 * z + 1 ∧ i ≠ 1706 + 13 * z + 3 ∧ i ≠ 1706 + 13 * z + 4 + w (1706 + 13 * z + 3) ∧ i ≠ 23 + 17 * u + 5 → mPuts w u z win i = w i) ∧
    mPuts w u z win (1706 + 13 * z + 0) = (if w (1706 + 13 * z + 0) = -1 then win else w (1706 + 13 * z + 0)) ∧ mPuts w u z win (1706 + 13 * z + 1) = w (1706 + 13 * z + 1) + w (23 + 17 * u + 1) ∧ mPuts w u z win (1706 + 13 * z + 3) = w (1706 + 13 * z + 3) + 1 ∧
    mPuts w u z win (1706 + 13 * z + 4 + w (1706 + 13 * z + 3)) = u ∧ mPuts w u z win (23 + 17 * u + 5) = z := by
  have e3 : upi (upi w (1706 + 13 * z + 0) (if w (1706 + 13 * z + 0) = -1 then win else w (1706 + 13 * z + 0))) (1706 + 13 * z + 1) (upi w (1706 + 13 * z + 0) (if w (1706 + 13 * z + 0) = -1 then win else w (1706 + 13 * z + 0)) (1706 + 13 * z + 1) + upi w (1706 + 13 * z + 0) (if w (1706 + 13 * z + 0) = -1 then win else w (1706 + 13 * z + 0)) (23 + 17 * u + 1)) (1706 + 13 * z + 3) = w (1706 + 13 * z + 3) := by
    rw [upi_n (by omega), upi_n (by omega)]
  dsimp only [mPuts]
  rw [e3]
  refine ⟨fun i hi => ?_, ?_, ?_, ?_, ?_, ?_⟩
  · rw [upi_n (by omega), upi_n (by omega), upi_n (by omega), upi_n (by omega), upi_n (by omega)]
  · rw [upi_n (by omega), upi_n (by omega), upi_n (by omega), upi_n (by omega), upi_s]
  · rw [upi_n (by omega), upi_n (by omega), upi_n (by omega), upi_s, upi_n (by omega), upi_n (by omega)]
  · rw [upi_n (by omega), upi_s, upi_n (by omega), e3]
  · rw [upi_n (by omega), upi_n (by omega), upi_s]
  · rw [upi_s]
theorem mPuts_ok {w : Int → Int} {u z win c : Int} (h : ROK w c) (hu : 0 ≤ u ∧ u < w 7) (hl : w (23 + 17 * u + 4) = 1) (hz : 0 ≤ z ∧ z < w 0) (hroom : w (23 + 17 * u + 1) ≤ w 1 - w (1706 + 13 * z + 1)) (hwin : 0 ≤ win ∧ win ≤ c + 200 ∧ 0 ≤ win * w 2 ∧ win * w 2 ≤ c + 200) : ROK (mPuts w u z win) (c) := by
  have hp7 := h.s7
  have hp1 := h.s1
  have hp0 := h.s0
  have hpu := h.uSz u hu
  have hpm := h.zM z (by omega)
  have hpf := h.zF z (by omega)
  have hpc := h.c0
  obtain ⟨fr, v0, v1, v3, vp, v5⟩ := mPuts_inv (w := w) (u := u) (z := z) (win := win) (by omega) (by omega) (by omega)
  have hc0 := h.c0
  have hs0 := h.s0
  have hs1 := h.s1
  have hs2 := h.s2
  have hs3 := h.s3
  have hs4 := h.s4
  have hs5 := h.s5
  have hs6 := h.s6
  have hs7 := h.s7
  have hs8 := h.s8
  have hs9 := h.s9
  have hs10 := h.s10
  have hs11 := h.s11
  have hs12 := h.s12
  have f7 : (mPuts w u z win) 7 = w 7 := by exact fr 7 (by omega)
  have f0 : (mPuts w u z win) 0 = w 0 := fr 0 (by omega)
  have f6 : (mPuts w u z win) 6 = w 6 := by exact fr 6 (by omega)
  refine ⟨?_, ?_, ?_, ?_, ?_, ?_, ?_, ?_, ?_, ?_, ?_, ?_, ?_, ?_, ?_, ?_, ?_, ?_, ?_, ?_, ?_⟩
  · -- c0
    omega
  · -- s0
    rw [fr 0 (by omega)]
    omega
  · -- s1
    rw [fr 1 (by omega)]
    omega
  · -- s2
    rw [fr 2 (by omega)]
    omega
  · -- s3
    rw [fr 3 (by omega)]
    omega
  · -- s4
    rw [fr 4 (by omega)]
    omega
  · -- s5
    rw [fr 5 (by omega)]
    omega
  · -- s6
    rw [fr 6 (by omega)]
    omega
  · -- s7
    rw [fr 7 (by omega)]
    omega
  · -- s8
    rw [fr 8 (by omega)]
    omega
  · -- s9
    rw [fr 9 (by omega)]
    omega
  · -- s10
    rw [fr 10 (by omega)]
    omega
  · -- s11
    rw [fr 11 (by omega)]
    omega
  · -- s12
    rw [fr 12 (by omega)]
    omega
  · -- g
    exact fun g hg => by rw [fr (13 + g) (by omega), fr (18 + g) (by omega)]; have := h.g g hg; omega
  · -- u
    intro x hx
    rw [f7] at hx
    rw [f0, f6]
    have hq := h.u x hx
    by_cases e : x = u
    · rw [e] at hq ⊢
      rw [v5]
      simp (disch := omega) only [fr]
      omega
    · simp (disch := omega) only [fr]
      omega
  · -- t
    exact fun x g hx hg => by rw [f7] at hx; rw [fr (23 + 17 * x + (10 + g)) (by omega)]; exact h.t x g hx hg
  · -- z
    intro x hx
    rw [f0]
    have hq := h.z x hx
    rw [fr 1 (by omega), fr 2 (by omega)]
    by_cases e : x = z
    · rw [e] at hq ⊢
      rw [v0, v1, v3, fr (1706 + 13 * z + 2) (by omega)]
      split <;> omega
    · simp (disch := omega) only [fr]
      omega
  · -- p
    intro x k hx hk
    rw [f7]
    have hm := h.zM x hx
    have hf := h.zF x hx
    by_cases e : x = z
    · rw [e, v3] at hk
      rw [e]
      by_cases ek : k = w (1706 + 13 * z + 3)
      · rw [ek, vp]
        exact hu
      · rw [fr (1706 + 13 * z + 4 + k) (by omega)]
        exact h.p z k (by omega) (by omega)
    · rw [fr (1706 + 13 * x + 3) (by omega)] at hk
      rw [fr (1706 + 13 * x + 4 + k) (by omega)]
      exact h.p x k hx hk
  · -- n
    exact fun x hx => by rw [f7] at hx; rw [fr (23 + 17 * x + 5) (by omega)]; exact h.n x hx
  · -- sup
    exact fun i hi => by rw [fr i (by omega)]; exact h.sup i hi
theorem guess_fr {w : Int → Int} {u g : Int} (i : Int) (h : i ≠ 23 + 17 * u + 6) : upi w (23 + 17 * u + 6) g i = w i := upi_n h
theorem moved_fr {w : Int → Int} {u : Int} (i : Int) (h : i ≠ 8 ∧ i ≠ 23 + 17 * u + 8) : upi (upi w (23 + 17 * u + 8) (w (23 + 17 * u + 8) + 1)) 8 (upi w (23 + 17 * u + 8) (w (23 + 17 * u + 8) + 1) 8 + 1) i = w i := by rw [upi_n h.1, upi_n h.2]
theorem guess_ok {w : Int → Int} {u g c c2 : Int} (h : ROK w c) (hu : 0 ≤ u ∧ u < w 7) (hg : 0 ≤ g ∧ g ≤ c2 + 200) (h2 : c ≤ c2) (hc : c2 ≤ 14000000) : ROK (upi w (23 + 17 * u + 6) g) (c2) := by
  have fr := @guess_fr w u g
  have v := upi_s w (23 + 17 * u + 6) g
  have hc0 := h.c0
  have hs0 := h.s0
  have hs1 := h.s1
  have hs2 := h.s2
  have hs3 := h.s3
  have hs4 := h.s4
  have hs5 := h.s5
  have hs6 := h.s6
  have hs7 := h.s7
  have hs8 := h.s8
  have hs9 := h.s9
  have hs10 := h.s10
  have hs11 := h.s11
  have hs12 := h.s12
  have f7 : (upi w (23 + 17 * u + 6) g) 7 = w 7 := by exact fr 7 (by omega)
  have f0 : (upi w (23 + 17 * u + 6) g) 0 = w 0 := fr 0 (by omega)
  have f6 : (upi w (23 + 17 * u + 6) g) 6 = w 6 := by exact fr 6 (by omega)
  refine ⟨?_, ?_, ?_, ?_, ?_, ?_, ?_, ?_, ?_, ?_, ?_, ?_, ?_, ?_, ?_, ?_, ?_, ?_, ?_, ?_, ?_⟩
  · -- c0
    omega
  · -- s0
    rw [fr 0 (by omega)]
    omega
  · -- s1
    rw [fr 1 (by omega)]
    omega
  · -- s2
    rw [fr 2 (by omega)]
    omega
  · -- s3
    rw [fr 3 (by omega)]
    omega
  · -- s4
    rw [fr 4 (by omega)]
    omega
  · -- s5
    rw [fr 5 (by omega)]
    omega
  · -- s6
    rw [fr 6 (by omega)]
    omega
  · -- s7
    rw [fr 7 (by omega)]
    omega
  · -- s8
    rw [fr 8 (by omega)]
    omega
  · -- s9
    rw [fr 9 (by omega)]
    omega
  · -- s10
    rw [fr 10 (by omega)]
    omega
  · -- s11
    rw [fr 11 (by omega)]
    omega
  · -- s12
    rw [fr 12 (by omega)]
    omega
  · -- g
    exact fun g hg => by rw [fr (13 + g) (by omega), fr (18 + g) (by omega)]; have := h.g g hg; omega
  · -- u
    intro x hx
    rw [f7] at hx
    rw [f0, f6]
    have hq := h.u x hx
    by_cases e : x = u
    · rw [e] at hq ⊢
      rw [v]
      simp (disch := omega) only [fr]
      omega
    · simp (disch := omega) only [fr]
      omega
  · -- t
    exact fun x g hx hg => by rw [f7] at hx; rw [fr (23 + 17 * x + (10 + g)) (by omega)]; exact h.t x g hx hg
  · -- z
    exact fun x hx => by rw [f0]; have := h.z x hx; simp (disch := omega) only [fr]; omega
  · -- p
    exact fun x k hx hk => by rw [f7]; have hm := h.zM x hx; have hf := h.zF x hx; rw [fr (1706 + 13 * x + 3) (by omega)] at hk; rw [fr (1706 + 13 * x + 4 + k) (by omega)]; exact h.p x k hx hk
  · -- n
    exact fun x hx => by rw [f7] at hx; rw [fr (23 + 17 * x + 5) (by omega)]; exact h.n x hx
  · -- sup
    exact fun i hi => by rw [fr i (by omega)]; exact h.sup i hi
theorem moved_ok {w : Int → Int} {u c : Int} (h : ROK w c) (hu : 0 ≤ u ∧ u < w 7) (h8 : w 8 + 1 ≤ c) (hm : w (23 + 17 * u + 8) + 1 ≤ c) : ROK (upi (upi w (23 + 17 * u + 8) (w (23 + 17 * u + 8) + 1)) 8 (upi w (23 + 17 * u + 8) (w (23 + 17 * u + 8) + 1) 8 + 1)) (c) := by
  have fr := @moved_fr w u
  have v8 : upi (upi w (23 + 17 * u + 8) (w (23 + 17 * u + 8) + 1)) 8 (upi w (23 + 17 * u + 8) (w (23 + 17 * u + 8) + 1) 8 + 1) 8 = w 8 + 1 := by rw [upi_s, upi_n (by omega)]
  have v := upi_s w (23 + 17 * u + 8) (w (23 + 17 * u + 8) + 1)
  rw [← upi_n (g := upi w (23 + 17 * u + 8) (w (23 + 17 * u + 8) + 1)) (i := 8) (x := upi w (23 + 17 * u + 8) (w (23 + 17 * u + 8) + 1) 8 + 1) (show 23 + 17 * u + 8 ≠ 8 by omega)] at v
  have hp8 := h.s8
  have hpm := h.uMv u hu
  have hc0 := h.c0
  have hs0 := h.s0
  have hs1 := h.s1
  have hs2 := h.s2
  have hs3 := h.s3
  have hs4 := h.s4
  have hs5 := h.s5
  have hs6 := h.s6
  have hs7 := h.s7
  have hs8 := h.s8
  have hs9 := h.s9
  have hs10 := h.s10
  have hs11 := h.s11
  have hs12 := h.s12
  have f7 : (upi (upi w (23 + 17 * u + 8) (w (23 + 17 * u + 8) + 1)) 8 (upi w (23 + 17 * u + 8) (w (23 + 17 * u + 8) + 1) 8 + 1)) 7 = w 7 := by exact fr 7 (by omega)
  have f0 : (upi (upi w (23 + 17 * u + 8) (w (23 + 17 * u + 8) + 1)) 8 (upi w (23 + 17 * u + 8) (w (23 + 17 * u + 8) + 1) 8 + 1)) 0 = w 0 := fr 0 (by omega)
  have f6 : (upi (upi w (23 + 17 * u + 8) (w (23 + 17 * u + 8) + 1)) 8 (upi w (23 + 17 * u + 8) (w (23 + 17 * u + 8) + 1) 8 + 1)) 6 = w 6 := by exact fr 6 (by omega)
  refine ⟨?_, ?_, ?_, ?_, ?_, ?_, ?_, ?_, ?_, ?_, ?_, ?_, ?_, ?_, ?_, ?_, ?_, ?_, ?_, ?_, ?_⟩
  · -- c0
    omega
  · -- s0
    rw [fr 0 (by omega)]
    omega
  · -- s1
    rw [fr 1 (by omega)]
    omega
  · -- s2
    rw [fr 2 (by omega)]
    omega
  · -- s3
    rw [fr 3 (by omega)]
    omega
  · -- s4
    rw [fr 4 (by omega)]
    omega
  · -- s5
    rw [fr 5 (by omega)]
    omega
  · -- s6
    rw [fr 6 (by omega)]
    omega
  · -- s7
    rw [fr 7 (by omega)]
    omega
  · -- s8
    rw [v8]
    omega
  · -- s9
    rw [fr 9 (by omega)]
    omega
  · -- s10
    rw [fr 10 (by omega)]
    omega
  · -- s11
    rw [fr 11 (by omega)]
    omega
  · -- s12
    rw [fr 12 (by omega)]
    omega
  · -- g
    exact fun g hg => by rw [fr (13 + g) (by omega), fr (18 + g) (by omega)]; have := h.g g hg; omega
  · -- u
    intro x hx
    rw [f7] at hx
    rw [f0, f6]
    have hq := h.u x hx
    by_cases e : x = u
    · rw [e] at hq ⊢
      rw [v]
      simp (disch := omega) only [fr]
      omega
    · simp (disch := omega) only [fr]
      omega
  · -- t
    exact fun x g hx hg => by rw [f7] at hx; rw [fr (23 + 17 * x + (10 + g)) (by omega)]; exact h.t x g hx hg
  · -- z
    exact fun x hx => by rw [f0]; have := h.z x hx; simp (disch := omega) only [fr]; omega
  · -- p
    exact fun x k hx hk => by rw [f7]; have hm := h.zM x hx; have hf := h.zF x hx; rw [fr (1706 + 13 * x + 3) (by omega)] at hk; rw [fr (1706 + 13 * x + 4 + k) (by omega)]; exact h.p x k hx hk
  · -- n
    exact fun x hx => by rw [f7] at hx; rw [fr (23 + 17 * x + 5) (by omega)]; exact h.n x hx
  · -- sup
    exact fun i hi => by rw [fr i (by omega)]; exact h.sup i hi
