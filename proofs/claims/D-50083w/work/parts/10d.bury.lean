/-! burials, days: what they do to a row (own) -/
set_option maxRecDepth 100000
theorem fI_noneP {f : Int → Int → Int} {P : Int → Prop} (h : ∀ k a, 0 ≤ k → (f k a = a ∨ P (f k a))) (s : Int) : ∀ k, 0 ≤ k → fI k f s = s ∨ P (fI k f s) := by
  refine fI_ind (fun (_ : Int) (a : Int) => a = s ∨ P a) (Or.inl rfl) (fun k a h0 ha => ?_)
  rcases h k a h0 with e | e
  · rw [e]; exact ha
  · exact Or.inr e
theorem mZoneFor_el {w : Int → Int} {win size but : Int} (h0 : 0 ≤ w 0) (hn : mZoneFor w win size but ≠ -1) : (0 ≤ mZoneFor w win size but ∧ mZoneFor w win size but < w 0) ∧ zEl w size but (mZoneFor w win size but) := by
  refine ⟨by have := mZoneFor_r (w := w) (win := win) (size := size) (but := but) h0; omega, ?_⟩
  have a1 : zEx w win size but (w 0) = -1 ∨ zEl w size but (zEx w win size but (w 0)) := fI_noneP (f := fun z a => if a = -1 ∧ zEl w size but z ∧ w (1706 + 13 * z + 0) = win then z else a) (fun k a _ => by
    by_cases e : a = -1 ∧ zEl w size but k ∧ w (1706 + 13 * k + 0) = win
    · simp only [if_pos e]; exact Or.inr e.2.1
    · simp only [if_neg e]; exact Or.inl trivial) (-1) (w 0) h0
  have a2 : zFree w size but (w 0) = -1 ∨ zEl w size but (zFree w size but (w 0)) := fI_noneP (f := fun z a => if a = -1 ∧ zEl w size but z ∧ w (1706 + 13 * z + 0) = -1 then z else a) (fun k a _ => by
    by_cases e : a = -1 ∧ zEl w size but k ∧ w (1706 + 13 * k + 0) = -1
    · simp only [if_pos e]; exact Or.inr e.2.1
    · simp only [if_neg e]; exact Or.inl trivial) (-1) (w 0) h0
  have a3 : zNear w win size but (w 0) = -1 ∨ zEl w size but (zNear w win size but (w 0)) := fI_noneP (f := fun z a => if zEl w size but z ∧ w (1706 + 13 * z + 0) ≠ -1 ∧ (a = -1 ∨ mApart w z win < mApart w a win ∨ mApart w z win = mApart w a win ∧ w (1706 + 13 * z + 0) < w (1706 + 13 * a + 0)) then z else a) (fun k a _ => by
    by_cases e : zEl w size but k ∧ w (1706 + 13 * k + 0) ≠ -1 ∧ (a = -1 ∨ mApart w k win < mApart w a win ∨ mApart w k win = mApart w a win ∧ w (1706 + 13 * k + 0) < w (1706 + 13 * a + 0))
    · simp only [if_pos e]; exact Or.inr e.1
    · simp only [if_neg e]; exact Or.inl trivial) (-1) (w 0) h0
  unfold mZoneFor at hn ⊢
  split
  · rename_i q; exact a1.resolve_left q
  · rename_i q
    rw [if_neg q] at hn
    split
    · rename_i q2; exact a2.resolve_left q2
    · rename_i q2
      rw [if_neg q2] at hn
      exact a3.resolve_left hn
def mBurStep (w as : Int → Int) (ld z u : Int) : Option (Int → Int) :=
  let d := w (23 + 17 * u + 3) + mLed w as ld (w (23 + 17 * u + 0)) (w (23 + 17 * u + 1)) (w (23 + 17 * u + 16))
  let w1 := upi w (23 + 17 * u + 6) (if w 6 < d then d else w 6 + 1)
  let win := (w1 (23 + 17 * u + 6)).tdiv (w1 2)
  let to := mZoneFor w1 win (w1 (23 + 17 * u + 1)) z
  if to = -1 then none else
  let w2 := mPuts w1 u to win
  let w3 := upi w2 (23 + 17 * u + 8) (w2 (23 + 17 * u + 8) + 1)
  some (upi w3 8 (w3 8 + 1))
def mBurF (as : Int → Int) (ld z u : Int) (r : Option (Int → Int)) : Option (Int → Int) := match r with
  | none => none
  | some w => if w (23 + 17 * u + 4) = 1 ∧ w (23 + 17 * u + 5) = z then mBurStep w as ld z u else some w
def mBurL (w as : Int → Int) (ld z k : Int) : Option (Int → Int) := fI k (mBurF as ld z) (some w)
theorem mBurL_s {w as : Int → Int} {ld z k : Int} (hk : 0 ≤ k) : mBurL w as ld z (k + 1) = mBurF as ld z k (mBurL w as ld z k) := fI_s hk
def mBuries (w as : Int → Int) (way z : Int) : Option (Int → Int) := match mBurL w as (mLeader w way) z (w 7) with
  | none => none
  | some w' => some (mResets w' z)
theorem mBurStep_ok {w as w' : Int → Int} {ld z u c : Int} (h : ROK w c) (hu : 0 ≤ u ∧ u < w 7) (hl : w (23 + 17 * u + 4) = 1) (hc : c + 1 ≤ 14000000) (e : mBurStep w as ld z u = some w') :
    ROK w' (c + 1) ∧ (∀ i, (i < 1706 ∧ i ≠ 8 ∧ i ≠ 23 + 17 * u + 5 ∧ i ≠ 23 + 17 * u + 6 ∧ i ≠ 23 + 17 * u + 8) ∨ 1862 ≤ i → w' i = w i) ∧ w' (23 + 17 * u + 5) ≠ z := by
  dsimp only [mBurStep] at e
  have hled := mLed_r w as ld (w (23 + 17 * u + 0)) (w (23 + 17 * u + 1)) (w (23 + 17 * u + 16))
  have hwt := h.uWt u hu
  have h6 := h.s6
  have h7 := h.s7
  have h0 := h.s0
  have h1' := h.s1
  have h2 := h.s2
  have hsz := h.uSz u hu
  have h8 := h.s8
  have hmv := h.uMv u hu
  have hc0 := h.c0
  generalize hd : w (23 + 17 * u + 3) + mLed w as ld (w (23 + 17 * u + 0)) (w (23 + 17 * u + 1)) (w (23 + 17 * u + 16)) = d at e
  generalize hg : (if w 6 < d then d else w 6 + 1) = g at e
  have hgr : 0 ≤ g ∧ g ≤ c + 1 + 200 := by
    rw [← hg]
    split <;> omega
  have h1 := guess_ok h hu hgr (show c ≤ c + 1 by omega) hc
  have fr1 := @guess_fr w u g
  have v1 := upi_s w (23 + 17 * u + 6) g
  generalize upi w (23 + 17 * u + 6) g = w1 at e h1 fr1 v1
  rw [v1, fr1 2 (by omega), fr1 _ (by omega)] at e
  have hwr := tdiv_rng (a := g) (b := w 2) hgr.1 (by omega)
  generalize hwin : g.tdiv (w 2) = win at e hwr
  have f7 := fr1 7 (by omega)
  have f0 := fr1 0 (by omega)
  have f2 := fr1 2 (by omega)
  have f4 := fr1 (23 + 17 * u + 4) (by omega)
  have f1 := fr1 (23 + 17 * u + 1) (by omega)
  by_cases hn : mZoneFor w1 win (w (23 + 17 * u + 1)) z = -1
  · rw [if_pos hn] at e
    cases e
  rw [if_neg hn] at e
  have hel := mZoneFor_el (by omega) hn
  generalize mZoneFor w1 win (w (23 + 17 * u + 1)) z = to at e hel
  have hwin0 : 0 ≤ win * w 2 := Int.mul_nonneg hwr.1 (by omega)
  have hp := mPuts_ok (win := win) h1 (u := u) (z := to) (by omega) (by omega) hel.1 (by rw [f1]; exact hel.2.2) ⟨hwr.1, by omega, by rw [f2]; exact hwin0, by rw [f2]; omega⟩
  have hm := h1.zM to (by omega)
  have hf := h1.zF to (by omega)
  have h1s := h1.s1
  obtain ⟨fr2, -, -, -, -, v5⟩ := mPuts_inv (w := w1) (u := u) (z := to) (win := win) (by omega) (by omega) (by omega)
  generalize mPuts w1 u to win = w2 at e hp fr2 v5
  cases e
  have g7 := fr2 7 (by omega)
  have g8 := fr2 8 (by omega)
  have g9 := fr2 (23 + 17 * u + 8) (by omega)
  have k8 := fr1 8 (by omega)
  have k9 := fr1 (23 + 17 * u + 8) (by omega)
  refine ⟨moved_ok hp (by omega) (by omega) (by omega), fun i hi => ?_, ?_⟩
  · rw [moved_fr i (by omega), fr2 i (by omega), fr1 i (by omega)]
  · rw [moved_fr _ (by omega), v5]
    exact hel.2.1
theorem mBurL_inv {w as : Int → Int} {ld z c : Int} (h : ROK w c) (hc : c + 99 ≤ 14000000) : ∀ k, 0 ≤ k → k ≤ w 7 → ∀ w', mBurL w as ld z k = some w' → ROK w' (c + k) ∧ (∀ i, (i < 1706 ∧ i ≠ 8 ∧ ∀ x, 0 ≤ x ∧ x < k → i ≠ 23 + 17 * x + 5 ∧ i ≠ 23 + 17 * x + 6 ∧ i ≠ 23 + 17 * x + 8) ∨ 1862 ≤ i → w' i = w i) := by
  unfold mBurL
  have h7 := h.s7
  refine fI_indb (m := w 7) (fun (k : Int) (r : Option (Int → Int)) => ∀ w', r = some w' → ROK w' (c + k) ∧ (∀ i, (i < 1706 ∧ i ≠ 8 ∧ ∀ x, 0 ≤ x ∧ x < k → i ≠ 23 + 17 * x + 5 ∧ i ≠ 23 + 17 * x + 6 ∧ i ≠ 23 + 17 * x + 8) ∨ 1862 ≤ i → w' i = w i)) (fun w' e => ?_) (fun k r h0 hk ih w' e => ?_)
  · cases e
    exact ⟨by rw [Int.add_zero]; exact h, fun _ _ => rfl⟩
  · cases r with
    | none => cases e
    | some v =>
      obtain ⟨a1, a2⟩ := ih v rfl
      have v7 : v 7 = w 7 := a2 7 (Or.inl ⟨by omega, by omega, fun x hx => by omega⟩)
      simp only [mBurF] at e
      by_cases q : v (23 + 17 * k + 4) = 1 ∧ v (23 + 17 * k + 5) = z
      · rw [if_pos q] at e
        obtain ⟨b1, b2, -⟩ := mBurStep_ok a1 (by omega) q.1 (by omega) e
        refine ⟨by rw [← Int.add_assoc]; exact b1, fun i hi => ?_⟩
        have hi2 : (i < 1706 ∧ i ≠ 8 ∧ i ≠ 23 + 17 * k + 5 ∧ i ≠ 23 + 17 * k + 6 ∧ i ≠ 23 + 17 * k + 8) ∨ 1862 ≤ i := by
          rcases hi with ⟨p1, p2, p3⟩ | p
          · have := p3 k (by omega)
            omega
          · exact Or.inr p
        rw [b2 i hi2]
        refine a2 i ?_
        rcases hi with ⟨p1, p2, p3⟩ | p
        · exact Or.inl ⟨p1, p2, fun x hx => p3 x (by omega)⟩
        · exact Or.inr p
      · rw [if_neg q] at e
        cases e
        refine ⟨a1.mono (by omega) (by omega), fun i hi => a2 i ?_⟩
        rcases hi with ⟨p1, p2, p3⟩ | p
        · exact Or.inl ⟨p1, p2, fun x hx => p3 x (by omega)⟩
        · exact Or.inr p
theorem liv_mono {w : Int → Int} {z a n : Int} (ha : 0 ≤ a) (hn : a ≤ n) : mLivIn w z a ≤ mLivIn w z n ∧ (mLivIn w z n ≤ mLivIn w z a → ∀ j, a ≤ j ∧ j < n → ¬ (w (23 + 17 * j + 4) = 1 ∧ w (23 + 17 * j + 5) = z)) := by
  obtain ⟨m, hm⟩ := Int.eq_ofNat_of_zero_le (show 0 ≤ n - a by omega)
  obtain rfl : n = a + (m : Int) := by omega
  clear hm hn
  induction m with
  | zero => exact ⟨by simp, fun _ j hj => by omega⟩
  | succ m ih =>
    have e : a + ((m + 1 : Nat) : Int) = (a + (m : Int)) + 1 := by omega
    rw [e, mLivIn_s (by omega)]
    split
    · rename_i q
      exact ⟨by omega, fun hle => by omega⟩
    · rename_i q
      refine ⟨ih.1, fun hle j hj => ?_⟩
      by_cases ej : j = a + (m : Int)
      · rw [ej]; exact q
      · exact ih.2 hle j (by omega)
theorem liv_same {w w' : Int → Int} {z a n : Int} (ha : 0 ≤ a) (hn : a ≤ n) (h : ∀ j, a ≤ j ∧ j < n → w' (23 + 17 * j + 4) = w (23 + 17 * j + 4) ∧ w' (23 + 17 * j + 5) = w (23 + 17 * j + 5)) : mLivIn w' z n - mLivIn w' z a = mLivIn w z n - mLivIn w z a := by
  obtain ⟨m, hm⟩ := Int.eq_ofNat_of_zero_le (show 0 ≤ n - a by omega)
  obtain rfl : n = a + (m : Int) := by omega
  clear hm hn
  induction m with
  | zero => simp
  | succ m ih =>
    have e : a + ((m + 1 : Nat) : Int) = (a + (m : Int)) + 1 := by omega
    have i1 := ih (fun j hj => h j (by omega))
    have i2 := h (a + (m : Int)) (by omega)
    rw [e, mLivIn_s (by omega), mLivIn_s (by omega), i2.1, i2.2]
    split <;> omega
theorem mBuries_inv {w as w' : Int → Int} {way z c : Int} (h : ROK w c) (hc : c + 100 ≤ 14000000) (hz : 0 ≤ z ∧ z ≤ 11) (e : mBuries w as way z = some w') : ROK w' (c + 100) ∧ (∀ i, (i < 1706 ∧ i ≠ 8 ∧ i ≠ 9 ∧ ∀ x, 0 ≤ x ∧ x < w 7 → i ≠ 23 + 17 * x + 5 ∧ i ≠ 23 + 17 * x + 6 ∧ i ≠ 23 + 17 * x + 8) ∨ 1862 ≤ i → w' i = w i) := by
  unfold mBuries at e
  have h7 := h.s7
  cases q : mBurL w as (mLeader w way) z (w 7) with
  | none => rw [q] at e; cases e
  | some v =>
    rw [q] at e
    cases e
    obtain ⟨a1, a2⟩ := mBurL_inv h (by omega) (w 7) (by omega) (Int.le_refl _) v q
    refine ⟨(mResets_ok a1 hz (by omega)).mono (by omega) (by omega), fun i hi => ?_⟩
    rw [mResets_fr i (by omega)]
    refine a2 i ?_
    rcases hi with ⟨p1, p2, p3, p4⟩ | p
    · exact Or.inl ⟨p1, p2, p4⟩
    · exact Or.inr p
theorem mLeader_6 {w : Int → Int} {way : Int} (q : mLeader w way = 6) : way = 6 := by
  unfold mLeader at q
  split at q
  · exact q
  · have := mBest_r w (k := 5) (by omega)
    omega
theorem mBurStep_none {w w1 as : Int → Int} {ld z u d : Int} (hd : d = w (23 + 17 * u + 3) + mLed w as ld (w (23 + 17 * u + 0)) (w (23 + 17 * u + 1)) (w (23 + 17 * u + 16))) (hw1 : w1 = upi w (23 + 17 * u + 6) (if w 6 < d then d else w 6 + 1)) (e : mZoneFor w1 ((w1 (23 + 17 * u + 6)).tdiv (w1 2)) (w1 (23 + 17 * u + 1)) z = -1) : mBurStep w as ld z u = none := by
  subst hw1
  subst hd
  exact if_pos e
theorem mBurStep_some {w w1 as : Int → Int} {ld z u d : Int} (hd : d = w (23 + 17 * u + 3) + mLed w as ld (w (23 + 17 * u + 0)) (w (23 + 17 * u + 1)) (w (23 + 17 * u + 16))) (hw1 : w1 = upi w (23 + 17 * u + 6) (if w 6 < d then d else w 6 + 1)) (e : mZoneFor w1 ((w1 (23 + 17 * u + 6)).tdiv (w1 2)) (w1 (23 + 17 * u + 1)) z ≠ -1) :
    mBurStep w as ld z u = some (upi (upi (mPuts w1 u (mZoneFor w1 ((w1 (23 + 17 * u + 6)).tdiv (w1 2)) (w1 (23 + 17 * u + 1)) z) ((w1 (23 + 17 * u + 6)).tdiv (w1 2))) (23 + 17 * u + 8) (mPuts w1 u (mZoneFor w1 ((w1 (23 + 17 * u + 6)).tdiv (w1 2)) (w1 (23 + 17 * u + 1)) z) ((w1 (23 + 17 * u + 6)).tdiv (w1 2)) (23 + 17 * u + 8) + 1)) 8 (upi (mPuts w1 u (mZoneFor w1 ((w1 (23 + 17 * u + 6)).tdiv (w1 2)) (w1 (23 + 17 * u + 1)) z) ((w1 (23 + 17 * u + 6)).tdiv (w1 2))) (23 + 17 * u + 8) (mPuts w1 u (mZoneFor w1 ((w1 (23 + 17 * u + 6)).tdiv (w1 2)) (w1 (23 + 17 * u + 1)) z) ((w1 (23 + 17 * u + 6)).tdiv (w1 2)) (23 + 17 * u + 8) + 1) 8 + 1)) := by
  subst hw1
  subst hd
  exact if_neg e
