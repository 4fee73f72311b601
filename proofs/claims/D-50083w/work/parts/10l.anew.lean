/-! lived once more (own) -/
set_option maxRecDepth 100000
def lReason (w A : Int → Int) (way at' o : Int) : Int := if w 7 = 99 then 6 else mWhyWrite w A way (A (at' + 1)) (A (at' + 2)) o
def lHere (w A here : Int → Int) (way at' o : Int) : Int → Int := upi here o (if 0 < lReason w A way at' o then -1 else w 7)
def lWrite (w A : Int → Int) (way at' o : Int) : Int → Int := if lReason w A way at' o = 0 then mWrites w A way (A (at' + 1)) (A (at' + 2)) (A (at' + 3)) o else w
def lDieR (w : Int → Int) (u : Int) : Int := if u = -1 ∨ ¬ w (23 + 17 * u + 4) = 1 then 2 else 0
def lDieW (w : Int → Int) (u : Int) : Int → Int := if u = -1 ∨ ¬ w (23 + 17 * u + 4) = 1 then w else mDies w u
def lResetR (w : Int → Int) (z : Int) : Int := if w (1706 + 13 * z + 0) = -1 then 3 else if 0 < mLivIn w z (w 7) then 4 else 0
def lResetW (w : Int → Int) (z : Int) : Int → Int := if lResetR w z = 0 then mResets w z else w
def aTold (w : Int → Int) (left k : Int) : Int := if k = 0 then w 8 else if k = 1 then w 9 else if k = 2 then left else if k = 3 then mLivU w (w 7) else if k = 4 then w 10 else mFreeZ w (w 0)
theorem lReason_r (w A : Int → Int) (way at' o : Int) : 0 ≤ lReason w A way at' o ∧ lReason w A way at' o ≤ 6 := by
  unfold lReason
  split
  · omega
  · unfold mWhyWrite
    split <;> omega
/-- how many of the first k acts write -/
def wc (A : Int → Int) (k : Int) : Int := fI k (fun j n => if A (1862 + 4 * j) = 0 then n + 1 else n) 0
theorem wc_s {A : Int → Int} {k : Int} (hk : 0 ≤ k) : wc A (k + 1) = if A (1862 + 4 * k) = 0 then wc A k + 1 else wc A k := fI_s hk
theorem wc_mono {A : Int → Int} {a n : Int} (ha : 0 ≤ a) (hn : a ≤ n) : wc A a ≤ wc A n ∧ 0 ≤ wc A a := by
  have h0 : ∀ a, 0 ≤ a → 0 ≤ wc A a := by
    unfold wc
    exact fI_ind (fun _ n => 0 ≤ n) (by omega) (fun k n h0 h => by split <;> omega)
  refine ⟨?_, h0 a ha⟩
  obtain ⟨m, hm⟩ := Int.eq_ofNat_of_zero_le (show 0 ≤ n - a by omega)
  obtain rfl : n = a + (m : Int) := by omega
  clear hm hn
  induction m with
  | zero => simp
  | succ m ih =>
    rw [show a + ((m + 1 : Nat) : Int) = (a + (m : Int)) + 1 by omega, wc_s (by omega)]
    split <;> omega
/-- a history in order -/
def HOK (A : Int → Int) : Prop := (0 ≤ A 11 ∧ A 11 ≤ 150) ∧ (wc A (A 11) = A 7 ∧ A 7 ≤ 99) ∧ ∀ k, 0 ≤ k ∧ k < A 11 →
  (0 ≤ A (1862 + 4 * k) ∧ A (1862 + 4 * k) ≤ 4) ∧
  (A (1862 + 4 * k) = 0 → (0 ≤ A (1862 + 4 * k + 1) ∧ A (1862 + 4 * k + 1) ≤ 7) ∧ (1 ≤ A (1862 + 4 * k + 2) ∧ A (1862 + 4 * k + 2) ≤ 3) ∧ (0 ≤ A (1862 + 4 * k + 3) ∧ A (1862 + 4 * k + 3) ≤ 99)) ∧
  (A (1862 + 4 * k) = 1 → 0 ≤ A (1862 + 4 * k + 1) ∧ A (1862 + 4 * k + 1) < wc A k) ∧
  (A (1862 + 4 * k) = 2 ∨ A (1862 + 4 * k) = 3 → 0 ≤ A (1862 + 4 * k + 1) ∧ A (1862 + 4 * k + 1) ≤ 11) ∧
  (A (1862 + 4 * k) = 4 → 1 ≤ A (1862 + 4 * k + 1) ∧ A (1862 + 4 * k + 1) ≤ 60)
/-- the state of a life: the row, what the units are here, what was left out -/
abbrev LvS := (Int → Int) × (Int → Int) × Int
def lStep (A : Int → Int) (way k : Int) (s : LvS) : LvS :=
  if A (1862 + 4 * k) = 0 then (lWrite s.1 A way (1862 + 4 * k) (wc A k), lHere s.1 A s.2.1 way (1862 + 4 * k) (wc A k), s.2.2 + (if 0 < lReason s.1 A way (1862 + 4 * k) (wc A k) then 1 else 0))
  else if A (1862 + 4 * k) = 1 then (lDieW s.1 (s.2.1 (A (1862 + 4 * k + 1))), s.2.1, s.2.2 + (if 0 < lDieR s.1 (s.2.1 (A (1862 + 4 * k + 1))) then 1 else 0))
  else if A (1862 + 4 * k) = 2 then (lResetW s.1 (A (1862 + 4 * k + 1)), s.2.1, s.2.2 + (if 0 < lResetR s.1 (A (1862 + 4 * k + 1)) then 1 else 0))
  else if A (1862 + 4 * k) = 3 then (mBurialW s.1 A way (A (1862 + 4 * k + 1)), s.2.1, s.2.2 + (if 0 < mBurialR s.1 A way (A (1862 + 4 * k + 1)) then 1 else 0))
  else (mDays s.1 A way (A (1862 + 4 * k + 1)), s.2.1, s.2.2 + 0)
def mLives (A here : Int → Int) (way k : Int) : LvS := fI k (lStep A way) (mBegin A, here, 0)
theorem mLives_s {A here : Int → Int} {way k : Int} (hk : 0 ≤ k) : mLives A here way (k + 1) = lStep A way k (mLives A here way k) := fI_s hk
/-- a life in order -/
def LOK (A : Int → Int) (way k : Int) (s : LvS) : Prop := ROK s.1 (78000 * k) ∧ (∀ o, 0 ≤ o ∧ o < wc A k → -1 ≤ s.2.1 o ∧ s.2.1 o < s.1 7) ∧ (∀ u, 0 ≤ u ∧ u < s.1 7 → 0 ≤ s.1 (23 + 17 * u + 16) ∧ s.1 (23 + 17 * u + 16) < A 7)
theorem lWrite_ok {w A here : Int → Int} {way k c : Int} (h : ROK w c) (hway : 0 ≤ way ∧ way ≤ 6) (hA : HOK A) (hk : 0 ≤ k ∧ k < A 11) (ha : A (1862 + 4 * k) = 0) (hh : ∀ o, 0 ≤ o ∧ o < wc A k → -1 ≤ here o ∧ here o < w 7) (hu : ∀ u, 0 ≤ u ∧ u < w 7 → 0 ≤ w (23 + 17 * u + 16) ∧ w (23 + 17 * u + 16) < A 7) :
    ROK (lWrite w A way (1862 + 4 * k) (wc A k)) c ∧ (∀ o, 0 ≤ o ∧ o < wc A (k + 1) → -1 ≤ lHere w A here way (1862 + 4 * k) (wc A k) o ∧ lHere w A here way (1862 + 4 * k) (wc A k) o < lWrite w A way (1862 + 4 * k) (wc A k) 7) ∧ (∀ u, 0 ≤ u ∧ u < lWrite w A way (1862 + 4 * k) (wc A k) 7 → 0 ≤ lWrite w A way (1862 + 4 * k) (wc A k) (23 + 17 * u + 16) ∧ lWrite w A way (1862 + 4 * k) (wc A k) (23 + 17 * u + 16) < A 7) := by
  obtain ⟨a1, a2, a3⟩ := hA
  obtain ⟨b1, b2, -⟩ := a3 k hk
  have b2 := b2 ha
  have h7 := h.s7
  have w1 := wc_s (A := A) hk.1
  rw [if_pos ha] at w1
  have w2 := wc_mono (A := A) (a := k + 1) (n := A 11) (by omega) (by omega)
  have w3 := wc_mono (A := A) (a := k) (n := k) (by omega) (by omega)
  have hr := lReason_r w A way (1862 + 4 * k) (wc A k)
  unfold lWrite lHere
  by_cases e : lReason w A way (1862 + 4 * k) (wc A k) = 0
  · rw [if_pos e, if_neg (by omega)]
    have e2 := e
    unfold lReason at e2
    have h98 : w 7 ≤ 98 := by
      by_cases q : w 7 = 99
      · rw [if_pos q] at e2; omega
      · omega
    rw [if_neg (by omega)] at e2
    obtain ⟨c1, c2, c3, c4⟩ := mWrites_ok (fa := A (1862 + 4 * k + 3)) h hway h98 b2.1 b2.2.1 b2.2.2 (by omega) e2
    rw [c3]
    refine ⟨c1, fun o ho => ?_, fun u hu2 => ?_⟩
    · by_cases q : o = wc A k
      · rw [q, upi_s]; omega
      · rw [upi_n q]
        have := hh o (by omega)
        omega
    · by_cases q : u = w 7
      · rw [q, c4]; omega
      · rw [c2 _ (by omega)]
        exact hu u (by omega)
  · rw [if_neg e, if_pos (by omega)]
    refine ⟨h, fun o ho => ?_, hu⟩
    by_cases q : o = wc A k
    · rw [q, upi_s]; omega
    · rw [upi_n q]
      exact hh o (by omega)
/-- an act that writes nothing keeps a life in order -/
theorem LOK.other {A : Int → Int} {way k c' : Int} {s : LvS} {v : Int → Int} {n : Int} (h : LOK A way k s) (hk : 0 ≤ k) (ha : A (1862 + 4 * k) ≠ 0) (hv : ROK v c') (hc : c' ≤ 78000 * (k + 1)) (hm : 78000 * (k + 1) ≤ 14000000) (hK : KeepR s.1 v) : LOK A way (k + 1) (v, s.2.1, n) := by
  obtain ⟨h1, h2, h3⟩ := h
  have h7 := h1.s7
  have v7 := hK.1 7 (by omega)
  have w1 := wc_s (A := A) hk
  rw [if_neg ha] at w1
  refine ⟨hv.mono hc hm, fun o ho => ?_, fun u hu => ?_⟩
  · dsimp only
    rw [v7]
    exact h2 o (by omega)
  · dsimp only at hu ⊢
    have := (hK.2 u (by omega)).2.2.2.2.2
    rw [this]
    exact h3 u (by omega)
theorem LOK.KA {A : Int → Int} {way k ca : Int} {s : LvS} (h : LOK A way k s) (hA : ROK A ca) : KA A way ca s.1 := fun _ => ⟨hA, h.2.2⟩
theorem mLives_ok {A here : Int → Int} {way ca : Int} (hA : ROK A ca) (hway : 0 ≤ way ∧ way ≤ 6) (hH : HOK A) : ∀ k, 0 ≤ k → k ≤ A 11 → LOK A way k (mLives A here way k) := by
  have h150 := hH.1
  unfold mLives
  refine fI_indb (m := A 11) (fun (k : Int) (s : LvS) => LOK A way k s) ?_ (fun k s h0 hk h => ?_)
  · refine ⟨mBegin_ok hA (by omega), fun o ho => ?_, fun u hu => ?_⟩
    · have : wc A 0 = 0 := rfl
      omega
    · have e7 : mBegin A 7 = 0 := by
        unfold mBegin
        rw [if_neg (by omega), if_neg (by omega), if_neg (by omega)]
      dsimp only at hu
      omega
  · have hR := h.1
    have h7 := hR.s7
    have hs0 := hR.s0
    obtain ⟨b1, b2, b3, b4, b5⟩ := hH.2.2 k ⟨h0, hk⟩
    unfold lStep
    by_cases e0 : A (1862 + 4 * k) = 0
    · rw [if_pos e0]
      obtain ⟨c1, c2, c3⟩ := lWrite_ok (here := s.2.1) hR hway hH ⟨h0, hk⟩ e0 h.2.1 h.2.2
      exact ⟨c1.mono (by omega) (by omega), c2, c3⟩
    rw [if_neg e0]
    by_cases e1 : A (1862 + 4 * k) = 1
    · rw [if_pos e1]
      have hh := h.2.1 _ (b3 e1)
      unfold lDieW
      split
      · exact h.other h0 e0 hR (by omega) (by omega) KeepR.rf
      · exact h.other h0 e0 (mDies_ok hR (by omega) (by omega)) (by omega) (by omega) (mDies_keep hR (by omega))
    rw [if_neg e1]
    by_cases e2 : A (1862 + 4 * k) = 2
    · rw [if_pos e2]
      have hz := b4 (Or.inl e2)
      unfold lResetW
      split
      · exact h.other h0 e0 (mResets_ok hR hz (by omega)) (by omega) (by omega) (mResets_keep hz)
      · exact h.other h0 e0 hR (by omega) (by omega) KeepR.rf
    rw [if_neg e2]
    by_cases e3 : A (1862 + 4 * k) = 3
    · rw [if_pos e3]
      have hz := b4 (Or.inr e3)
      unfold mBurialW
      split
      · exact h.other h0 e0 hR (by omega) (by omega) KeepR.rf
      · cases q : mBuries s.1 A way (A (1862 + 4 * k + 1)) with
        | none => exact h.other h0 e0 hR (by omega) (by omega) KeepR.rf
        | some v => exact h.other h0 e0 (mBuries_inv hR (by omega) hz q).1 (by omega) (by omega) (mBuries_keep hR (by omega) hz q)
    rw [if_neg e3]
    have hd := b5 (by omega)
    obtain ⟨d1, d2⟩ := mDays_inv (as := A) (way := way) (m := A (1862 + 4 * k + 1)) hR (by omega) (A (1862 + 4 * k + 1)) (by omega) (Int.le_refl _)
    exact h.other h0 e0 d1 (by omega) (by omega) d2
theorem cpy_all {a b : Int → Int} (ha : Sup a) (hb : Sup b) : cpy a 0 b 0 = a := by
  funext i
  by_cases h : 0 ≤ i ∧ i < 2462
  · exact cpy_at h
  · unfold cpy
    rw [if_neg (by omega), hb i (by omega), ha i (by omega)]
/-- what the units were here before does not matter -/
theorem mLives_here {A g g' : Int → Int} {way : Int} (hH : HOK A) : ∀ k, 0 ≤ k → k ≤ A 11 → (mLives A g way k).1 = (mLives A g' way k).1 ∧ (mLives A g way k).2.2 = (mLives A g' way k).2.2 ∧ ∀ o, 0 ≤ o ∧ o < wc A k → (mLives A g way k).2.1 o = (mLives A g' way k).2.1 o := by
  intro k hk
  obtain ⟨n, rfl⟩ := Int.eq_ofNat_of_zero_le hk
  clear hk
  induction n with
  | zero =>
    intro _
    refine ⟨rfl, rfl, fun o ho => ?_⟩
    have : wc A ((0 : Nat) : Int) = 0 := rfl
    omega
  | succ n ih =>
    intro hn
    obtain ⟨i1, i2, i3⟩ := ih (by omega)
    rw [show ((n + 1 : Nat) : Int) = (n : Int) + 1 from rfl, mLives_s (by omega), mLives_s (by omega), wc_s (by omega)]
    obtain ⟨b1, b2, b3, b4, b5⟩ := hH.2.2 (n : Int) (by omega)
    generalize mLives A g way (n : Int) = s at i1 i2 i3
    generalize mLives A g' way (n : Int) = s' at i1 i2 i3
    obtain ⟨w, e, l⟩ := s
    obtain ⟨w', e', l'⟩ := s'
    dsimp only at i1 i2 i3
    subst i1
    subst i2
    unfold lStep
    dsimp only
    by_cases e0 : A (1862 + 4 * (n : Int)) = 0
    · rw [if_pos e0, if_pos e0, if_pos e0]
      refine ⟨rfl, rfl, fun o ho => ?_⟩
      dsimp only [lHere]
      by_cases q : o = wc A (n : Int)
      · rw [q, upi_s, upi_s]
      · rw [upi_n q, upi_n q]
        exact i3 o (by omega)
    rw [if_neg e0, if_neg e0, if_neg e0]
    by_cases e1 : A (1862 + 4 * (n : Int)) = 1
    · rw [if_pos e1, if_pos e1]
      have hx := i3 _ (b3 e1)
      refine ⟨?_, ?_, i3⟩
      · show lDieW w (e (A (1862 + 4 * (n : Int) + 1))) = lDieW w (e' (A (1862 + 4 * (n : Int) + 1)))
        rw [hx]
      · show l + (if 0 < lDieR w (e (A (1862 + 4 * (n : Int) + 1))) then 1 else 0) = l + (if 0 < lDieR w (e' (A (1862 + 4 * (n : Int) + 1))) then 1 else 0)
        simp only [hx]
    rw [if_neg e1, if_neg e1]
    by_cases e2 : A (1862 + 4 * (n : Int)) = 2
    · rw [if_pos e2, if_pos e2]
      exact ⟨rfl, rfl, i3⟩
    rw [if_neg e2, if_neg e2]
    by_cases e3 : A (1862 + 4 * (n : Int)) = 3
    · rw [if_pos e3, if_pos e3]
      exact ⟨rfl, rfl, i3⟩
    rw [if_neg e3, if_neg e3]
    exact ⟨rfl, rfl, i3⟩
/-- the row lived once more by a way, and what was left out -/
def mLz (A : Int → Int) (way : Int) : LvS := mLives A (fun _ => 0) way (A 11)
theorem mLz_ok {A : Int → Int} {way ca : Int} (hA : ROK A ca) (hway : 0 ≤ way ∧ way ≤ 6) (hH : HOK A) : ROK (mLz A way).1 (78000 * A 11) := (mLives_ok (here := fun _ => 0) hA hway hH (A 11) hH.1.1 (Int.le_refl _)).1
