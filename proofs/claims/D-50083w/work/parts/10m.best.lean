/-! lives compared (own) -/
set_option maxRecDepth 100000
theorem mLives_left {A g : Int → Int} {way : Int} : ∀ k, 0 ≤ k → 0 ≤ (mLives A g way k).2.2 ∧ (mLives A g way k).2.2 ≤ k := by
  unfold mLives
  refine fI_ind (fun (k : Int) (s : LvS) => 0 ≤ s.2.2 ∧ s.2.2 ≤ k) (by dsimp only; omega) (fun k s h0 h => ?_)
  unfold lStep
  have key : ∀ n : Int, 0 ≤ s.2.2 + (if 0 < n then 1 else 0) ∧ s.2.2 + (if 0 < n then 1 else 0) ≤ k + 1 := fun n => by split <;> omega
  by_cases e0 : A (1862 + 4 * k) = 0
  · rw [if_pos e0]; exact key _
  rw [if_neg e0]
  by_cases e1 : A (1862 + 4 * k) = 1
  · rw [if_pos e1]; exact key _
  rw [if_neg e1]
  by_cases e2 : A (1862 + 4 * k) = 2
  · rw [if_pos e2]; exact key _
  rw [if_neg e2]
  by_cases e3 : A (1862 + 4 * k) = 3
  · rw [if_pos e3]; exact key _
  rw [if_neg e3]
  dsimp only
  omega
theorem mLz_left {A : Int → Int} {way : Int} (h : 0 ≤ A 11) : 0 ≤ (mLz A way).2.2 ∧ (mLz A way).2.2 ≤ A 11 := mLives_left (A 11) h
/-- less than nothing: the other took more -/
def mMore (A : Int → Int) (a b : Int) : Int :=
  if (mLz A b).1 8 - (mLz A a).1 8 = 0 then (if (mLz A b).1 9 - (mLz A a).1 9 = 0 then (mLz A b).2.2 - (mLz A a).2.2 else (mLz A b).1 9 - (mLz A a).1 9) else (mLz A b).1 8 - (mLz A a).1 8
def mBetter (A : Int → Int) (a b : Int) : Int := if 0 < mMore A a b then a else if mMore A a b < 0 then b else -1
/-- the guessers' lives compared one after the other: the best, its moves, resets, left out -/
def hStep (A : Int → Int) (g : Int) (s : Int × Int × Int × Int) : Int × Int × Int × Int :=
  if s.1 = -1 ∨ (mLz A g).1 8 < s.2.1 ∨ (mLz A g).1 8 = s.2.1 ∧ ((mLz A g).1 9 < s.2.2.1 ∨ (mLz A g).1 9 = s.2.2.1 ∧ (mLz A g).2.2 < s.2.2.2) then (g, (mLz A g).1 8, (mLz A g).1 9, (mLz A g).2.2) else s
def mHind (A : Int → Int) : Int := (fI 5 (hStep A) (-1, 0, 0, 0)).1
