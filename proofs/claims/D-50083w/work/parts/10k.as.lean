/-! but for the knower, what is laid aside does not matter (own) -/
set_option maxRecDepth 100000
theorem mLed_as {w as as' : Int → Int} {ld a b o : Int} (h : ld ≠ 6) : mLed w as ld a b o = mLed w as' ld a b o := by
  unfold mLed
  rw [if_neg h, if_neg h]
theorem mBurStep_as {w as as' : Int → Int} {ld z u : Int} (h : ld ≠ 6) : mBurStep w as ld z u = mBurStep w as' ld z u := by
  dsimp only [mBurStep]
  rw [mLed_as (as' := as') h]
theorem mBurF_as {as as' : Int → Int} {ld z : Int} (h : ld ≠ 6) : mBurF as ld z = mBurF as' ld z := by
  funext u r
  cases r with
  | none => rfl
  | some w => simp only [mBurF]; rw [mBurStep_as (as' := as') h]
theorem mBuries_as {w as as' : Int → Int} {way z : Int} (h : way ≠ 6) : mBuries w as way z = mBuries w as' way z := by
  unfold mBuries mBurL
  rw [mBurF_as (as' := as') (fun q => h (mLeader_6 q))]
theorem mDay_as {w as as' : Int → Int} {way : Int} (h : way ≠ 6) : mDay w as way = mDay w as' way := by
  have e : mDayZ1 as way = mDayZ1 as' way := by
    funext z v
    unfold mDayZ1
    rw [mBuries_as (as' := as') h]
  unfold mDay mDayZ
  rw [e]
theorem mDays_as {w as as' : Int → Int} {way k : Int} (h : way ≠ 6) : mDays w as way k = mDays w as' way k := by
  unfold mDays
  have e : (fun (_ : Int) v => mDay v as way) = (fun (_ : Int) v => mDay v as' way) := by
    funext _ v
    exact mDay_as h
  rw [e]
theorem mWhyWrite_as {w as as' : Int → Int} {way wr sz o : Int} (h : way ≠ 6) : mWhyWrite w as way wr sz o = mWhyWrite w as' way wr sz o := by
  unfold mWhyWrite
  rw [mLed_as (as' := as') (fun q => h (mLeader_6 q))]
theorem mWrites_as {w as as' : Int → Int} {way wr sz fa o : Int} (h : way ≠ 6) : mWrites w as way wr sz fa o = mWrites w as' way wr sz fa o := by
  dsimp only [mWrites]
  rw [mLed_as (as' := as') (fun q => h (mLeader_6 q))]
theorem cpy_at {a b : Int → Int} {i : Int} (h : 0 ≤ i ∧ i < 2462) : cpy a 0 b 0 i = a i := by
  unfold cpy
  rw [if_pos (by omega)]
  congr 1
  omega
theorem aPlace_r (k : Int) : 8 ≤ aPlace k ∧ aPlace k ≤ 12 := by
  unfold aPlace
  (repeat (any_goals split)) <;> omega
/-- the next day on which one dies; -1 -/
def mNext (w : Int → Int) (k : Int) : Int := fI k (fun u n => if (w (23 + 17 * u + 4) = 1 ∧ 0 < w (23 + 17 * u + 2)) ∧ (n = -1 ∨ w (23 + 17 * u + 3) + w (23 + 17 * u + 2) < n) then w (23 + 17 * u + 3) + w (23 + 17 * u + 2) else n) (-1)
theorem mNext_s {w : Int → Int} {k : Int} (hk : 0 ≤ k) : mNext w (k + 1) = if (w (23 + 17 * k + 4) = 1 ∧ 0 < w (23 + 17 * k + 2)) ∧ (mNext w k = -1 ∨ w (23 + 17 * k + 3) + w (23 + 17 * k + 2) < mNext w k) then w (23 + 17 * k + 3) + w (23 + 17 * k + 2) else mNext w k := fI_s hk
