/-! what is asked of a row, 2 (own) -/
set_option maxRecDepth 100000
def mLeast (w : Int → Int) (k : Int) : Int := fI k (fun g b => if w (18 + g) < b then w (18 + g) else b) (w 18)
theorem mLeast_s {w : Int → Int} {k : Int} (hk : 0 ≤ k) : mLeast w (k + 1) = if w (18 + k) < mLeast w k then w (18 + k) else mLeast w k := fI_s hk
theorem mLeast_1 (w : Int → Int) : mLeast w 1 = w 18 := by
  rw [show (1 : Int) = 0 + 1 from rfl, mLeast_s (by omega)]
  exact if_neg (by show ¬ w (18 + 0) < w 18; rw [show (18 : Int) + 0 = 18 from rfl]; omega)
def mExp (w : Int → Int) (a b k : Int) : Int := fI k (fun u n => if w (23 + 17 * u + 4) = 1 ∧ a ≤ w (23 + 17 * u + 6) ∧ w (23 + 17 * u + 6) ≤ b then n + 1 else n) 0
theorem mExp_s {w : Int → Int} {a b k : Int} (hk : 0 ≤ k) : mExp w a b (k + 1) = if w (23 + 17 * k + 4) = 1 ∧ a ≤ w (23 + 17 * k + 6) ∧ w (23 + 17 * k + 6) ≤ b then mExp w a b k + 1 else mExp w a b k := fI_s hk
def mBins (w : Int → Int) (g i k : Int) : Int := fI k (fun u n => if ¬ w (23 + 17 * u + 4) = 1 ∧ mBin (mLoss w u g) = i then n + 1 else n) 0
theorem mBins_s {w : Int → Int} {g i k : Int} (hk : 0 ≤ k) : mBins w g i (k + 1) = if ¬ w (23 + 17 * k + 4) = 1 ∧ mBin (mLoss w k g) = i then mBins w g i k + 1 else mBins w g i k := fI_s hk
theorem mBin_r (l : Int) : 0 ≤ mBin l ∧ mBin l ≤ 5 := by
  unfold mBin
  (repeat (any_goals split)) <;> omega
def aPlace (k : Int) : Int := if k = 0 then 8 else if k = 1 then 9 else if k = 2 then 12 else 10
theorem dies_back {w x : Int → Int} {u c : Int} (h : ROK w c) (hu : 0 ≤ u ∧ u < w 7) (hc : c + 1 ≤ 14000000) : cpy (cpy w 0 x 0) 0 (mDies w u) 0 = w := cpy_back h.sup (mDies_ok h hu hc).sup
