/-! THE PLAIN MATHEMATICS of the store's row (own): rows are w : Int → Int, numbered as in the model -/
/-- f 0, f 1, .. f (k - 1), one after the other -/
def fI {σ : Type} (k : Int) (f : Int → σ → σ) (s : σ) : σ := Nat.rec (motive := fun _ => σ) s (fun i a => f (Int.ofNat i) a) k.toNat
theorem fI_0 {σ : Type} {f : Int → σ → σ} {s : σ} : fI 0 f s = s := rfl
theorem fI_s {σ : Type} {k : Int} {f : Int → σ → σ} {s : σ} (hk : 0 ≤ k) : fI (k + 1) f s = f k (fI k f s) := by
  obtain ⟨n, rfl⟩ := Int.eq_ofNat_of_zero_le hk
  rfl
theorem fI_neg {σ : Type} {k : Int} {f : Int → σ → σ} {s : σ} (hk : k ≤ 0) : fI k f s = s := by
  unfold fI
  rw [Int.toNat_of_nonpos hk]
  rfl
/-- an invariant -/
theorem fI_ind {σ : Type} {f : Int → σ → σ} {s : σ} (P : Int → σ → Prop) (h0 : P 0 s) (hs : ∀ k a, 0 ≤ k → P k a → P (k + 1) (f k a)) : ∀ k, 0 ≤ k → P k (fI k f s) := by
  intro k hk
  obtain ⟨n, rfl⟩ := Int.eq_ofNat_of_zero_le hk
  induction n with
  | zero => exact h0
  | succ n ih =>
    have := hs n _ (by omega) (ih (by omega))
    rw [show ((n + 1 : Nat) : Int) = (n : Int) + 1 from rfl, fI_s (by omega)]
    exact this
theorem fI_indb {σ : Type} {f : Int → σ → σ} {s : σ} {m : Int} (P : Int → σ → Prop) (h0 : P 0 s) (hs : ∀ k a, 0 ≤ k → k < m → P k a → P (k + 1) (f k a)) : ∀ k, 0 ≤ k → k ≤ m → P k (fI k f s) := by
  intro k hk hm
  obtain ⟨n, rfl⟩ := Int.eq_ofNat_of_zero_le hk
  induction n with
  | zero => exact h0
  | succ n ih =>
    have := hs n _ (by omega) (by omega) (ih (by omega) (by omega))
    rw [show ((n + 1 : Nat) : Int) = (n : Int) + 1 from rfl, fI_s (by omega)]
    exact this
/-- two loops alike -/
theorem fI_congr {σ : Type} {f g : Int → σ → σ} {s : σ} {m : Int} (e : ∀ k a, 0 ≤ k → k < m → f k a = g k a) : fI m f s = fI m g s := by
  by_cases hm : 0 ≤ m
  · exact fI_indb (m := m) (fun k a => a = fI k g s) rfl (fun k a h0 h1 h => by rw [fI_s h0, ← h]; exact e k a h0 h1) m hm (Int.le_refl _)
  · rw [fI_neg (by omega), fI_neg (by omega)]
/-- once it stands still it stays -/
theorem fI_stay {σ : Type} {f : Int → σ → σ} {s a : σ} {k m : Int} (hk : 0 ≤ k) (hm : k ≤ m) (h : fI k f s = a) (hs : ∀ j, k ≤ j → j < m → f j a = a) : fI m f s = a := by
  obtain ⟨n, hn⟩ := Int.eq_ofNat_of_zero_le (show 0 ≤ m - k by omega)
  have key : ∀ n : Nat, k + n ≤ m → fI (k + n) f s = a := by
    intro n
    induction n with
    | zero => intro _; rw [show k + ((0 : Nat) : Int) = k by omega]; exact h
    | succ n ih => intro hl; rw [show k + ((n + 1 : Nat) : Int) = (k + n) + 1 by omega, fI_s (by omega), ih (by omega)]; exact hs _ (by omega) (by omega)
  rw [show m = k + (n : Int) by omega]
  exact key n (by omega)
theorem tdiv_rng {a b : Int} (ha : 0 ≤ a) (hb : 1 ≤ b) : 0 ≤ a.tdiv b ∧ a.tdiv b ≤ a ∧ a.tdiv b * b ≤ a := by
  rw [Int.tdiv_eq_ediv_of_nonneg ha]
  refine ⟨Int.ediv_nonneg ha (by omega), Int.ediv_le_self _ ha, ?_⟩
  exact Int.ediv_mul_le _ (by omega)
/-- a stretch of 2462 copied -/
def cpy (a : Int → Int) (there : Int) (b : Int → Int) (here : Int) : Int → Int := fun i => if here ≤ i ∧ i < here + 2462 then a (i - here + there) else b i
def Sup (w : Int → Int) : Prop := ∀ i, i < 0 ∨ 2462 ≤ i → w i = 0
theorem cpy_back {a b c : Int → Int} (ha : Sup a) (hc : Sup c) : cpy (cpy a 0 b 0) 0 c 0 = a := by
  funext i
  unfold cpy
  by_cases h : 0 ≤ i ∧ i < 0 + 2462
  · rw [if_pos h, if_pos (by omega)]
    congr 1
    omega
  · rw [if_neg h, ha i (by omega), hc i (by omega)]
theorem Sup.up {w : Int → Int} (h : Sup w) {i x : Int} (hi : 0 ≤ i ∧ i < 2462) : Sup (upi w i x) := fun j hj => by rw [upi_n (by omega)]; exact h j hj
/-! guessers -/
def mBounded (l : Int) : Int := if l < 1 then 1 else if 99 < l then 99 else l
theorem mBounded_r (l : Int) : 1 ≤ mBounded l ∧ mBounded l ≤ 99 := by
  unfold mBounded
  split
  · omega
  · split <;> omega
def mLivIn (w : Int → Int) (z k : Int) : Int := fI k (fun u n => if w (23 + 17 * u + 4) = 1 ∧ w (23 + 17 * u + 5) = z then n + 1 else n) 0
theorem mLivIn_r (w : Int → Int) (z : Int) {k : Int} (hk : 0 ≤ k) : 0 ≤ mLivIn w z k ∧ mLivIn w z k ≤ k := by
  unfold mLivIn
  refine fI_ind (fun k n => 0 ≤ n ∧ n ≤ k) (by omega) (fun k n h0 h => ?_) k hk
  split <;> omega
abbrev mCounts (w : Int → Int) (g u wr sz : Int) : Prop := ¬ w (23 + 17 * u + 4) = 1 ∧ (g = 2 ∧ w (23 + 17 * u + 1) = sz ∨ g = 3 ∧ w (23 + 17 * u + 0) = wr ∧ w (23 + 17 * u + 1) = sz ∨ g ≠ 2 ∧ g ≠ 3 ∧ w (23 + 17 * u + 0) = wr)
def tMany (w : Int → Int) (g wr sz k : Int) : Int := fI k (fun u a => if mCounts w g u wr sz then a + 1 else a) 0
def tSum (w : Int → Int) (g wr sz k : Int) : Int := fI k (fun u a => if mCounts w g u wr sz then a + w (23 + 17 * u + 9) else a) 0
def tMost (w : Int → Int) (g wr sz k : Int) : Int := fI k (fun u a => if mCounts w g u wr sz then (if a < w (23 + 17 * u + 9) then w (23 + 17 * u + 9) else a) else a) 0
def tLate (w : Int → Int) (g wr sz k : Int) : Int := fI k (fun u a => if mCounts w g u wr sz then (if a = -1 ∨ w (23 + 17 * a + 15) < w (23 + 17 * u + 15) then u else a) else a) (-1)
def mTells (w : Int → Int) (g wr sz : Int) : Int :=
  if g ≤ 0 ∨ tMany w g wr sz (w 7) = 0 then mBounded (w 4)
  else mBounded (if g = 3 then w (23 + 17 * tLate w g wr sz (w 7) + 9) else if g = 4 then tMost w g wr sz (w 7) else (tSum w g wr sz (w 7)).tdiv (tMany w g wr sz (w 7)))
theorem mTells_r (w : Int → Int) (g wr sz : Int) : 1 ≤ mTells w g wr sz ∧ mTells w g wr sz ≤ 99 := by unfold mTells; split <;> exact mBounded_r _
def mBest (w : Int → Int) (k : Int) : Int := fI k (fun g b => if w (13 + b) < w (13 + g) then g else b) 0
def mLeader (w : Int → Int) (way : Int) : Int := if way ≠ 5 then way else mBest w 5
theorem mBest_r (w : Int → Int) {k : Int} (hk : 0 ≤ k) : 0 ≤ mBest w k ∧ mBest w k ≤ k ∧ mBest w k ≤ 4 ∨ 5 < k := by
  unfold mBest
  refine fI_ind (fun k b => 0 ≤ b ∧ b ≤ k ∧ b ≤ 4 ∨ 5 < k) (by omega) (fun k b h0 h => ?_) k hk
  split <;> omega
theorem mLeader_r {w : Int → Int} {way : Int} (h : 0 ≤ way ∧ way ≤ 6) : 0 ≤ mLeader w way ∧ mLeader w way ≤ 6 ∧ mLeader w way ≠ 5 := by
  unfold mLeader
  have := mBest_r w (k := 5) (by omega)
  split <;> omega
def mKnown (as : Int → Int) (o : Int) : Int := mBounded (if as (23 + 17 * o + 4) = 0 then as (23 + 17 * o + 9) else if as (23 + 17 * o + 2) = 0 then 99 else as (23 + 17 * o + 2))
def mLed (w as : Int → Int) (ld wr sz o : Int) : Int := if ld = 6 then mKnown as o else mTells w ld wr sz
theorem mLed_r (w as : Int → Int) (ld wr sz o : Int) : 1 ≤ mLed w as ld wr sz o ∧ mLed w as ld wr sz o ≤ 99 := by unfold mLed; split; exact mBounded_r _; exact mTells_r _ _ _ _
def mLossI (far : Int) : Int := if 20 < (if far < 0 then -far else far) then 20 else (if far < 0 then -far else far)
theorem mLossI_r (far : Int) : 0 ≤ mLossI far ∧ mLossI far ≤ 20 := by unfold mLossI; split <;> split <;> omega
def mLoss (w : Int → Int) (u g : Int) : Int := mLossI (w (23 + 17 * u + 9) - w (23 + 17 * u + (10 + g)))
theorem mLoss_r (w : Int → Int) (u g : Int) : 0 ≤ mLoss w u g ∧ mLoss w u g ≤ 20 := mLossI_r _
/-! deaths -/
/-- a guesser's loss and weight anew -/
def mWt (w : Int → Int) (u g : Int) : Int := (w (13 + g) * (2000 - w 5 * mLoss w u g)).tdiv 2000
def mW1 (u : Int) (g : Int) (s : (Int → Int) × Int) : (Int → Int) × Int :=
  (upi (upi s.1 (18 + g) (s.1 (18 + g) + mLoss s.1 u g)) (13 + g) (if mWt s.1 u g < 1 then 1 else mWt s.1 u g), if s.2 = 1 ∧ (if mWt s.1 u g < 1 then 1 else mWt s.1 u g) < 500 then 1 else 0)
def mW2 (w : Int → Int) (k : Int) : Int → Int := fI k (fun g w => upi w (13 + g) (w (13 + g) * 2)) w
def mW3 (w : Int → Int) (u : Int) : Int → Int := if w (23 + 17 * u + 7) = 6 then w else upi w 10 (w 10 + mLoss w u (w (23 + 17 * u + 7)))
def mWeighs (w : Int → Int) (u : Int) : Int → Int := mW3 (if (fI 5 (mW1 u) (w, 1)).2 = 1 then mW2 (fI 5 (mW1 u) (w, 1)).1 5 else (fI 5 (mW1 u) (w, 1)).1) u
def mDies0 (w : Int → Int) (u : Int) : Int → Int :=
  let a := upi (upi w (23 + 17 * u + 4) 0) (23 + 17 * u + 5) (-1)
  let b := upi a (23 + 17 * u + 9) (a 6 - a (23 + 17 * u + 3))
  let c := upi b (23 + 17 * u + 15) (b 12)
  upi c 12 (c 12 + 1)
def mDies (w : Int → Int) (u : Int) : Int → Int := mWeighs (mDies0 w u) u
/-! zones -/
def mApart (w : Int → Int) (z win : Int) : Int := if w (1706 + 13 * z + 0) - win < 0 then -(w (1706 + 13 * z + 0) - win) else w (1706 + 13 * z + 0) - win
abbrev zEl (w : Int → Int) (size but z : Int) : Prop := z ≠ but ∧ size ≤ w 1 - w (1706 + 13 * z + 1)
def zEx (w : Int → Int) (win size but k : Int) : Int := fI k (fun z a => if a = -1 ∧ zEl w size but z ∧ w (1706 + 13 * z + 0) = win then z else a) (-1)
def zFree (w : Int → Int) (size but k : Int) : Int := fI k (fun z a => if a = -1 ∧ zEl w size but z ∧ w (1706 + 13 * z + 0) = -1 then z else a) (-1)
def zNear (w : Int → Int) (win size but k : Int) : Int := fI k (fun z a => if zEl w size but z ∧ w (1706 + 13 * z + 0) ≠ -1 ∧ (a = -1 ∨ mApart w z win < mApart w a win ∨ mApart w z win = mApart w a win ∧ w (1706 + 13 * z + 0) < w (1706 + 13 * a + 0)) then z else a) (-1)
def mZoneFor (w : Int → Int) (win size but : Int) : Int := if zEx w win size but (w 0) ≠ -1 then zEx w win size but (w 0) else if zFree w size but (w 0) ≠ -1 then zFree w size but (w 0) else zNear w win size but (w 0)
def mPuts (w : Int → Int) (u z win : Int) : Int → Int :=
  let a := upi w (1706 + 13 * z + 0) (if w (1706 + 13 * z + 0) = -1 then win else w (1706 + 13 * z + 0))
  let b := upi a (1706 + 13 * z + 1) (a (1706 + 13 * z + 1) + a (23 + 17 * u + 1))
  let c := upi b (1706 + 13 * z + 4 + b (1706 + 13 * z + 3)) u
  let d := upi c (1706 + 13 * z + 3) (c (1706 + 13 * z + 3) + 1)
  upi d (23 + 17 * u + 5) z
def mResets (w : Int → Int) (z : Int) : Int → Int :=
  let a := upi (upi (upi w (1706 + 13 * z + 0) (-1)) (1706 + 13 * z + 1) 0) (1706 + 13 * z + 3) 0
  let b := upi a (1706 + 13 * z + 2) (a (1706 + 13 * z + 2) + 1)
  upi b 9 (b 9 + 1)
/-! the loops' steps -/
theorem mLivIn_0 (w : Int → Int) (z : Int) : mLivIn w z 0 = 0 := rfl
theorem mLivIn_s {w : Int → Int} {z k : Int} (hk : 0 ≤ k) : mLivIn w z (k + 1) = if w (23 + 17 * k + 4) = 1 ∧ w (23 + 17 * k + 5) = z then mLivIn w z k + 1 else mLivIn w z k := fI_s hk
theorem tMany_s {w : Int → Int} {g wr sz k : Int} (hk : 0 ≤ k) : tMany w g wr sz (k + 1) = if mCounts w g k wr sz then tMany w g wr sz k + 1 else tMany w g wr sz k := fI_s hk
theorem tSum_s {w : Int → Int} {g wr sz k : Int} (hk : 0 ≤ k) : tSum w g wr sz (k + 1) = if mCounts w g k wr sz then tSum w g wr sz k + w (23 + 17 * k + 9) else tSum w g wr sz k := fI_s hk
theorem tMost_s {w : Int → Int} {g wr sz k : Int} (hk : 0 ≤ k) : tMost w g wr sz (k + 1) = if mCounts w g k wr sz then (if tMost w g wr sz k < w (23 + 17 * k + 9) then w (23 + 17 * k + 9) else tMost w g wr sz k) else tMost w g wr sz k := fI_s hk
theorem tLate_s {w : Int → Int} {g wr sz k : Int} (hk : 0 ≤ k) : tLate w g wr sz (k + 1) = if mCounts w g k wr sz then (if tLate w g wr sz k = -1 ∨ w (23 + 17 * tLate w g wr sz k + 15) < w (23 + 17 * k + 15) then k else tLate w g wr sz k) else tLate w g wr sz k := fI_s hk
theorem mBest_s {w : Int → Int} {k : Int} (hk : 0 ≤ k) : mBest w (k + 1) = if w (13 + mBest w k) < w (13 + k) then k else mBest w k := fI_s hk
theorem mBest_1 (w : Int → Int) : mBest w 1 = 0 := by
  rw [show (1 : Int) = 0 + 1 from rfl, mBest_s (by omega)]
  split
  · rename_i h
    exact absurd h (by have : mBest w 0 = 0 := rfl; rw [this]; omega)
  · rfl
theorem zEx_s {w : Int → Int} {win size but k : Int} (hk : 0 ≤ k) : zEx w win size but (k + 1) = if zEx w win size but k = -1 ∧ zEl w size but k ∧ w (1706 + 13 * k + 0) = win then k else zEx w win size but k := fI_s hk
theorem zFree_s {w : Int → Int} {size but k : Int} (hk : 0 ≤ k) : zFree w size but (k + 1) = if zFree w size but k = -1 ∧ zEl w size but k ∧ w (1706 + 13 * k + 0) = -1 then k else zFree w size but k := fI_s hk
theorem zNear_s {w : Int → Int} {win size but k : Int} (hk : 0 ≤ k) : zNear w win size but (k + 1) = if zEl w size but k ∧ w (1706 + 13 * k + 0) ≠ -1 ∧ (zNear w win size but k = -1 ∨ mApart w k win < mApart w (zNear w win size but k) win ∨ mApart w k win = mApart w (zNear w win size but k) win ∧ w (1706 + 13 * k + 0) < w (1706 + 13 * zNear w win size but k + 0)) then k else zNear w win size but k := fI_s hk
theorem mW2_s {w : Int → Int} {k : Int} (hk : 0 ≤ k) : mW2 w (k + 1) = upi (mW2 w k) (13 + k) (mW2 w k (13 + k) * 2) := fI_s hk
/-- a sum or a count over the units -/
def sU (k : Int) (f : Int → Int) : Int := fI k (fun u n => n + f u) 0
theorem sU_s {k : Int} {f : Int → Int} (hk : 0 ≤ k) : sU (k + 1) f = sU k f + f k := fI_s hk
theorem sU_r {m : Int} {f : Int → Int} {a b : Int} (hf : ∀ k, 0 ≤ k → k < m → a ≤ f k ∧ f k ≤ b) {k : Int} (h0 : 0 ≤ k) (hk : k ≤ m) : a * k ≤ sU k f ∧ sU k f ≤ b * k := by
  refine fI_indb (m := m) (fun k n => a * k ≤ n ∧ n ≤ b * k) (by simp) (fun k n h0 h1 h => ?_) k h0 hk
  have := hf k h0 h1
  rw [Int.mul_add, Int.mul_add, Int.mul_one, Int.mul_one]
  omega
/-! ROWS IN ORDER: the ranges; c bounds all that grows -/
def ROK (w : Int → Int) (c : Int) : Prop :=
  (0 ≤ c ∧ c ≤ 14000000) ∧
  (2 ≤ w 0 ∧ w 0 ≤ 12) ∧
  (3 ≤ w 1 ∧ w 1 ≤ 9) ∧
  (1 ≤ w 2 ∧ w 2 ≤ 20) ∧
  (0 ≤ w 3 ∧ w 3 ≤ 30) ∧
  (1 ≤ w 4 ∧ w 4 ≤ 99) ∧
  (0 ≤ w 5 ∧ w 5 ≤ 90) ∧
  (0 ≤ w 6 ∧ w 6 ≤ c) ∧
  (0 ≤ w 7 ∧ w 7 ≤ 99) ∧
  (0 ≤ w 8 ∧ w 8 ≤ c) ∧
  (0 ≤ w 9 ∧ w 9 ≤ c) ∧
  (0 ≤ w 10 ∧ w 10 ≤ 20 * c) ∧
  (0 ≤ w 11 ∧ w 11 ≤ 150) ∧
  (0 ≤ w 12 ∧ w 12 ≤ c) ∧
  (∀ g, 0 ≤ g ∧ g ≤ 4 → (1 ≤ w (13 + g) ∧ w (13 + g) ≤ 1000) ∧ (0 ≤ w (18 + g) ∧ w (18 + g) ≤ 20 * c)) ∧
  (∀ u, 0 ≤ u ∧ u < w 7 → (0 ≤ w (23 + 17 * u + 0) ∧ w (23 + 17 * u + 0) ≤ 7) ∧ (1 ≤ w (23 + 17 * u + 1) ∧ w (23 + 17 * u + 1) ≤ 3) ∧ (0 ≤ w (23 + 17 * u + 2) ∧ w (23 + 17 * u + 2) ≤ 99) ∧ (0 ≤ w (23 + 17 * u + 3) ∧ w (23 + 17 * u + 3) ≤ w 6) ∧ (0 ≤ w (23 + 17 * u + 4) ∧ w (23 + 17 * u + 4) ≤ 1) ∧ (-1 ≤ w (23 + 17 * u + 5) ∧ w (23 + 17 * u + 5) < w 0) ∧ (w (23 + 17 * u + 4) = 1 → 0 ≤ w (23 + 17 * u + 5) ∧ w (23 + 17 * u + 9) = -1) ∧ (w (23 + 17 * u + 4) = 0 → w (23 + 17 * u + 5) = -1 ∧ 0 ≤ w (23 + 17 * u + 9)) ∧ (0 ≤ w (23 + 17 * u + 6) ∧ w (23 + 17 * u + 6) ≤ c + 200) ∧ (0 ≤ w (23 + 17 * u + 7) ∧ w (23 + 17 * u + 7) ≤ 6 ∧ w (23 + 17 * u + 7) ≠ 5) ∧ (0 ≤ w (23 + 17 * u + 8) ∧ w (23 + 17 * u + 8) ≤ c) ∧ (-1 ≤ w (23 + 17 * u + 9) ∧ w (23 + 17 * u + 9) ≤ c) ∧ (-1 ≤ w (23 + 17 * u + 15) ∧ w (23 + 17 * u + 15) ≤ c) ∧ (0 ≤ w (23 + 17 * u + 16) ∧ w (23 + 17 * u + 16) ≤ 98)) ∧
  (∀ u g, 0 ≤ u ∧ u < w 7 → 0 ≤ g ∧ g ≤ 4 → 1 ≤ w (23 + 17 * u + (10 + g)) ∧ w (23 + 17 * u + (10 + g)) ≤ 99) ∧
  (∀ z, 0 ≤ z ∧ z ≤ 11 → (-1 ≤ w (1706 + 13 * z + 0) ∧ w (1706 + 13 * z + 0) ≤ c + 200) ∧ (-20 ≤ w (1706 + 13 * z + 0) * w 2 ∧ w (1706 + 13 * z + 0) * w 2 ≤ c + 200) ∧ (0 ≤ w (1706 + 13 * z + 1) ∧ w (1706 + 13 * z + 1) ≤ w 1) ∧ (0 ≤ w (1706 + 13 * z + 2) ∧ w (1706 + 13 * z + 2) ≤ c) ∧ (0 ≤ w (1706 + 13 * z + 3) ∧ w (1706 + 13 * z + 3) ≤ w (1706 + 13 * z + 1)) ∧ (w (1706 + 13 * z + 0) = -1 → w (1706 + 13 * z + 1) = 0) ∧ (w 0 ≤ z → w (1706 + 13 * z + 0) = -1)) ∧
  (∀ z k, 0 ≤ z ∧ z ≤ 11 → 0 ≤ k ∧ k < w (1706 + 13 * z + 3) → 0 ≤ w (1706 + 13 * z + 4 + k) ∧ w (1706 + 13 * z + 4 + k) < w 7) ∧
  (∀ x, w 7 ≤ x ∧ x ≤ 98 → w (23 + 17 * x + 5) = 0) ∧
  (Sup w)
theorem ROK.c0 {w : Int → Int} {c : Int} (h : ROK w c) : 0 ≤ c ∧ c ≤ 14000000 := h.1
theorem ROK.s0 {w : Int → Int} {c : Int} (h : ROK w c) : 2 ≤ w 0 ∧ w 0 ≤ 12 := h.2.1
theorem ROK.s1 {w : Int → Int} {c : Int} (h : ROK w c) : 3 ≤ w 1 ∧ w 1 ≤ 9 := h.2.2.1
theorem ROK.s2 {w : Int → Int} {c : Int} (h : ROK w c) : 1 ≤ w 2 ∧ w 2 ≤ 20 := h.2.2.2.1
theorem ROK.s3 {w : Int → Int} {c : Int} (h : ROK w c) : 0 ≤ w 3 ∧ w 3 ≤ 30 := h.2.2.2.2.1
theorem ROK.s4 {w : Int → Int} {c : Int} (h : ROK w c) : 1 ≤ w 4 ∧ w 4 ≤ 99 := h.2.2.2.2.2.1
theorem ROK.s5 {w : Int → Int} {c : Int} (h : ROK w c) : 0 ≤ w 5 ∧ w 5 ≤ 90 := h.2.2.2.2.2.2.1
theorem ROK.s6 {w : Int → Int} {c : Int} (h : ROK w c) : 0 ≤ w 6 ∧ w 6 ≤ c := h.2.2.2.2.2.2.2.1
theorem ROK.s7 {w : Int → Int} {c : Int} (h : ROK w c) : 0 ≤ w 7 ∧ w 7 ≤ 99 := h.2.2.2.2.2.2.2.2.1
theorem ROK.s8 {w : Int → Int} {c : Int} (h : ROK w c) : 0 ≤ w 8 ∧ w 8 ≤ c := h.2.2.2.2.2.2.2.2.2.1
theorem ROK.s9 {w : Int → Int} {c : Int} (h : ROK w c) : 0 ≤ w 9 ∧ w 9 ≤ c := h.2.2.2.2.2.2.2.2.2.2.1
theorem ROK.s10 {w : Int → Int} {c : Int} (h : ROK w c) : 0 ≤ w 10 ∧ w 10 ≤ 20 * c := h.2.2.2.2.2.2.2.2.2.2.2.1
theorem ROK.s11 {w : Int → Int} {c : Int} (h : ROK w c) : 0 ≤ w 11 ∧ w 11 ≤ 150 := h.2.2.2.2.2.2.2.2.2.2.2.2.1
theorem ROK.s12 {w : Int → Int} {c : Int} (h : ROK w c) : 0 ≤ w 12 ∧ w 12 ≤ c := h.2.2.2.2.2.2.2.2.2.2.2.2.2.1
theorem ROK.g {w : Int → Int} {c : Int} (h : ROK w c) : ∀ g, 0 ≤ g ∧ g ≤ 4 → (1 ≤ w (13 + g) ∧ w (13 + g) ≤ 1000) ∧ (0 ≤ w (18 + g) ∧ w (18 + g) ≤ 20 * c) := h.2.2.2.2.2.2.2.2.2.2.2.2.2.2.1
theorem ROK.u {w : Int → Int} {c : Int} (h : ROK w c) : ∀ u, 0 ≤ u ∧ u < w 7 → (0 ≤ w (23 + 17 * u + 0) ∧ w (23 + 17 * u + 0) ≤ 7) ∧ (1 ≤ w (23 + 17 * u + 1) ∧ w (23 + 17 * u + 1) ≤ 3) ∧ (0 ≤ w (23 + 17 * u + 2) ∧ w (23 + 17 * u + 2) ≤ 99) ∧ (0 ≤ w (23 + 17 * u + 3) ∧ w (23 + 17 * u + 3) ≤ w 6) ∧ (0 ≤ w (23 + 17 * u + 4) ∧ w (23 + 17 * u + 4) ≤ 1) ∧ (-1 ≤ w (23 + 17 * u + 5) ∧ w (23 + 17 * u + 5) < w 0) ∧ (w (23 + 17 * u + 4) = 1 → 0 ≤ w (23 + 17 * u + 5) ∧ w (23 + 17 * u + 9) = -1) ∧ (w (23 + 17 * u + 4) = 0 → w (23 + 17 * u + 5) = -1 ∧ 0 ≤ w (23 + 17 * u + 9)) ∧ (0 ≤ w (23 + 17 * u + 6) ∧ w (23 + 17 * u + 6) ≤ c + 200) ∧ (0 ≤ w (23 + 17 * u + 7) ∧ w (23 + 17 * u + 7) ≤ 6 ∧ w (23 + 17 * u + 7) ≠ 5) ∧ (0 ≤ w (23 + 17 * u + 8) ∧ w (23 + 17 * u + 8) ≤ c) ∧ (-1 ≤ w (23 + 17 * u + 9) ∧ w (23 + 17 * u + 9) ≤ c) ∧ (-1 ≤ w (23 + 17 * u + 15) ∧ w (23 + 17 * u + 15) ≤ c) ∧ (0 ≤ w (23 + 17 * u + 16) ∧ w (23 + 17 * u + 16) ≤ 98) := h.2.2.2.2.2.2.2.2.2.2.2.2.2.2.2.1
theorem ROK.t {w : Int → Int} {c : Int} (h : ROK w c) : ∀ u g, 0 ≤ u ∧ u < w 7 → 0 ≤ g ∧ g ≤ 4 → 1 ≤ w (23 + 17 * u + (10 + g)) ∧ w (23 + 17 * u + (10 + g)) ≤ 99 := h.2.2.2.2.2.2.2.2.2.2.2.2.2.2.2.2.1
theorem ROK.z {w : Int → Int} {c : Int} (h : ROK w c) : ∀ z, 0 ≤ z ∧ z ≤ 11 → (-1 ≤ w (1706 + 13 * z + 0) ∧ w (1706 + 13 * z + 0) ≤ c + 200) ∧ (-20 ≤ w (1706 + 13 * z + 0) * w 2 ∧ w (1706 + 13 * z + 0) * w 2 ≤ c + 200) ∧ (0 ≤ w (1706 + 13 * z + 1) ∧ w (1706 + 13 * z + 1) ≤ w 1) ∧ (0 ≤ w (1706 + 13 * z + 2) ∧ w (1706 + 13 * z + 2) ≤ c) ∧ (0 ≤ w (1706 + 13 * z + 3) ∧ w (1706 + 13 * z + 3) ≤ w (1706 + 13 * z + 1)) ∧ (w (1706 + 13 * z + 0) = -1 → w (1706 + 13 * z + 1) = 0) ∧ (w 0 ≤ z → w (1706 + 13 * z + 0) = -1) := h.2.2.2.2.2.2.2.2.2.2.2.2.2.2.2.2.2.1
theorem ROK.p {w : Int → Int} {c : Int} (h : ROK w c) : ∀ z k, 0 ≤ z ∧ z ≤ 11 → 0 ≤ k ∧ k < w (1706 + 13 * z + 3) → 0 ≤ w (1706 + 13 * z + 4 + k) ∧ w (1706 + 13 * z + 4 + k) < w 7 := h.2.2.2.2.2.2.2.2.2.2.2.2.2.2.2.2.2.2.1
theorem ROK.n {w : Int → Int} {c : Int} (h : ROK w c) : ∀ x, w 7 ≤ x ∧ x ≤ 98 → w (23 + 17 * x + 5) = 0 := h.2.2.2.2.2.2.2.2.2.2.2.2.2.2.2.2.2.2.2.1
theorem ROK.sup {w : Int → Int} {c : Int} (h : ROK w c) : Sup w := h.2.2.2.2.2.2.2.2.2.2.2.2.2.2.2.2.2.2.2.2
theorem ROK.uWr {w : Int → Int} {c : Int} (h : ROK w c) : ∀ u, 0 ≤ u ∧ u < w 7 → (0 ≤ w (23 + 17 * u + 0) ∧ w (23 + 17 * u + 0) ≤ 7) := fun x hx => (h.u x hx).1
theorem ROK.uSz {w : Int → Int} {c : Int} (h : ROK w c) : ∀ u, 0 ≤ u ∧ u < w 7 → (1 ≤ w (23 + 17 * u + 1) ∧ w (23 + 17 * u + 1) ≤ 3) := fun x hx => (h.u x hx).2.1
theorem ROK.uFa {w : Int → Int} {c : Int} (h : ROK w c) : ∀ u, 0 ≤ u ∧ u < w 7 → (0 ≤ w (23 + 17 * u + 2) ∧ w (23 + 17 * u + 2) ≤ 99) := fun x hx => (h.u x hx).2.2.1
theorem ROK.uWt {w : Int → Int} {c : Int} (h : ROK w c) : ∀ u, 0 ≤ u ∧ u < w 7 → (0 ≤ w (23 + 17 * u + 3) ∧ w (23 + 17 * u + 3) ≤ w 6) := fun x hx => (h.u x hx).2.2.2.1
theorem ROK.uLv {w : Int → Int} {c : Int} (h : ROK w c) : ∀ u, 0 ≤ u ∧ u < w 7 → (0 ≤ w (23 + 17 * u + 4) ∧ w (23 + 17 * u + 4) ≤ 1) := fun x hx => (h.u x hx).2.2.2.2.1
theorem ROK.uWh {w : Int → Int} {c : Int} (h : ROK w c) : ∀ u, 0 ≤ u ∧ u < w 7 → (-1 ≤ w (23 + 17 * u + 5) ∧ w (23 + 17 * u + 5) < w 0) := fun x hx => (h.u x hx).2.2.2.2.2.1
theorem ROK.uAl {w : Int → Int} {c : Int} (h : ROK w c) : ∀ u, 0 ≤ u ∧ u < w 7 → (w (23 + 17 * u + 4) = 1 → 0 ≤ w (23 + 17 * u + 5) ∧ w (23 + 17 * u + 9) = -1) := fun x hx => (h.u x hx).2.2.2.2.2.2.1
theorem ROK.uDd {w : Int → Int} {c : Int} (h : ROK w c) : ∀ u, 0 ≤ u ∧ u < w 7 → (w (23 + 17 * u + 4) = 0 → w (23 + 17 * u + 5) = -1 ∧ 0 ≤ w (23 + 17 * u + 9)) := fun x hx => (h.u x hx).2.2.2.2.2.2.2.1
theorem ROK.uGu {w : Int → Int} {c : Int} (h : ROK w c) : ∀ u, 0 ≤ u ∧ u < w 7 → (0 ≤ w (23 + 17 * u + 6) ∧ w (23 + 17 * u + 6) ≤ c + 200) := fun x hx => (h.u x hx).2.2.2.2.2.2.2.2.1
theorem ROK.uLe {w : Int → Int} {c : Int} (h : ROK w c) : ∀ u, 0 ≤ u ∧ u < w 7 → (0 ≤ w (23 + 17 * u + 7) ∧ w (23 + 17 * u + 7) ≤ 6 ∧ w (23 + 17 * u + 7) ≠ 5) := fun x hx => (h.u x hx).2.2.2.2.2.2.2.2.2.1
theorem ROK.uMv {w : Int → Int} {c : Int} (h : ROK w c) : ∀ u, 0 ≤ u ∧ u < w 7 → (0 ≤ w (23 + 17 * u + 8) ∧ w (23 + 17 * u + 8) ≤ c) := fun x hx => (h.u x hx).2.2.2.2.2.2.2.2.2.2.1
theorem ROK.uLi {w : Int → Int} {c : Int} (h : ROK w c) : ∀ u, 0 ≤ u ∧ u < w 7 → (-1 ≤ w (23 + 17 * u + 9) ∧ w (23 + 17 * u + 9) ≤ c) := fun x hx => (h.u x hx).2.2.2.2.2.2.2.2.2.2.2.1
theorem ROK.uOr {w : Int → Int} {c : Int} (h : ROK w c) : ∀ u, 0 ≤ u ∧ u < w 7 → (-1 ≤ w (23 + 17 * u + 15) ∧ w (23 + 17 * u + 15) ≤ c) := fun x hx => (h.u x hx).2.2.2.2.2.2.2.2.2.2.2.2.1
theorem ROK.uOg {w : Int → Int} {c : Int} (h : ROK w c) : ∀ u, 0 ≤ u ∧ u < w 7 → (0 ≤ w (23 + 17 * u + 16) ∧ w (23 + 17 * u + 16) ≤ 98) := fun x hx => (h.u x hx).2.2.2.2.2.2.2.2.2.2.2.2.2
theorem ROK.zW {w : Int → Int} {c : Int} (h : ROK w c) : ∀ z, 0 ≤ z ∧ z ≤ 11 → (-1 ≤ w (1706 + 13 * z + 0) ∧ w (1706 + 13 * z + 0) ≤ c + 200) := fun x hx => (h.z x hx).1
theorem ROK.zP {w : Int → Int} {c : Int} (h : ROK w c) : ∀ z, 0 ≤ z ∧ z ≤ 11 → (-20 ≤ w (1706 + 13 * z + 0) * w 2 ∧ w (1706 + 13 * z + 0) * w 2 ≤ c + 200) := fun x hx => (h.z x hx).2.1
theorem ROK.zF {w : Int → Int} {c : Int} (h : ROK w c) : ∀ z, 0 ≤ z ∧ z ≤ 11 → (0 ≤ w (1706 + 13 * z + 1) ∧ w (1706 + 13 * z + 1) ≤ w 1) := fun x hx => (h.z x hx).2.2.1
theorem ROK.zR {w : Int → Int} {c : Int} (h : ROK w c) : ∀ z, 0 ≤ z ∧ z ≤ 11 → (0 ≤ w (1706 + 13 * z + 2) ∧ w (1706 + 13 * z + 2) ≤ c) := fun x hx => (h.z x hx).2.2.2.1
theorem ROK.zM {w : Int → Int} {c : Int} (h : ROK w c) : ∀ z, 0 ≤ z ∧ z ≤ 11 → (0 ≤ w (1706 + 13 * z + 3) ∧ w (1706 + 13 * z + 3) ≤ w (1706 + 13 * z + 1)) := fun x hx => (h.z x hx).2.2.2.2.1
theorem ROK.zE {w : Int → Int} {c : Int} (h : ROK w c) : ∀ z, 0 ≤ z ∧ z ≤ 11 → (w (1706 + 13 * z + 0) = -1 → w (1706 + 13 * z + 1) = 0) := fun x hx => (h.z x hx).2.2.2.2.2.1
theorem ROK.zO {w : Int → Int} {c : Int} (h : ROK w c) : ∀ z, 0 ≤ z ∧ z ≤ 11 → (w 0 ≤ z → w (1706 + 13 * z + 0) = -1) := fun x hx => (h.z x hx).2.2.2.2.2.2
theorem ROK.gW {w : Int → Int} {c : Int} (h : ROK w c) : ∀ g, 0 ≤ g ∧ g ≤ 4 → (1 ≤ w (13 + g) ∧ w (13 + g) ≤ 1000) := fun x hx => (h.g x hx).1
theorem ROK.gL {w : Int → Int} {c : Int} (h : ROK w c) : ∀ g, 0 ≤ g ∧ g ≤ 4 → (0 ≤ w (18 + g) ∧ w (18 + g) ≤ 20 * c) := fun x hx => (h.g x hx).2
theorem v_forget {Γ : Cx} {M : MI} {d mc ms : Nat} {Q : PQ} {X : PX} {h : AH} {bc bs pc : Nat} {ls : Lcs} {st : List Value} (i : Nat) (k : V Γ M d mc ms Q X h bc bs pc (ls.set i none) st) : V Γ M d mc ms Q X h bc bs pc ls st :=
  v_drop (by rw [List.length_set]; exact Nat.le_refl _) (fun j v hj => by
    by_cases e : j = i
    · subst e
      by_cases hl : j < ls.length
      · rw [List.getElem?_set_self hl] at hj
        cases hj
      · rw [List.getElem?_eq_none (by rw [List.length_set]; omega)] at hj
        cases hj
    · rw [List.getElem?_set_ne (Ne.symm e)] at hj
      exact hj) k
theorem mW1_ok {u g : Int} {w : Int → Int} {low wt low' : Int} (e : wt = if mWt w u g < 1 then 1 else mWt w u g) (e2 : low' = if low = 1 ∧ wt < 500 then 1 else 0) : mW1 u g (w, low) = (upi (upi w (18 + g) (w (18 + g) + mLoss w u g)) (13 + g) wt, low') := by
  subst e2
  subst e
  rfl
theorem mWeighs_ok {w nowA now2 : Int → Int} {low u : Int} (he : fI 5 (mW1 u) (w, 1) = (nowA, low)) (h2 : now2 = if low = 1 then mW2 nowA 5 else nowA) : mWeighs w u = mW3 now2 u := by
  rw [mWeighs, he, h2]
theorem wt_r {a b l : Int} (ha : 1 ≤ a ∧ a ≤ 1000) (hb : 0 ≤ b ∧ b ≤ 90) (hl : 0 ≤ l ∧ l ≤ 20) : (0 ≤ b * l ∧ b * l ≤ 1800) ∧ (0 ≤ a * (2000 - b * l) ∧ a * (2000 - b * l) ≤ 2000000) ∧ (0 ≤ (a * (2000 - b * l)).tdiv 2000 ∧ (a * (2000 - b * l)).tdiv 2000 ≤ 1000) := by
  have h1 : 0 ≤ b * l := Int.mul_nonneg hb.1 hl.1
  have h2 : b * l ≤ 90 * 20 := Int.mul_le_mul hb.2 hl.2 hl.1 (by omega)
  have h3 : 0 ≤ a * (2000 - b * l) := Int.mul_nonneg (by omega) (by omega)
  have h4 : a * (2000 - b * l) ≤ 1000 * 2000 := Int.mul_le_mul ha.2 (by omega) (by omega) (by omega)
  refine ⟨by omega, by omega, ?_⟩
  rw [Int.tdiv_eq_ediv_of_nonneg h3]
  omega
theorem mDies0_v {w : Int → Int} {u : Int} (hu : 0 ≤ u) (i : Int) : mDies0 w u i = if i = 12 then w 12 + 1 else if i = 23 + 17 * u + 15 then w 12 else if i = 23 + 17 * u + 9 then w 6 - w (23 + 17 * u + 3) else if i = 23 + 17 * u + 5 then -1 else if i = 23 + 17 * u + 4 then 0 else w i := by
  unfold mDies0 upi
  rw [if_neg (show ¬ (12 : Int) = 23 + 17 * u + 15 by omega), if_neg (show ¬ (12 : Int) = 23 + 17 * u + 9 by omega), if_neg (show ¬ (12 : Int) = 23 + 17 * u + 5 by omega), if_neg (show ¬ (12 : Int) = 23 + 17 * u + 4 by omega), if_neg (show ¬ (6 : Int) = 23 + 17 * u + 5 by omega), if_neg (show ¬ (6 : Int) = 23 + 17 * u + 4 by omega), if_neg (show ¬ (23 + 17 * u + 3 : Int) = 23 + 17 * u + 5 by omega), if_neg (show ¬ (23 + 17 * u + 3 : Int) = 23 + 17 * u + 4 by omega)]
theorem hset_id {h : AH} {a : Nat} {o : Nat × Ob} (e : h a = some o) : hset h a o = h := by
  funext b
  by_cases q : b = a
  · subst q
    rw [hset_s, e]
  · rw [hset_n q]
theorem hset_hset {h : AH} {a : Nat} {o o' : Nat × Ob} : hset (hset h a o) a o' = hset h a o' := by
  funext b
  by_cases q : b = a
  · subst q
    rw [hset_s, hset_s]
  · rw [hset_n q, hset_n q, hset_n q]
theorem mApart_r {w : Int → Int} {z win : Int} (h1 : -1 ≤ w (1706 + 13 * z + 0) ∧ w (1706 + 13 * z + 0) ≤ 20000000) (h2 : -1000 ≤ win ∧ win ≤ 20000000) : 0 ≤ mApart w z win ∧ mApart w z win ≤ 60000000 := by
  unfold mApart
  split <;> omega
theorem zEx_hit {w : Int → Int} {win size but z m : Int} (h : zEx w win size but z = -1) (hz : 0 ≤ z ∧ z < m) (el : zEl w size but z) (e : w (1706 + 13 * z + 0) = win) : zEx w win size but m = z := by
  have h1 : zEx w win size but (z + 1) = z := by rw [zEx_s hz.1, if_pos ⟨h, el, e⟩]
  exact fI_stay (f := fun z a => if a = -1 ∧ zEl w size but z ∧ w (1706 + 13 * z + 0) = win then z else a) (k := z + 1) (by omega) (by omega) h1 (fun j h2 h3 => if_neg (fun q => by have := q.1; omega))
theorem zNear_r {w : Int → Int} {win size but k : Int} (hk : 0 ≤ k) : -1 ≤ zNear w win size but k ∧ zNear w win size but k < k ∨ k = 0 ∧ zNear w win size but k = -1 := by
  unfold zNear
  refine fI_ind (fun k b => -1 ≤ b ∧ b < k ∨ k = 0 ∧ b = -1) (by omega) (fun k b h0 h => ?_) k hk
  split <;> omega
theorem zFree_r {w : Int → Int} {size but k : Int} (hk : 0 ≤ k) : -1 ≤ zFree w size but k ∧ zFree w size but k < k ∨ k = 0 ∧ zFree w size but k = -1 := by
  unfold zFree
  refine fI_ind (fun k b => -1 ≤ b ∧ b < k ∨ k = 0 ∧ b = -1) (by omega) (fun k b h0 h => ?_) k hk
  split <;> omega
theorem zEx_r {w : Int → Int} {win size but k : Int} (hk : 0 ≤ k) : -1 ≤ zEx w win size but k ∧ zEx w win size but k < k ∨ k = 0 ∧ zEx w win size but k = -1 := by
  unfold zEx
  refine fI_ind (fun k b => -1 ≤ b ∧ b < k ∨ k = 0 ∧ b = -1) (by omega) (fun k b h0 h => ?_) k hk
  split <;> omega
theorem mZoneFor_r {w : Int → Int} {win size but : Int} (h : 0 ≤ w 0) : -1 ≤ mZoneFor w win size but ∧ mZoneFor w win size but < w 0 ∨ mZoneFor w win size but = -1 := by
  have h1 := zEx_r (w := w) (win := win) (size := size) (but := but) h
  have h2 := zFree_r (w := w) (size := size) (but := but) h
  have h3 := zNear_r (w := w) (win := win) (size := size) (but := but) h
  unfold mZoneFor
  split
  · omega
  · split <;> omega
theorem cpy_step {f g : Int → Int} {there here k i : Int} (e : ¬ i = here + k) : (if here ≤ i ∧ i < here + k then f (i - here + there) else g i) = (if here ≤ i ∧ i < here + (k + 1) then f (i - here + there) else g i) := by
  by_cases q : here ≤ i ∧ i < here + k
  · rw [if_pos q, if_pos (by omega)]
  · rw [if_neg q, if_neg (by omega)]
