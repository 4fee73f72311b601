/-! what the history does not touch (own) -/
set_option maxRecDepth 100000
theorem fI_congrP {σ : Type} {f g : Int → σ → σ} {s : σ} {m : Int} (P : Int → σ → Prop) (h0 : P 0 s) (e : ∀ k a, 0 ≤ k → k < m → P k a → f k a = g k a ∧ P (k + 1) (g k a)) (hm : 0 ≤ m) : fI m f s = fI m g s := by
  have := fI_indb (f := g) (s := s) (m := m) (fun k a => fI k f s = a ∧ P k a) ⟨rfl, h0⟩ (fun k a h1 h2 h => by
    obtain ⟨e1, e2⟩ := e k a h1 h2 h.2
    exact ⟨by rw [fI_s h1, h.1, e1], e2⟩) m hm (Int.le_refl _)
  exact this.1
/-- alike but for the history -/
def Hk (w v : Int → Int) : Prop := ∀ i, i ≠ 11 → i < 1862 → v i = w i
theorem mTells_congr {w v : Int → Int} {g wr sz : Int} (h : Hk w v) (h7 : 0 ≤ w 7 ∧ w 7 ≤ 99) : mTells v g wr sz = mTells w g wr sz := by
  have e7 : v 7 = w 7 := h 7 (by omega) (by omega)
  have e4 : v 4 = w 4 := h 4 (by omega) (by omega)
  have ec : ∀ u, 0 ≤ u → u < w 7 → mCounts v g u wr sz = mCounts w g u wr sz := fun u h1 h2 => by
    unfold mCounts
    rw [h (23 + 17 * u + 4) (by omega) (by omega), h (23 + 17 * u + 0) (by omega) (by omega), h (23 + 17 * u + 1) (by omega) (by omega)]
  have a1 : tMany v g wr sz (w 7) = tMany w g wr sz (w 7) := fI_congr fun u a h1 h2 => ite_iff (by rw [ec u h1 h2]) _ _
  have a2 : tSum v g wr sz (w 7) = tSum w g wr sz (w 7) := fI_congr fun u a h1 h2 => by
    rw [h (23 + 17 * u + 9) (by omega) (by omega)]
    exact ite_iff (by rw [ec u h1 h2]) _ _
  have a3 : tMost v g wr sz (w 7) = tMost w g wr sz (w 7) := fI_congr fun u a h1 h2 => by
    rw [h (23 + 17 * u + 9) (by omega) (by omega)]
    exact ite_iff (by rw [ec u h1 h2]) _ _
  have a4 : tLate v g wr sz (w 7) = tLate w g wr sz (w 7) ∧ (-1 ≤ tLate w g wr sz (w 7) ∧ tLate w g wr sz (w 7) ≤ 98) := by
    have key : ∀ k, 0 ≤ k → k ≤ w 7 → (tLate v g wr sz k = tLate w g wr sz k ∧ -1 ≤ tLate w g wr sz k ∧ tLate w g wr sz k ≤ 98) := by
      intro k h1 h2
      obtain ⟨n, rfl⟩ := Int.eq_ofNat_of_zero_le h1
      clear h1
      induction n with
      | zero => exact ⟨rfl, by show -1 ≤ (-1 : Int); omega, by show (-1 : Int) ≤ 98; omega⟩
      | succ n ih =>
        obtain ⟨i1, i2, i3⟩ := ih (by omega)
        rw [show ((n + 1 : Nat) : Int) = (n : Int) + 1 from rfl, tLate_s (by omega), tLate_s (by omega), i1]
        generalize tLate w g wr sz (n : Int) = a at i2 i3
        rw [h (23 + 17 * a + 15) (by omega) (by omega), h (23 + 17 * (n : Int) + 15) (by omega) (by omega)]
        refine ⟨ite_iff (by rw [ec (n : Int) (by omega) (by omega)]) _ _, ?_⟩
        split
        · split <;> omega
        · omega
    exact key (w 7) h7.1 (Int.le_refl _)
  unfold mTells
  rw [e7, e4, a1, a2, a3, a4.1, h (23 + 17 * tLate w g wr sz (w 7) + 9) (by omega) (by omega)]
theorem mBest_congr {w v : Int → Int} (h : Hk w v) : mBest v 5 = mBest w 5 := by
  refine fI_congrP (m := 5) (fun (k : Int) (b : Int) => 0 ≤ b ∧ b ≤ 4) (by omega) (fun k b h0 h1 hb => ?_) (by omega)
  rw [h (13 + b) (by omega) (by omega), h (13 + k) (by omega) (by omega)]
  refine ⟨rfl, ?_⟩
  split <;> omega
theorem mLeader_congr {w v : Int → Int} {way : Int} (h : Hk w v) : mLeader v way = mLeader w way := by
  unfold mLeader
  rw [mBest_congr h]
theorem mLed_congr {w v as : Int → Int} {ld wr sz o : Int} (h : Hk w v) (h7 : 0 ≤ w 7 ∧ w 7 ≤ 99) : mLed v as ld wr sz o = mLed w as ld wr sz o := by
  unfold mLed
  rw [mTells_congr h h7]
theorem mWhyWrite_congr {w v as : Int → Int} {way wr sz o : Int} (h : Hk w v) (h7 : 0 ≤ w 7 ∧ w 7 ≤ 99) (h0 : 0 ≤ w 0 ∧ w 0 ≤ 12) : mWhyWrite v as way wr sz o = mWhyWrite w as way wr sz o := by
  unfold mWhyWrite
  rw [mLeader_congr h, mLed_congr h h7, h 6 (by omega) (by omega), h 2 (by omega) (by omega)]
  generalize (w 6 + mLed w as (mLeader w way) wr sz o).tdiv (w 2) = win
  rw [mZoneFor_congr (h 0 (by omega) (by omega)) (h 1 (by omega) (by omega)) (fun z hz hz2 => ⟨h _ (by omega) (by omega), h _ (by omega) (by omega)⟩) h0.1]
theorem mHist_hk {w : Int → Int} {a b c d : Int} (h : 0 ≤ w 11) : Hk w (mHist w a b c d) := fun i h1 h2 => mHist_fr i (by omega)
def mBurialR (w as : Int → Int) (way z : Int) : Int := if w (1706 + 13 * z + 0) = -1 then 3 else if (mBuries w as way z).isSome then 0 else 5
def mBurialW (w as : Int → Int) (way z : Int) : Int → Int := if w (1706 + 13 * z + 0) = -1 then w else (mBuries w as way z).getD w
/-- moves that a burial would take; -1: none can be -/
def mToBury (w as : Int → Int) (way z : Int) : Int := if w (1706 + 13 * z + 0) = -1 then -1 else match mBuries w as way z with
  | none => -1
  | some v => v 8 - w 8
def rWrite (w as : Int → Int) (way wr sz : Int) : Int := if w 11 = 150 then 7 else if w 7 = 99 then 6 else mWhyWrite w as way wr sz (w 7)
def rDie (w : Int → Int) (u : Int) : Int := if w 11 = 150 then 7 else if w (23 + 17 * u + 4) = 1 then 0 else 2
def rReset (w : Int → Int) (z : Int) : Int := if w 11 = 150 then 7 else if w (1706 + 13 * z + 0) = -1 then 3 else if 0 < mLivIn w z (w 7) then 4 else 0
def rBury (w as : Int → Int) (way z : Int) : Int := if w 11 = 150 then 7 else if mToBury w as way z = -1 then (if w (1706 + 13 * z + 0) = -1 then 3 else 5) else 0
def rDays (w : Int → Int) : Int := if w 11 = 150 then 7 else 0
theorem mToBury_r {w as : Int → Int} {way z c : Int} (h : ROK w c) (hz : 0 ≤ z ∧ z ≤ 11) (hc : c + 100 ≤ 14000000) : -20000000 ≤ mToBury w as way z ∧ mToBury w as way z ≤ 14000000 := by
  have h8 := h.s8
  have hc0 := h.c0
  unfold mToBury
  split
  · omega
  · split
    · omega
    · rename_i v e
      have := (mBuries_inv h hc hz e).1.s8
      omega
