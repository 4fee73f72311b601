/-! what is asked of a row (own) -/
set_option maxRecDepth 100000
def mLow (k : Int) : Int := if k = 0 then 2 else if k = 1 then 3 else if k = 2 ∨ k = 4 then 1 else 0
def mHigh (k : Int) : Int := if k = 0 then 12 else if k = 1 then 9 else if k = 2 then 20 else if k = 3 then 30 else if k = 4 then 99 else 90
def mBin (l : Int) : Int := if l = 0 then 0 else if l < 3 then 1 else if l < 6 then 2 else if l < 11 then 3 else if l < 20 then 4 else 5
def mLivU (w : Int → Int) (k : Int) : Int := fI k (fun u n => if w (23 + 17 * u + 4) = 1 then n + 1 else n) 0
theorem mLivU_s {w : Int → Int} {k : Int} (hk : 0 ≤ k) : mLivU w (k + 1) = if w (23 + 17 * k + 4) = 1 then mLivU w k + 1 else mLivU w k := fI_s hk
def mFreeZ (w : Int → Int) (k : Int) : Int := fI k (fun z n => if w (1706 + 13 * z + 0) = -1 then n + 1 else n) 0
theorem mFreeZ_s {w : Int → Int} {k : Int} (hk : 0 ≤ k) : mFreeZ w (k + 1) = if w (1706 + 13 * k + 0) = -1 then mFreeZ w k + 1 else mFreeZ w k := fI_s hk
def mFillP (w : Int → Int) (k : Int) : Int := fI k (fun z n => n + w (1706 + 13 * z + 1)) 0
theorem mFillP_s {w : Int → Int} {k : Int} (hk : 0 ≤ k) : mFillP w (k + 1) = mFillP w k + w (1706 + 13 * k + 1) := fI_s hk
def mLivP (w : Int → Int) (z k : Int) : Int := fI k (fun u n => if w (23 + 17 * u + 4) = 1 ∧ (z = -1 ∨ w (23 + 17 * u + 5) = z) then n + w (23 + 17 * u + 1) else n) 0
theorem mLivP_s {w : Int → Int} {z k : Int} (hk : 0 ≤ k) : mLivP w z (k + 1) = if w (23 + 17 * k + 4) = 1 ∧ (z = -1 ∨ w (23 + 17 * k + 5) = z) then mLivP w z k + w (23 + 17 * k + 1) else mLivP w z k := fI_s hk
/-- the first of them that is so; -1 -/
def fst (p : Int → Prop) [DecidablePred p] (k : Int) : Int := fI k (fun u a => if a = -1 ∧ p u then u else a) (-1)
theorem fst_s {p : Int → Prop} [DecidablePred p] {k : Int} (hk : 0 ≤ k) : fst p (k + 1) = if fst p k = -1 ∧ p k then k else fst p k := fI_s hk
theorem fst_hit {p : Int → Prop} [DecidablePred p] {k m : Int} (h : fst p k = -1) (hk : 0 ≤ k ∧ k < m) (hp : p k) : fst p m = k := by
  have h1 : fst p (k + 1) = k := by rw [fst_s hk.1, if_pos ⟨h, hp⟩]
  exact fI_stay (f := fun u a => if a = -1 ∧ p u then u else a) (k := k + 1) (by omega) (by omega) h1 (fun j h2 h3 => if_neg (fun q => by have := q.1; omega))
def mLowest (w : Int → Int) (z k : Int) : Int := fst (fun u => w (23 + 17 * u + 4) = 1 ∧ w (23 + 17 * u + 5) = z) k
def aZone (w : Int → Int) (z k : Int) : Int := if k = 0 then w (1706 + 13 * z + 0) else if k = 1 then w (1706 + 13 * z + 1) else if k = 2 then mLivIn w z (w 7) else if k = 3 then mLivP w z (w 7) else if k = 4 then w (1706 + 13 * z + 2) else if k = 5 then (if w (1706 + 13 * z + 0) ≠ -1 ∧ w (1706 + 13 * z + 0) * w 2 + w 2 - 1 < w 6 then 1 else 0) else mLowest w z (w 7)
def aCount (w : Int → Int) (way um k : Int) : Int := if k = 8 then mLivU w (w 7) else if k = 9 then mFreeZ w (w 0) else if k = 10 then w 8 else if k = 11 then w 9 else if k = 12 then mLeader w way else if k = 13 then w 10 else if k = 14 then w 11 else if k = 15 then um else if k = 16 then mFillP w (w 0) else if k = 17 then mLivP w (-1) (w 7) else w k
theorem mw_thr {t : Nat} {α : Nat → Nat} {h0 h : AH} {thrown : Int} {now : Int → Int} {aside : Int → Int} {tried : Int → Int} {undos : Int → Int} {undoMany : Int} {saved : Int → Int} {isSaved : Int → Int} {accounts : Int → Int} {way : Int} {leftOut : Int} {here : Int → Int} {text : Int → Int} {length : Int} {atp : Int} {frm : Int} {token : Int} {number : Int} {error : Int} {errorAt : Int} {commands : Int} {command : Int → Int} {out : Int → Int} {outLong : Int} {T : Int} (hM : MW t α h0 h thrown now aside tried undos undoMany saved isSaved accounts way leftOut here text length atp frm token number error errorAt commands command out outLong) (e : thrown = T) : MW t α h0 h T now aside tried undos undoMany saved isSaved accounts way leftOut here text length atp frm token number error errorAt commands command out outLong := e ▸ hM
