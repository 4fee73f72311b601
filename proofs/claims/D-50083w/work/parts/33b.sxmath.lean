/-! THE STORE, plain: entering, deaths (own) -/
theorem upi_comm {w : Int → Int} {i j a b : Int} (n : i ≠ j) : upi (upi w i a) j b = upi (upi w j b) i a := by
  funext k
  unfold upi
  by_cases e1 : k = j
  · rw [if_pos e1, if_neg (by omega), if_pos e1]
  · rw [if_neg e1]
    by_cases e2 : k = i
    · rw [if_pos e2, if_pos e2]
    · rw [if_neg e2, if_neg e2, if_neg e1]
def xEnter (w : Int → Int) (u z dth : Int) : Int → Int :=
  let a := upi (upi w (23 + 17 * u + 5) z) (23 + 17 * u + 6) dth
  let b := upi a (1706 + 13 * z + 0) (if a (1706 + 13 * z + 0) = -1 then dth.tdiv (a 2) else a (1706 + 13 * z + 0))
  let c := upi b (1706 + 13 * z + 1) (b (1706 + 13 * z + 1) + b (23 + 17 * u + 1))
  upi (upi c (1706 + 13 * z + 4 + c (1706 + 13 * z + 3)) u) (1706 + 13 * z + 3) (c (1706 + 13 * z + 3) + 1)
theorem xEnter_eq {w : Int → Int} {u z dth : Int} (hu : 0 ≤ u ∧ u ≤ 98) (hz : 0 ≤ z ∧ z ≤ 11) (hm : 0 ≤ w (1706 + 13 * z + 3) ∧ w (1706 + 13 * z + 3) ≤ 8) : xEnter w u z dth = mPuts (upi w (23 + 17 * u + 6) dth) u z (dth.tdiv (w 2)) := by
  unfold xEnter mPuts
  dsimp only
  have a1 : (1706 + 13 * z + 0) ≠ 23 + 17 * u + 6 := by omega
  have a2 : (1706 + 13 * z + 0) ≠ 23 + 17 * u + 5 := by omega
  have a3 : (2 : Int) ≠ 23 + 17 * u + 6 := by omega
  have a4 : (2 : Int) ≠ 23 + 17 * u + 5 := by omega
  have a5 : (1706 + 13 * z + 1) ≠ 1706 + 13 * z + 0 := by omega
  have a6 : (1706 + 13 * z + 1) ≠ 23 + 17 * u + 6 := by omega
  have a7 : (1706 + 13 * z + 1) ≠ 23 + 17 * u + 5 := by omega
  have a8 : (23 + 17 * u + 1) ≠ 1706 + 13 * z + 0 := by omega
  have a9 : (23 + 17 * u + 1) ≠ 23 + 17 * u + 6 := by omega
  have a10 : (23 + 17 * u + 1) ≠ 23 + 17 * u + 5 := by omega
  have a11 : (1706 + 13 * z + 3) ≠ 1706 + 13 * z + 1 := by omega
  have a12 : (1706 + 13 * z + 3) ≠ 1706 + 13 * z + 0 := by omega
  have a13 : (1706 + 13 * z + 3) ≠ 23 + 17 * u + 6 := by omega
  have a14 : (1706 + 13 * z + 3) ≠ 23 + 17 * u + 5 := by omega
  simp only [upi_n a1, upi_n a2, upi_n a3, upi_n a4, upi_n a5, upi_n a6, upi_n a7, upi_n a8, upi_n a9, upi_n a10, upi_n a11, upi_n a12, upi_n a13, upi_n a14]
  have a15 : (1706 + 13 * z + 3) ≠ 1706 + 13 * z + 4 + w (1706 + 13 * z + 3) := by omega
  simp only [upi_n a15, upi_n a11, upi_n a12, upi_n a13]
  rw [upi_comm (i := 23 + 17 * u + 5) (j := 23 + 17 * u + 6) (by omega), upi_comm (i := 23 + 17 * u + 5) (j := 1706 + 13 * z + 0) (by omega), upi_comm (i := 23 + 17 * u + 5) (j := 1706 + 13 * z + 1) (by omega), upi_comm (i := 23 + 17 * u + 5) (j := 1706 + 13 * z + 4 + w (1706 + 13 * z + 3)) (by omega), upi_comm (i := 23 + 17 * u + 5) (j := 1706 + 13 * z + 3) (by omega)]
def XWt (w : Int → Int) (u : Int) : Int → Int := if (fI 5 (mW1 u) (w, 1)).2 = 1 then mW2 (fI 5 (mW1 u) (w, 1)).1 5 else (fI 5 (mW1 u) (w, 1)).1
theorem mWeighs_X (w : Int → Int) (u : Int) : mWeighs w u = mW3 (XWt w u) u := rfl
def xLearn (w x : Int → Int) (u : Int) : Int → Int :=
  let a := upi x (0 + w (23 + 17 * u + 0)) (x (0 + w (23 + 17 * u + 0)) + 1)
  let b := upi a (10 + w (23 + 17 * u + 0)) (a (10 + w (23 + 17 * u + 0)) + w (23 + 17 * u + 9))
  let c := upi b (20 + w (23 + 17 * u + 0)) (if b (20 + w (23 + 17 * u + 0)) < w (23 + 17 * u + 9) then w (23 + 17 * u + 9) else b (20 + w (23 + 17 * u + 0)))
  let d := upi c (30 + w (23 + 17 * u + 1)) (c (30 + w (23 + 17 * u + 1)) + 1)
  let e := upi d (40 + w (23 + 17 * u + 1)) (d (40 + w (23 + 17 * u + 1)) + w (23 + 17 * u + 9))
  let f := upi e (50 + (4 * w (23 + 17 * u + 0) + w (23 + 17 * u + 1))) (w (23 + 17 * u + 9))
  upi f 400 (f 400 + w (23 + 17 * u + 9))
def xDies (w : Int → Int) (u : Int) : Int → Int :=
  let a := upi (upi w (23 + 17 * u + 9) (w 6 - w (23 + 17 * u + 3))) (23 + 17 * u + 5) (-1)
  let b := upi a 10 (a 10 + (if a (23 + 17 * u + 7) < 5 then mLoss a u (a (23 + 17 * u + 7)) else 0))
  let c := XWt b u
  upi c 12 (c 12 + 1)
theorem v_iand01 {Γ : Cx} {M : MI} {d mc ms : Nat} {Q : PQ} {X : PX} {h : AH} {bc bs pc : Nat} {ls : Lcs} {st : List Value} {a b : Int} (hd : decode M.2.1 pc = .ok (.iand, 1)) (ha : a = 0 ∨ a = 1) (hb : b = 0 ∨ b = 1) (k : V Γ M d mc ms Q X h bc bs (pc + 1) ls (vi (if a = 1 ∧ b = 1 then 1 else 0) :: st)) : V Γ M d mc ms Q X h bc bs pc ls (vi b :: vi a :: st) := by
  refine v_iand hd ?_
  have e : Value.int (Int32.ofInt a &&& Int32.ofInt b) = vi (if a = 1 ∧ b = 1 then 1 else 0) := by
    rcases ha with rfl | rfl <;> rcases hb with rfl | rfl <;> decide
  rw [e]
  exact k
