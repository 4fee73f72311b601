/-! the beginning, what is kept, the history (own) -/
set_option maxRecDepth 100000
def mBegin (w : Int → Int) : Int → Int := fun i => if i < 6 ∨ 2462 ≤ i then w i else if 13 ≤ i ∧ i < 18 then 1000 else if 1706 ≤ i ∧ i < 1862 ∧ (i - 1706) % 13 = 0 then -1 else 0
theorem mBegin_ok {w : Int → Int} {c c' : Int} (h : ROK w c) (hc : 0 ≤ c' ∧ c' ≤ 14000000) : ROK (mBegin w) c' := by
  have s0 := h.s0
  have s1 := h.s1
  have s2 := h.s2
  have s3 := h.s3
  have s4 := h.s4
  have s5 := h.s5
  have lo : ∀ i, i < 6 → mBegin w i = w i := fun i hi => if_pos (Or.inl hi)
  have ze : ∀ i, 6 ≤ i → i < 2462 → ¬ (13 ≤ i ∧ i < 18) → ¬ (1706 ≤ i ∧ i < 1862 ∧ (i - 1706) % 13 = 0) → mBegin w i = 0 := fun i h1 h2 h3 h4 => by
    unfold mBegin
    rw [if_neg (by omega), if_neg h3, if_neg h4]
  refine ⟨hc, by rw [lo 0 (by omega)]; omega, by rw [lo 1 (by omega)]; omega, by rw [lo 2 (by omega)]; omega, by rw [lo 3 (by omega)]; omega, by rw [lo 4 (by omega)]; omega, by rw [lo 5 (by omega)]; omega,
    by rw [ze 6 (by omega) (by omega) (by omega) (by omega)]; omega, by rw [ze 7 (by omega) (by omega) (by omega) (by omega)]; omega, by rw [ze 8 (by omega) (by omega) (by omega) (by omega)]; omega, by rw [ze 9 (by omega) (by omega) (by omega) (by omega)]; omega, by rw [ze 10 (by omega) (by omega) (by omega) (by omega)]; omega, by rw [ze 11 (by omega) (by omega) (by omega) (by omega)]; omega, by rw [ze 12 (by omega) (by omega) (by omega) (by omega)]; omega, ?_, ?_, ?_, ?_, ?_, ?_, ?_⟩
  · intro g hg
    have e : mBegin w (13 + g) = 1000 := by
      unfold mBegin
      rw [if_neg (by omega), if_pos (by omega)]
    rw [e, ze (18 + g) (by omega) (by omega) (by omega) (by omega)]
    omega
  · intro x hx
    rw [ze 7 (by omega) (by omega) (by omega) (by omega)] at hx
    omega
  · intro x g hx
    rw [ze 7 (by omega) (by omega) (by omega) (by omega)] at hx
    omega
  · intro z hz
    have e : mBegin w (1706 + 13 * z + 0) = -1 := by
      unfold mBegin
      rw [if_neg (by omega), if_neg (by omega), if_pos (by omega)]
    rw [e, ze (1706 + 13 * z + 1) (by omega) (by omega) (by omega) (by omega), ze (1706 + 13 * z + 2) (by omega) (by omega) (by omega) (by omega), ze (1706 + 13 * z + 3) (by omega) (by omega) (by omega) (by omega), lo 1 (by omega), lo 2 (by omega), lo 0 (by omega)]
    refine ⟨by omega, by omega, by omega, by omega, by omega, fun _ => rfl, fun _ => rfl⟩
  · intro z k hz hk
    rw [ze (1706 + 13 * z + 3) (by omega) (by omega) (by omega) (by omega)] at hk
    omega
  · intro x hx
    have h7 : mBegin w 7 = 0 := ze 7 (by omega) (by omega) (by omega) (by omega)
    exact ze _ (by omega) (by omega) (by omega) (by omega)
  · intro i hi
    unfold mBegin
    rw [if_pos (by omega)]
    exact h.sup i hi
def kShift (un : Int → Int) : Int → Int := fun i => if 0 ≤ i ∧ i < 17234 then un (i + 2462) else un i
/-- the row is kept: the kept rows, how many -/
def kUndos (w un : Int → Int) (m : Int) : Int → Int := if m = 8 then cpy w 0 (kShift un) (2462 * 7) else cpy w 0 un (2462 * m)
def kMany (m : Int) : Int := if m = 8 then 8 else m + 1
def mHist (w : Int → Int) (a b c d : Int) : Int → Int :=
  let b1 := upi w (1862 + 4 * w 11) a
  let b2 := upi b1 (1862 + 4 * w 11 + 1) b
  let b3 := upi b2 (1862 + 4 * w 11 + 2) c
  let b4 := upi b3 (1862 + 4 * w 11 + 3) d
  upi b4 11 (b4 11 + 1)
theorem mHist_fr {w : Int → Int} {a b c d : Int} (i : Int) (h : i ≠ 11 ∧ i ≠ 1862 + 4 * w 11 ∧ i ≠ 1862 + 4 * w 11 + 1 ∧ i ≠ 1862 + 4 * w 11 + 2 ∧ i ≠ 1862 + 4 * w 11 + 3) : mHist w a b c d i = w i := by
  dsimp only [mHist]
  rw [upi_n (by omega), upi_n (by omega), upi_n (by omega), upi_n (by omega), upi_n (by omega)]
theorem mHist_v {w : Int → Int} {a b c d : Int} (h : 0 ≤ w 11) : mHist w a b c d 11 = w 11 + 1 ∧ mHist w a b c d (1862 + 4 * w 11) = a ∧ mHist w a b c d (1862 + 4 * w 11 + 1) = b ∧ mHist w a b c d (1862 + 4 * w 11 + 2) = c ∧ mHist w a b c d (1862 + 4 * w 11 + 3) = d := by
  dsimp only [mHist]
  refine ⟨?_, ?_, ?_, ?_, ?_⟩
  all_goals simp (disch := omega) only [upi_n, upi_s]
-- printed
theorem mHist_ok {w : Int → Int} {a b d e c : Int} (h : ROK w c) (h150 : w 11 < 150) : ROK (mHist w a b d e) (c) := by
  have hp := h.s11
  have fr := @mHist_fr w a b d e
  have v11 := (mHist_v (w := w) (a := a) (b := b) (c := d) (d := e) hp.1).1
  have hc0 := h.c0
  have hs0 := h.s0
  have hs1 := h.s1
  have hs2 := h.s2
  have hs3 := h.s3
  have hs4 := h.s4
  have hs5 := h.s5
  have hs6 := h.s6
  have hs7 := h.s7
  have hs8 := h.s8
  have hs9 := h.s9
  have hs10 := h.s10
  have hs11 := h.s11
  have hs12 := h.s12
  have f7 : (mHist w a b d e) 7 = w 7 := by exact fr 7 (by omega)
  have f0 : (mHist w a b d e) 0 = w 0 := fr 0 (by omega)
  have f6 : (mHist w a b d e) 6 = w 6 := by exact fr 6 (by omega)
  refine ⟨?_, ?_, ?_, ?_, ?_, ?_, ?_, ?_, ?_, ?_, ?_, ?_, ?_, ?_, ?_, ?_, ?_, ?_, ?_, ?_, ?_⟩
  · -- c0
    omega
  · -- s0
    rw [fr 0 (by omega)]
    omega
  · -- s1
    rw [fr 1 (by omega)]
    omega
  · -- s2
    rw [fr 2 (by omega)]
    omega
  · -- s3
    rw [fr 3 (by omega)]
    omega
  · -- s4
    rw [fr 4 (by omega)]
    omega
  · -- s5
    rw [fr 5 (by omega)]
    omega
  · -- s6
    rw [fr 6 (by omega)]
    omega
  · -- s7
    rw [fr 7 (by omega)]
    omega
  · -- s8
    rw [fr 8 (by omega)]
    omega
  · -- s9
    rw [fr 9 (by omega)]
    omega
  · -- s10
    rw [fr 10 (by omega)]
    omega
  · -- s11
    rw [v11]
    omega
  · -- s12
    rw [fr 12 (by omega)]
    omega
  · -- g
    exact fun g hg => by rw [fr (13 + g) (by omega), fr (18 + g) (by omega)]; have := h.g g hg; omega
  · -- u
    exact fun x hx => by rw [f7] at hx; rw [f0, f6]; have := h.u x hx; simp (disch := omega) only [fr]; omega
  · -- t
    exact fun x g hx hg => by rw [f7] at hx; rw [fr (23 + 17 * x + (10 + g)) (by omega)]; exact h.t x g hx hg
  · -- z
    exact fun x hx => by rw [f0]; have := h.z x hx; simp (disch := omega) only [fr]; omega
  · -- p
    exact fun x k hx hk => by rw [f7]; have hm := h.zM x hx; have hf := h.zF x hx; rw [fr (1706 + 13 * x + 3) (by omega)] at hk; rw [fr (1706 + 13 * x + 4 + k) (by omega)]; exact h.p x k hx hk
  · -- n
    exact fun x hx => by rw [f7] at hx; rw [fr (23 + 17 * x + 5) (by omega)]; exact h.n x hx
  · -- sup
    exact fun i hi => by rw [fr i (by omega)]; exact h.sup i hi
