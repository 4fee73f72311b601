/-! ACTS ON A BOOK's ROW, plain (own): the row, the rows kept, how many, the accounts -/
def aR (w as : Int → Int) (k a b : Int) : Int := if k = 0 then rWrite w as 5 a b else if k = 1 then rDie w a else if k = 2 then rReset w a else if k = 3 then rBury w as 5 a else rDays w
def aW (w as : Int → Int) (k a b c : Int) : Int → Int :=
  if k = 0 then mWrites (mHist w 0 a b c) as 5 a b c (w 7) else if k = 1 then mDies (mHist w 1 a (-1) (-1)) a else if k = 2 then mResets (mHist w 2 a (-1) (-1)) a
  else if k = 3 then (mBuries (mHist w 3 a (-1) (-1)) as 5 a).getD (mHist w 3 a (-1) (-1)) else mDays (mHist w 4 a (-1) (-1)) as 5 a
theorem aR_as {w as as' : Int → Int} {k a b : Int} : aR w as k a b = aR w as' k a b := by
  unfold aR rWrite rBury mToBury
  rw [mWhyWrite_as (as := as) (as' := as') (by decide), mBuries_as (as := as) (as' := as') (by decide)]
theorem aW_as {w as as' : Int → Int} {k a b c : Int} : aW w as k a b c = aW w as' k a b c := by
  unfold aW
  rw [mWrites_as (as := as) (as' := as') (by decide), mBuries_as (as := as) (as' := as') (by decide), mDays_as (as := as) (as' := as') (by decide)]
theorem aR_r {w as : Int → Int} {k a b : Int} : 0 ≤ aR w as k a b ∧ aR w as k a b ≤ 7 := by
  have hw : mWhyWrite w as 5 a b (w 7) = 0 ∨ mWhyWrite w as 5 a b (w 7) = 1 := by unfold mWhyWrite; split <;> omega
  unfold aR rWrite rDie rReset rBury rDays
  (repeat (any_goals split)) <;> omega
abbrev BS := (Int → Int) × (Int → Int) × Int × (Int → Int)
def bAct (k a b c : Int) (s : BS) : Int × BS :=
  if aR s.1 s.1 k a b = 0 then (0, aW s.1 s.1 k a b c, kUndos s.1 s.2.1 s.2.2.1, kMany s.2.2.1, upi s.2.2.2 0 (s.2.2.2 0 + 1))
  else (aR s.1 s.1 k a b, s.1, s.2.1, s.2.2.1, upi s.2.2.2 (aR s.1 s.1 k a b) (s.2.2.2 (aR s.1 s.1 k a b) + 1))
abbrev bThere (w : Int → Int) (k a : Int) : Prop := (k = 1 → a < w 7) ∧ (k = 2 ∨ k = 3 → a < w 0)
/-- one command of a script: whether it goes on, how many are done -/
def bStep (cm : Int → Int × Int × Int × Int) (j : Int) (p : Int × Int × BS) : Int × Int × BS :=
  if p.1 = 1 then p
  else if bThere p.2.2.1 (cm j).1 (cm j).2.1 then
    (if (bAct (cm j).1 (cm j).2.1 (cm j).2.2.1 (cm j).2.2.2 p.2.2).1 = 0 then (0, p.2.1 + 1, (bAct (cm j).1 (cm j).2.1 (cm j).2.2.1 (cm j).2.2.2 p.2.2).2) else (1, p.2.1, (bAct (cm j).1 (cm j).2.1 (cm j).2.2.1 (cm j).2.2.2 p.2.2).2))
  else (1, p.2.1, p.2.2)
def bRun (cm : Int → Int × Int × Int × Int) (n : Int) (s : BS) : Int × Int × BS := fI n (bStep cm) (0, 0, s)
theorem bRun_s {cm : Int → Int × Int × Int × Int} {n : Int} {s : BS} (hn : 0 ≤ n) : bRun cm (n + 1) s = bStep cm n (bRun cm n s) := fI_s hn
theorem bRun_stop {cm : Int → Int × Int × Int × Int} {k n : Int} {s : BS} {q : Int × Int × BS} (hk : 0 ≤ k) (hn : k ≤ n) (h : bRun cm k s = q) (h1 : q.1 = 1) : bRun cm n s = q :=
  fI_stay (f := bStep cm) hk hn h (fun j _ _ => by unfold bStep; rw [if_pos h1])
/-- the row an act leaves behind is in order -/
theorem aW_ok {w as : Int → Int} {k a b c cc : Int} (h : ROK w cc) (hc : cc + 78000 ≤ 14000000) (hp : pIn k a b c) (ht : bThere w k a) (h0 : aR w as k a b = 0) : ROK (aW w as k a b c) (cc + 78000) := by
  have h11 := h.s11
  have h7 := h.s7
  have hs0 := h.s0
  have hc0 := h.c0
  obtain ⟨hk, h0', h1', h2', h4'⟩ := hp
  have h150 : w 11 < 150 := by
    refine Int.lt_of_not_ge fun q => ?_
    unfold aR rWrite rDie rReset rBury rDays at h0
    have e : w 11 = 150 := by omega
    simp only [e, if_true] at h0
    revert h0
    (repeat (any_goals split)) <;> omega
  have hN : ∀ k, w 11 ≠ 150 := fun _ => by omega
  unfold aW
  by_cases q0 : k = 0
  · rw [if_pos q0]
    obtain ⟨ha, hb, hcc⟩ := h0' q0
    have hhk := mHist_hk (w := w) (a := 0) (b := a) (c := b) (d := c) h11.1
    have hh7 := hhk 7 (by omega) (by omega)
    have h98 : w 7 ≤ 98 ∧ mWhyWrite w as 5 a b (w 7) = 0 := by
      unfold aR at h0
      rw [if_pos q0, rWrite, if_neg (by omega)] at h0
      split at h0
      · omega
      · exact ⟨by omega, h0⟩
    exact (mWrites_ok (mHist_ok h h150) (by omega) (by rw [hh7]; omega) ha hb hcc (by omega) (by rw [mWhyWrite_congr hhk h7 (by omega)]; exact h98.2)).1.mono (by omega) (by omega)
  · rw [if_neg q0]
    by_cases q1 : k = 1
    · rw [if_pos q1]
      have := h1' q1
      have := ht.1 q1
      exact (mDies_ok (mHist_ok h h150) (by rw [mHist_hk h11.1 7 (by omega) (by omega)]; omega) (by omega)).mono (by omega) (by omega)
    · rw [if_neg q1]
      by_cases q2 : k = 2
      · rw [if_pos q2]
        have := h2' (Or.inl q2)
        exact (mResets_ok (mHist_ok h h150) (by omega) (by omega)).mono (by omega) (by omega)
      · rw [if_neg q2]
        by_cases q3 : k = 3
        · rw [if_pos q3]
          have := h2' (Or.inr q3)
          cases e : mBuries (mHist w 3 a (-1) (-1)) as 5 a with
          | none => exact (mHist_ok h h150).mono (by omega) (by omega)
          | some v => exact (mBuries_inv (mHist_ok h h150) (by omega) (by omega) e).1.mono (by omega) (by omega)
        · rw [if_neg q3]
          have := h4' (by omega)
          exact (mDays_inv (m := a) (mHist_ok h h150) (by omega) a (by omega) (Int.le_refl _)).1.mono (by omega) (by omega)
