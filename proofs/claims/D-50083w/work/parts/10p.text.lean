/-! THE TEXT, plain: tokens, words, commands (own) -/
def tSp (tx : Int → Int) (len a : Int) : Int := if mSee tx len a = 32 ∨ mSee tx len a = 10 then a + 1 else a
def tSkip (tx : Int → Int) (len a : Int) : Int := fI 701 (fun _ => tSp tx len) a
def tW1 (tx : Int → Int) (len a : Int) : Int := if 97 ≤ mSee tx len a ∧ mSee tx len a ≤ 122 then a + 1 else a
def tWord (tx : Int → Int) (len a : Int) : Int := fI 701 (fun _ => tW1 tx len) a
def tD1 (tx : Int → Int) (len : Int) (p : Int × Int) : Int × Int := if 48 ≤ mSee tx len p.1 ∧ mSee tx len p.1 ≤ 57 then (p.1 + 1, if 10000 < p.2 then p.2 else 10 * p.2 + mSee tx len p.1 - 48) else p
def tDig (tx : Int → Int) (len : Int) (p : Int × Int) : Int × Int := fI 701 (fun _ => tD1 tx len) p
def tKind (tx : Int → Int) (len f : Int) : Int := if mSee tx len f = -1 then 0 else if 97 ≤ mSee tx len f ∧ mSee tx len f ≤ 122 then 1 else if 48 ≤ mSee tx len f ∧ mSee tx len f ≤ 57 then 2 else if mSee tx len f = 59 then 3 else 4
def tEnd (tx : Int → Int) (len f k : Int) : Int := if 3 ≤ k then f + 1 else if k = 1 then tWord tx len f else if k = 2 then (tDig tx len (f, 0)).1 else f
def tNum (tx : Int → Int) (len f k : Int) : Int := if k = 2 then (tDig tx len (f, 0)).2 else 0
theorem mSee_lt {tx : Int → Int} {len a : Int} (h : mSee tx len a ≠ -1) : a < len := by
  unfold mSee at h
  split at h
  · assumption
  · exact absurd rfl h
theorem mSee_n {tx : Int → Int} {len a : Int} (h : a < len) : 0 ≤ mSee tx len a := by
  unfold mSee
  rw [if_pos h]
  omega
theorem tSkip_r {tx : Int → Int} {len a : Int} (h : a ≤ len) : a ≤ tSkip tx len a ∧ tSkip tx len a ≤ len := by
  unfold tSkip
  refine fI_ind (fun _ b => a ≤ b ∧ b ≤ len) ⟨by omega, h⟩ (fun k b _ hb => ?_) 701 (by omega)
  unfold tSp
  split
  · rename_i q
    have := mSee_lt (tx := tx) (len := len) (a := b) (by omega)
    omega
  · exact hb
theorem tWord_r {tx : Int → Int} {len a : Int} (h : a ≤ len) : a ≤ tWord tx len a ∧ tWord tx len a ≤ len := by
  unfold tWord
  refine fI_ind (fun _ b => a ≤ b ∧ b ≤ len) ⟨by omega, h⟩ (fun k b _ hb => ?_) 701 (by omega)
  unfold tW1
  split
  · rename_i q
    have := mSee_lt (tx := tx) (len := len) (a := b) (by omega)
    omega
  · exact hb
theorem tDig_r {tx : Int → Int} {len a n : Int} (h : a ≤ len) (hn : 0 ≤ n ∧ n ≤ 110000) : (a ≤ (tDig tx len (a, n)).1 ∧ (tDig tx len (a, n)).1 ≤ len) ∧ 0 ≤ (tDig tx len (a, n)).2 ∧ (tDig tx len (a, n)).2 ≤ 110000 := by
  unfold tDig
  refine fI_ind (fun _ (b : Int × Int) => (a ≤ b.1 ∧ b.1 ≤ len) ∧ 0 ≤ b.2 ∧ b.2 ≤ 110000) ⟨⟨by omega, h⟩, hn⟩ (fun k b _ hb => ?_) 701 (by omega)
  unfold tD1
  split
  · rename_i q
    have := mSee_lt (tx := tx) (len := len) (a := b.1) (by omega)
    dsimp only
    split <;> omega
  · exact hb
theorem tKind_r (tx : Int → Int) (len f : Int) : 0 ≤ tKind tx len f ∧ tKind tx len f ≤ 4 := by
  unfold tKind
  (repeat (any_goals split)) <;> omega
/-- one step more -/
theorem tWord_s {tx : Int → Int} {len a : Int} (h : a ≤ len ∧ 0 ≤ a ∧ len ≤ 700) (q : 97 ≤ mSee tx len a ∧ mSee tx len a ≤ 122) : a + 1 ≤ tWord tx len a := by
  have hl := mSee_lt (tx := tx) (len := len) (a := a) (by omega)
  unfold tWord
  have h1 : fI 1 (fun _ => tW1 tx len) a = a + 1 := by
    show tW1 tx len a = a + 1
    unfold tW1
    rw [if_pos q]
  refine (fI_indb (m := 701) (fun k b => (k = 0 ∧ b = a) ∨ a + 1 ≤ b) (Or.inl ⟨rfl, rfl⟩) (fun k b h0 hk hb => ?_) 701 (by omega) (by omega)).elim (fun z => by omega) id
  unfold tW1
  rcases hb with ⟨rfl, rfl⟩ | hb
  · rw [if_pos q]; right; omega
  · right; split <;> omega
theorem tDig_s {tx : Int → Int} {len a n : Int} (q : 48 ≤ mSee tx len a ∧ mSee tx len a ≤ 57) : a + 1 ≤ (tDig tx len (a, n)).1 := by
  unfold tDig
  refine (fI_indb (m := 701) (fun k (b : Int × Int) => (k = 0 ∧ b = (a, n)) ∨ a + 1 ≤ b.1) (Or.inl ⟨rfl, rfl⟩) (fun k b h0 hk hb => ?_) 701 (by omega) (by omega)).elim (fun z => by omega) id
  unfold tD1
  rcases hb with ⟨rfl, rfl⟩ | hb
  · rw [if_pos q]; right; dsimp only; omega
  · right; split <;> first | omega | (dsimp only; omega)
/-- the state of the scanner: at, from, token, number -/
abbrev TS := Int × Int × Int × Int
def tGo (tx : Int → Int) (len a : Int) : TS := (tEnd tx len (tSkip tx len a) (tKind tx len (tSkip tx len a)), tSkip tx len a, tKind tx len (tSkip tx len a), tNum tx len (tSkip tx len a) (tKind tx len (tSkip tx len a)))
theorem tGo_r {tx : Int → Int} {len a : Int} (h : 0 ≤ a ∧ a ≤ len ∧ len ≤ 700) : (a ≤ (tGo tx len a).2.1 ∧ (tGo tx len a).2.1 ≤ (tGo tx len a).1 ∧ (tGo tx len a).1 ≤ len) ∧ (0 ≤ (tGo tx len a).2.2.1 ∧ (tGo tx len a).2.2.1 ≤ 4) ∧ (0 ≤ (tGo tx len a).2.2.2 ∧ (tGo tx len a).2.2.2 ≤ 110000) ∧ ((tGo tx len a).2.2.1 ≠ 0 → (tGo tx len a).2.1 + 1 ≤ (tGo tx len a).1) := by
  have hf := tSkip_r (tx := tx) h.2.1
  have hk := tKind_r tx len (tSkip tx len a)
  unfold tGo
  dsimp only
  generalize hfe : tSkip tx len a = f at hf hk ⊢
  have hd := tDig_r (tx := tx) (n := 0) hf.2 (by omega)
  have hw := tWord_r (tx := tx) hf.2
  have hlt : tKind tx len f ≠ 0 → f < len := fun z => by
    refine mSee_lt (tx := tx) (fun y => z ?_)
    unfold tKind
    rw [if_pos y]
  have h1 : tKind tx len f = 1 → 97 ≤ mSee tx len f ∧ mSee tx len f ≤ 122 := fun z => by
    unfold tKind at z
    revert z
    (repeat (any_goals split)) <;> intro z <;> omega
  have h2 : tKind tx len f = 2 → 48 ≤ mSee tx len f ∧ mSee tx len f ≤ 57 := fun z => by
    unfold tKind at z
    revert z
    (repeat (any_goals split)) <;> intro z <;> omega
  generalize hke : tKind tx len f = k at hk hlt h1 h2 ⊢
  unfold tEnd tNum
  by_cases q3 : 3 ≤ k
  · rw [if_pos q3, if_neg (by omega)]
    have := hlt (by omega)
    exact ⟨⟨by omega, by omega, by omega⟩, by omega, by omega, fun _ => by omega⟩
  · rw [if_neg q3]
    by_cases q1 : k = 1
    · rw [if_pos q1, if_neg (by omega)]
      have := tWord_s (tx := tx) (len := len) (a := f) (by omega) (h1 q1)
      exact ⟨⟨by omega, by omega, by omega⟩, by omega, by omega, fun _ => by omega⟩
    · rw [if_neg q1]
      by_cases q2 : k = 2
      · rw [if_pos q2, if_pos q2]
        have := tDig_s (tx := tx) (len := len) (a := f) (n := 0) (h2 q2)
        exact ⟨⟨by omega, by omega, by omega⟩, by omega, by omega, fun _ => by omega⟩
      · rw [if_neg q2, if_neg q2]
        exact ⟨⟨by omega, by omega, by omega⟩, by omega, by omega, fun z => absurd z (by omega)⟩
/-! words -/
def wS (w : Int) : Int := if w = 0 then 0 else if w = 1 then 6 else if w = 2 then 10 else if w = 3 then 16 else if w = 4 then 21 else 26
def wL (w : Int) : Int := if w = 0 then 5 else if w = 1 then 3 else if w = 2 then 5 else if w = 3 then 4 else if w = 4 then 4 else 4
theorem wTabN : ∀ w, w < 6 → ∀ d, d < 6 → d ≤ (wL (w : Nat)).toNat → (mWords (wS (w : Nat) + (d : Nat)) = 32 ↔ d = (wL (w : Nat)).toNat) ∧ 32 ≤ mWords (wS (w : Nat) + (d : Nat)) ∧ mWords (wS (w : Nat) + (d : Nat)) ≤ 122 := by decide
theorem wL_r (w : Int) : 3 ≤ wL w ∧ wL w ≤ 5 := by unfold wL; (repeat (any_goals split)) <;> omega
theorem wS_r (w : Int) : 0 ≤ wS w ∧ wS w ≤ 26 := by unfold wS; (repeat (any_goals split)) <;> omega
theorem wS_s {w : Int} (h : 0 ≤ w ∧ w < 5) : wS w + (wL w + 1) = wS (w + 1) := by
  rcases (show w = 0 ∨ w = 1 ∨ w = 2 ∨ w = 3 ∨ w = 4 by omega) with rfl | rfl | rfl | rfl | rfl <;> rfl
theorem wTab {w d : Int} (hw : 0 ≤ w ∧ w ≤ 5) (hd : 0 ≤ d ∧ d ≤ wL w) : (mWords (wS w + d) = 32 ↔ d = wL w) ∧ 32 ≤ mWords (wS w + d) ∧ mWords (wS w + d) ≤ 122 := by
  obtain ⟨a, rfl⟩ := Int.eq_ofNat_of_zero_le hw.1
  obtain ⟨b, rfl⟩ := Int.eq_ofNat_of_zero_le hd.1
  have hl := wL_r (a : Int)
  have := wTabN a (by omega) b (by omega) (by omega)
  refine ⟨this.1.trans ?_, this.2⟩
  omega
/-- the text from f on is the word's beginning of k signs -/
def tEq (tx : Int → Int) (f w k : Int) : Int := fI k (fun j b => if b = 1 ∧ tx (f + j) = mWords (wS w + j) then 1 else 0) 1
theorem tEq_s {tx : Int → Int} {f w k : Int} (hk : 0 ≤ k) : tEq tx f w (k + 1) = if tEq tx f w k = 1 ∧ tx (f + k) = mWords (wS w + k) then 1 else 0 := fI_s hk
theorem tEq_r {tx : Int → Int} {f w k : Int} (hk : 0 ≤ k) : tEq tx f w k = 0 ∨ tEq tx f w k = 1 := by
  unfold tEq
  refine fI_ind (fun _ b => b = 0 ∨ b = 1) (Or.inr rfl) (fun k b _ _ => ?_) k hk
  split <;> omega
abbrev tIsW (tx : Int → Int) (f a w : Int) : Prop := a - f = wL w ∧ tEq tx f w (wL w) = 1
def tWd (tx : Int → Int) (s : TS) : Int := if s.2.2.1 = 1 then fst (fun w => tIsW tx s.2.1 s.1 w) 6 else -1
theorem fst_r {p : Int → Prop} [DecidablePred p] {k : Int} (hk : 0 ≤ k) : fst p k = -1 ∨ 0 ≤ fst p k ∧ fst p k < k := by
  unfold fst
  refine fI_ind (fun k a => a = -1 ∨ 0 ≤ a ∧ a < k) (Or.inl rfl) (fun k a h0 h => ?_) k hk
  split <;> omega
theorem tWd_r (tx : Int → Int) (s : TS) : -1 ≤ tWd tx s ∧ tWd tx s ≤ 5 := by
  unfold tWd
  split
  · have := fst_r (p := fun w => tIsW tx s.2.1 s.1 w) (k := 6) (by omega)
    omega
  · omega
/-! commands -/
abbrev tBad (s : TS) (lo hi : Int) : Prop := ¬ (s.2.2.1 = 2 ∧ lo ≤ s.2.2.2 ∧ s.2.2.2 ≤ hi)
def tBadC (s : TS) : Int := if s.2.2.1 = 2 then 2 else 1
/-- error and its place; the scanner behind it; the act with its numbers -/
abbrev PC := Int × Int × TS × Int × Int × Int × Int
def pEr (e : Int) (s : TS) : PC := (e, s.2.1, s, 0, 0, 0, 0)
def pEnd (tx : Int → Int) (len : Int) (s : TS) (w a b c : Int) : PC := if s.2.2.1 = 3 then (0, -1, tGo tx len s.1, w, a, b, c) else pEr 1 s
def pW3 (tx : Int → Int) (len : Int) (s : TS) (a b : Int) : PC := if s.2.2.1 = 2 then (if tBad s 0 99 then pEr (tBadC s) s else pEnd tx len (tGo tx len s.1) 0 a b s.2.2.2) else pEnd tx len s 0 a b 0
def pW2 (tx : Int → Int) (len : Int) (s : TS) (a : Int) : PC := if tBad s 1 3 then pEr (tBadC s) s else pW3 tx len (tGo tx len s.1) a s.2.2.2
def pW1 (tx : Int → Int) (len : Int) (s : TS) : PC := if tBad s 0 7 then pEr (tBadC s) s else pW2 tx len (tGo tx len s.1) s.2.2.2
def pO1 (tx : Int → Int) (len : Int) (s : TS) (w : Int) : PC := if tBad s (if w = 4 then 1 else 0) (if w = 4 then 60 else if w = 1 then 98 else 11) then pEr (tBadC s) s else pEnd tx len (tGo tx len s.1) w s.2.2.2 0 0
def pCmd (tx : Int → Int) (len n : Int) (s : TS) : PC :=
  if ¬ (0 ≤ tWd tx s ∧ tWd tx s ≤ 4) then pEr 1 s
  else if ¬ n < 60 then pEr 3 s
  else if tWd tx s = 0 then pW1 tx len (tGo tx len s.1)
  else pO1 tx len (tGo tx len s.1) (tWd tx s)
def upc (f : Int → Int × Int × Int × Int) (i : Int) (v : Int × Int × Int × Int) : Int → Int × Int × Int × Int := fun j => if j = i then v else f j
/-- all commands: error and place, the scanner, how many, the commands -/
abbrev PA := Int × Int × TS × Int × (Int → Int × Int × Int × Int)
def pStep (tx : Int → Int) (len : Int) (p : PA) : PA :=
  if p.1 = 0 ∧ p.2.2.1.2.2.1 ≠ 0 then
    (let q := pCmd tx len p.2.2.2.1 p.2.2.1
     if q.1 = 0 then (0, -1, q.2.2.1, p.2.2.2.1 + 1, upc p.2.2.2.2 p.2.2.2.1 q.2.2.2) else (q.1, q.2.1, q.2.2.1, p.2.2.2.1, p.2.2.2.2))
  else p
def pAll (tx : Int → Int) (len : Int) : PA := fI 62 (fun _ => pStep tx len) (0, -1, tGo tx len 0, 0, fun _ => (0, 0, 0, 0))
theorem tBadC_r (s : TS) : 1 ≤ tBadC s ∧ tBadC s ≤ 2 := by unfold tBadC; split <;> omega
/-- a command read into its row -/
def pGood (cm cm' : Int → Int) (n w a b c : Int) : Prop := cm' (4 * n) = w ∧ cm' (4 * n + 1) = a ∧ (w = 0 → cm' (4 * n + 2) = b ∧ cm' (4 * n + 3) = c) ∧ ∀ i, i < 4 * n → cm' i = cm i
theorem pGood4 (cm : Int → Int) (n w' w a b c : Int) (e : w' = w) : pGood cm (upi (upi (upi (upi cm (4 * n) w') (4 * n + 1) a) (4 * n + 2) b) (4 * n + 3) c) n w a b c := by
  subst e
  refine ⟨?_, ?_, fun _ => ⟨?_, ?_⟩, fun i hi => ?_⟩
  · rw [upi_n (by omega), upi_n (by omega), upi_n (by omega), upi_s]
  · rw [upi_n (by omega), upi_n (by omega), upi_s]
  · rw [upi_n (by omega), upi_s]
  · rw [upi_s]
  · rw [upi_n (by omega), upi_n (by omega), upi_n (by omega), upi_n (by omega)]
theorem pGood2 (cm : Int → Int) (n w a b c : Int) (h : w ≠ 0) : pGood cm (upi (upi cm (4 * n) w) (4 * n + 1) a) n w a b c := by
  refine ⟨?_, ?_, fun z => absurd z h, fun i hi => ?_⟩
  · rw [upi_n (by omega), upi_s]
  · rw [upi_s]
  · rw [upi_n (by omega), upi_n (by omega)]
/-- what is read is in its ranges -/
def pIn (w a b c : Int) : Prop := (0 ≤ w ∧ w ≤ 4) ∧ (w = 0 → (0 ≤ a ∧ a ≤ 7) ∧ (1 ≤ b ∧ b ≤ 3) ∧ 0 ≤ c ∧ c ≤ 99) ∧ (w = 1 → 0 ≤ a ∧ a ≤ 98) ∧ (w = 2 ∨ w = 3 → 0 ≤ a ∧ a ≤ 11) ∧ (w = 4 → 1 ≤ a ∧ a ≤ 60)
theorem tBad_n {s : TS} {lo hi : Int} (h : ¬ tBad s lo hi) : s.2.2.1 = 2 ∧ lo ≤ s.2.2.2 ∧ s.2.2.2 ≤ hi := Classical.byContradiction h
/-- a command: an error with its code; or it is in its ranges and three signs on -/
theorem pEnd_r {tx : Int → Int} {len w a b c : Int} {s : TS} (hs : 0 ≤ s.1 ∧ s.1 ≤ len ∧ len ≤ 700) (hp : pIn w a b c) : (0 < (pEnd tx len s w a b c).1 ∧ (pEnd tx len s w a b c).1 ≤ 9) ∨ ((pEnd tx len s w a b c).1 = 0 ∧ (pEnd tx len s w a b c).2.1 = -1 ∧ s.2.2.1 = 3 ∧ (pEnd tx len s w a b c).2.2.1 = tGo tx len s.1 ∧ (pEnd tx len s w a b c).2.2.2 = (w, a, b, c)) := by
  unfold pEnd
  split
  · rename_i h
    exact Or.inr ⟨rfl, rfl, h, rfl, rfl⟩
  · exact Or.inl ⟨by show (0 : Int) < 1; omega, by show (1 : Int) ≤ 9; omega⟩
