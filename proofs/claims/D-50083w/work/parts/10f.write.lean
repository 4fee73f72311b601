/-! writes, the beginning, what is kept (own) -/
set_option maxRecDepth 100000
theorem ite_iff {P Q : Prop} [Decidable P] [Decidable Q] (h : P ↔ Q) (a b : Int) : (if P then a else b) = (if Q then a else b) := by
  by_cases p : P
  · rw [if_pos p, if_pos (h.mp p)]
  · rw [if_neg p, if_neg (fun q => p (h.mpr q))]
theorem zNear_congr {w v : Int → Int} {win size but m : Int} (h1 : v 1 = w 1) (hz : ∀ z, 0 ≤ z → z < m → v (1706 + 13 * z + 0) = w (1706 + 13 * z + 0) ∧ v (1706 + 13 * z + 1) = w (1706 + 13 * z + 1)) (h0 : 0 ≤ m) : zNear v win size but m = zNear w win size but m := by
  have key : ∀ k, 0 ≤ k → k ≤ m → zNear v win size but k = zNear w win size but k ∧ -1 ≤ zNear w win size but k ∧ zNear w win size but k < k := by
    intro k hk
    obtain ⟨n, rfl⟩ := Int.eq_ofNat_of_zero_le hk
    clear hk
    induction n with
    | zero => exact fun _ => ⟨rfl, Int.le_refl _, by show (-1 : Int) < 0; omega⟩
    | succ n ih =>
      intro hm
      obtain ⟨i1, i2, i3⟩ := ih (by omega)
      rw [show ((n + 1 : Nat) : Int) = (n : Int) + 1 from rfl, zNear_s (by omega), zNear_s (by omega), i1]
      generalize zNear w win size but (n : Int) = a at i2 i3
      have e1 := hz (n : Int) (by omega) (by omega)
      have ap : mApart v (n : Int) win = mApart w (n : Int) win := by unfold mApart; rw [e1.1]
      refine ⟨ite_iff ?_ _ _, by split <;> omega, by split <;> omega⟩
      unfold zEl
      rw [h1, e1.1, e1.2, ap]
      refine and_congr Iff.rfl (and_congr Iff.rfl ?_)
      by_cases ea : a = -1
      · exact ⟨fun _ => Or.inl ea, fun _ => Or.inl ea⟩
      · have e2 := hz a (by omega) (by omega)
        have ap2 : mApart v a win = mApart w a win := by unfold mApart; rw [e2.1]
        rw [ap2, e2.1]
  exact (key m h0 (Int.le_refl _)).1
theorem mZoneFor_congr {w v : Int → Int} {win size but : Int} (h0 : v 0 = w 0) (h1 : v 1 = w 1) (hz : ∀ z, 0 ≤ z → z < w 0 → v (1706 + 13 * z + 0) = w (1706 + 13 * z + 0) ∧ v (1706 + 13 * z + 1) = w (1706 + 13 * z + 1)) (hp : 0 ≤ w 0) : mZoneFor v win size but = mZoneFor w win size but := by
  unfold mZoneFor
  have a1 : zEx v win size but (w 0) = zEx w win size but (w 0) := fI_congr fun k a h2 h3 => by
    have := hz k h2 h3
    exact ite_iff (by unfold zEl; rw [h1, this.1, this.2]) _ _
  have a2 : zFree v size but (w 0) = zFree w size but (w 0) := fI_congr fun k a h2 h3 => by
    have := hz k h2 h3
    exact ite_iff (by unfold zEl; rw [h1, this.1, this.2]) _ _
  rw [h0, a1, a2, zNear_congr h1 hz hp]
def mWhyWrite (w as : Int → Int) (way wr sz o : Int) : Int := if mZoneFor w ((w 6 + mLed w as (mLeader w way) wr sz o).tdiv (w 2)) sz (-1) = -1 then 1 else 0
def mTold (w : Int → Int) (u wr sz k : Int) : Int → Int := fI k (fun g v => upi v (23 + 17 * u + 10 + g) (mTells v g wr sz)) w
theorem mTold_s {w : Int → Int} {u wr sz k : Int} (hk : 0 ≤ k) : mTold w u wr sz (k + 1) = upi (mTold w u wr sz k) (23 + 17 * u + 10 + k) (mTells (mTold w u wr sz k) k wr sz) := fI_s hk
/-- the new unit, but not yet put -/
def mNew (a : Int → Int) (u wr sz fa life ld o : Int) : Int → Int :=
  let b1 := upi a (23 + 17 * u + 0) wr
  let b2 := upi b1 (23 + 17 * u + 1) sz
  let b3 := upi b2 (23 + 17 * u + 2) fa
  let b4 := upi b3 (23 + 17 * u + 3) (b3 6)
  let b5 := upi b4 (23 + 17 * u + 4) 1
  let b6 := upi b5 (23 + 17 * u + 6) (b5 6 + life)
  let b7 := upi b6 (23 + 17 * u + 7) ld
  let b8 := upi b7 (23 + 17 * u + 8) 0
  let b9 := upi b8 (23 + 17 * u + 9) (-1)
  let b10 := upi b9 (23 + 17 * u + 15) (-1)
  let b11 := upi b10 (23 + 17 * u + 16) o
  upi b11 7 (b11 7 + 1)
def mWrites (w as : Int → Int) (way wr sz fa o : Int) : Int → Int :=
  let b := mNew (mTold w (w 7) wr sz 5) (w 7) wr sz fa (mLed w as (mLeader w way) wr sz o) (mLeader w way) o
  let win := (b (23 + 17 * (w 7) + 6)).tdiv (b 2)
  mPuts b (w 7) (mZoneFor b win sz (-1)) win
theorem mNew_v {a : Int → Int} {u wr sz fa life ld o : Int} (hu : 0 ≤ u) : (∀ i, i ≠ 7 ∧ (i < 23 + 17 * u ∨ i = 23 + 17 * u + 5 ∨ (23 + 17 * u + 10 ≤ i ∧ i ≤ 23 + 17 * u + 14) ∨ 23 + 17 * u + 17 ≤ i) → mNew a u wr sz fa life ld o i = a i) ∧ mNew a u wr sz fa life ld o 7 = a 7 + 1 ∧
    mNew a u wr sz fa life ld o (23 + 17 * u + 0) = wr ∧ mNew a u wr sz fa life ld o (23 + 17 * u + 1) = sz ∧ mNew a u wr sz fa life ld o (23 + 17 * u + 2) = fa ∧ mNew a u wr sz fa life ld o (23 + 17 * u + 3) = a 6 ∧ mNew a u wr sz fa life ld o (23 + 17 * u + 4) = 1 ∧
    mNew a u wr sz fa life ld o (23 + 17 * u + 6) = a 6 + life ∧ mNew a u wr sz fa life ld o (23 + 17 * u + 7) = ld ∧ mNew a u wr sz fa life ld o (23 + 17 * u + 8) = 0 ∧ mNew a u wr sz fa life ld o (23 + 17 * u + 9) = -1 ∧ mNew a u wr sz fa life ld o (23 + 17 * u + 15) = -1 ∧ mNew a u wr sz fa life ld o (23 + 17 * u + 16) = o := by
  dsimp only [mNew]
  refine ⟨fun i hi => ?_, ?_, ?_, ?_, ?_, ?_, ?_, ?_, ?_, ?_, ?_, ?_, ?_⟩
  all_goals simp (disch := omega) only [upi_n, upi_s]
theorem mTold_inv {w : Int → Int} {u wr sz : Int} : ∀ k, 0 ≤ k → k ≤ 5 → (∀ i, i < 23 + 17 * u + 10 ∨ 23 + 17 * u + 14 < i → mTold w u wr sz k i = w i) ∧ (∀ g, 0 ≤ g ∧ g < k → 1 ≤ mTold w u wr sz k (23 + 17 * u + (10 + g)) ∧ mTold w u wr sz k (23 + 17 * u + (10 + g)) ≤ 99) := by
  unfold mTold
  refine fI_indb (m := 5) (fun (k : Int) (v : Int → Int) => (∀ i, i < 23 + 17 * u + 10 ∨ 23 + 17 * u + 14 < i → v i = w i) ∧ (∀ g, 0 ≤ g ∧ g < k → 1 ≤ v (23 + 17 * u + (10 + g)) ∧ v (23 + 17 * u + (10 + g)) ≤ 99)) ⟨fun _ _ => rfl, fun g hg => by omega⟩ (fun k v h0 hk ih => ⟨fun i hi => by rw [upi_n (by omega)]; exact ih.1 i hi, fun g hg => ?_⟩)
  by_cases e : g = k
  · have := mTells_r v k wr sz
    rw [e, show 23 + 17 * u + (10 + k) = 23 + 17 * u + 10 + k by omega, upi_s]
    exact this
  · rw [upi_n (by omega)]
    exact ih.2 g (by omega)
-- printed
theorem mTold_ok {w : Int → Int} {u wr sz k c : Int} (h : ROK w c) (hu : w 7 = u ∧ u ≤ 98) (hk : 0 ≤ k ∧ k ≤ 5) : ROK (mTold w u wr sz k) (c) := by
  have hp7 := h.s7
  have fr : ∀ i, i < 23 + 17 * u + 10 ∨ 23 + 17 * u + 14 < i → mTold w u wr sz k i = w i := (mTold_inv (w := w) (u := u) (wr := wr) (sz := sz) k hk.1 hk.2).1
  have hc0 := h.c0
  have hs0 := h.s0
  have hs1 := h.s1
  have hs2 := h.s2
  have hs3 := h.s3
  have hs4 := h.s4
  have hs5 := h.s5
  have hs6 := h.s6
  have hs7 := h.s7
  have hs8 := h.s8
  have hs9 := h.s9
  have hs10 := h.s10
  have hs11 := h.s11
  have hs12 := h.s12
  have f7 : (mTold w u wr sz k) 7 = w 7 := by exact fr 7 (by omega)
  have f0 : (mTold w u wr sz k) 0 = w 0 := fr 0 (by omega)
  have f6 : (mTold w u wr sz k) 6 = w 6 := by exact fr 6 (by omega)
  refine ⟨?_, ?_, ?_, ?_, ?_, ?_, ?_, ?_, ?_, ?_, ?_, ?_, ?_, ?_, ?_, ?_, ?_, ?_, ?_, ?_, ?_⟩
  · -- c0
    omega
  · -- s0
    rw [fr 0 (by omega)]
    omega
  · -- s1
    rw [fr 1 (by omega)]
    omega
  · -- s2
    rw [fr 2 (by omega)]
    omega
  · -- s3
    rw [fr 3 (by omega)]
    omega
  · -- s4
    rw [fr 4 (by omega)]
    omega
  · -- s5
    rw [fr 5 (by omega)]
    omega
  · -- s6
    rw [fr 6 (by omega)]
    omega
  · -- s7
    rw [fr 7 (by omega)]
    omega
  · -- s8
    rw [fr 8 (by omega)]
    omega
  · -- s9
    rw [fr 9 (by omega)]
    omega
  · -- s10
    rw [fr 10 (by omega)]
    omega
  · -- s11
    rw [fr 11 (by omega)]
    omega
  · -- s12
    rw [fr 12 (by omega)]
    omega
  · -- g
    exact fun g hg => by rw [fr (13 + g) (by omega), fr (18 + g) (by omega)]; have := h.g g hg; omega
  · -- u
    exact fun x hx => by rw [f7] at hx; rw [f0, f6]; have := h.u x hx; simp (disch := omega) only [fr]; omega
  · -- t
    exact fun x g hx hg => by rw [f7] at hx; rw [fr (23 + 17 * x + (10 + g)) (by omega)]; exact h.t x g hx hg
  · -- z
    exact fun x hx => by rw [f0]; have := h.z x hx; simp (disch := omega) only [fr]; omega
  · -- p
    exact fun x k hx hk => by rw [f7]; have hm := h.zM x hx; have hf := h.zF x hx; rw [fr (1706 + 13 * x + 3) (by omega)] at hk; rw [fr (1706 + 13 * x + 4 + k) (by omega)]; exact h.p x k hx hk
  · -- n
    exact fun x hx => by rw [f7] at hx; rw [fr (23 + 17 * x + 5) (by omega)]; exact h.n x hx
  · -- sup
    exact fun i hi => by rw [fr i (by omega)]; exact h.sup i hi
theorem mNew_ok {w : Int → Int} {u wr sz fa life ld o c : Int} (h : ROK w c) (hu : w 7 = u ∧ u ≤ 98) (hw : 0 ≤ wr ∧ wr ≤ 7) (hsz : 1 ≤ sz ∧ sz ≤ 3) (hf : 0 ≤ fa ∧ fa ≤ 99) (hl : 1 ≤ life ∧ life ≤ 99) (hld : 0 ≤ ld ∧ ld ≤ 6 ∧ ld ≠ 5) (ho : 0 ≤ o ∧ o ≤ 98) (ht : ∀ g, 0 ≤ g ∧ g ≤ 4 → 1 ≤ w (23 + 17 * u + (10 + g)) ∧ w (23 + 17 * u + (10 + g)) ≤ 99) : ROK (mNew w u wr sz fa life ld o) (c) := by
  have hp7 := h.s7
  have hp6 := h.s6
  have hn := h.n u (by omega)
  obtain ⟨fr, v7, v0, v1, v2, v3, v4, v6, vl, v8, v9, v15, v16⟩ := mNew_v (a := w) (u := u) (wr := wr) (sz := sz) (fa := fa) (life := life) (ld := ld) (o := o) (by omega)
  have hc0 := h.c0
  have hs0 := h.s0
  have hs1 := h.s1
  have hs2 := h.s2
  have hs3 := h.s3
  have hs4 := h.s4
  have hs5 := h.s5
  have hs6 := h.s6
  have hs7 := h.s7
  have hs8 := h.s8
  have hs9 := h.s9
  have hs10 := h.s10
  have hs11 := h.s11
  have hs12 := h.s12
  have f7 : (mNew w u wr sz fa life ld o) 7 = w 7 + 1 := by exact v7
  have f0 : (mNew w u wr sz fa life ld o) 0 = w 0 := fr 0 (by omega)
  have f6 : (mNew w u wr sz fa life ld o) 6 = w 6 := by exact fr 6 (by omega)
  refine ⟨?_, ?_, ?_, ?_, ?_, ?_, ?_, ?_, ?_, ?_, ?_, ?_, ?_, ?_, ?_, ?_, ?_, ?_, ?_, ?_, ?_⟩
  · -- c0
    omega
  · -- s0
    rw [fr 0 (by omega)]
    omega
  · -- s1
    rw [fr 1 (by omega)]
    omega
  · -- s2
    rw [fr 2 (by omega)]
    omega
  · -- s3
    rw [fr 3 (by omega)]
    omega
  · -- s4
    rw [fr 4 (by omega)]
    omega
  · -- s5
    rw [fr 5 (by omega)]
    omega
  · -- s6
    rw [fr 6 (by omega)]
    omega
  · -- s7
    rw [v7]
    omega
  · -- s8
    rw [fr 8 (by omega)]
    omega
  · -- s9
    rw [fr 9 (by omega)]
    omega
  · -- s10
    rw [fr 10 (by omega)]
    omega
  · -- s11
    rw [fr 11 (by omega)]
    omega
  · -- s12
    rw [fr 12 (by omega)]
    omega
  · -- g
    exact fun g hg => by rw [fr (13 + g) (by omega), fr (18 + g) (by omega)]; have := h.g g hg; omega
  · -- u
    intro x hx
    rw [f7] at hx
    rw [f0, f6]
    by_cases e : x = u
    · rw [e]
      rw [v0, v1, v2, v3, v4, v6, vl, v8, v9, v15, v16]
      simp (disch := omega) only [fr]
      refine ⟨by omega, by omega, by omega, by omega, by omega, by omega, fun q => ⟨by omega, trivial⟩, fun q => by omega, by omega, by omega, by omega, by omega, by omega, by omega⟩
    · have hq := h.u x (by omega)
      simp (disch := omega) only [fr]
      omega
  · -- t
    intro x g hx hg
    rw [f7] at hx
    by_cases e : x = u
    · rw [e, fr (23 + 17 * u + (10 + g)) (by omega)]
      exact ht g hg
    · rw [fr (23 + 17 * x + (10 + g)) (by omega)]
      exact h.t x g (by omega) hg
  · -- z
    exact fun x hx => by rw [f0]; have := h.z x hx; simp (disch := omega) only [fr]; omega
  · -- p
    intro x k hx hk
    rw [f7]
    have hm := h.zM x hx
    have hf := h.zF x hx
    rw [fr (1706 + 13 * x + 3) (by omega)] at hk
    rw [fr (1706 + 13 * x + 4 + k) (by omega)]
    have := h.p x k hx hk
    omega
  · -- n
    intro x hx
    rw [f7] at hx
    rw [fr (23 + 17 * x + 5) (by omega)]
    exact h.n x (by omega)
  · -- sup
    exact fun i hi => by rw [fr i (by omega)]; exact h.sup i hi
theorem mWrites_ok {w as : Int → Int} {way wr sz fa o c : Int} (h : ROK w c) (hway : 0 ≤ way ∧ way ≤ 6) (h98 : w 7 ≤ 98) (hw : 0 ≤ wr ∧ wr ≤ 7) (hsz : 1 ≤ sz ∧ sz ≤ 3) (hf : 0 ≤ fa ∧ fa ≤ 99) (ho : 0 ≤ o ∧ o ≤ 98) (hwhy : mWhyWrite w as way wr sz o = 0) :
    ROK (mWrites w as way wr sz fa o) c ∧ (∀ i, (i < 7 ∨ 7 < i ∧ i < 23 + 17 * (w 7)) ∨ 1862 ≤ i → mWrites w as way wr sz fa o i = w i) ∧ mWrites w as way wr sz fa o 7 = w 7 + 1 ∧ mWrites w as way wr sz fa o (23 + 17 * (w 7) + 16) = o := by
  have hlr := mLeader_r (w := w) hway
  have hled := mLed_r w as (mLeader w way) wr sz o
  have hp7 := h.s7
  have hp6 := h.s6
  have hp2 := h.s2
  have hp0 := h.s0
  have hp1 := h.s1
  have hc0 := h.c0
  have ht := mTold_inv (w := w) (u := w 7) (wr := wr) (sz := sz) 5 (by omega) (by omega)
  have hT := mTold_ok (wr := wr) (sz := sz) (k := 5) h (u := w 7) ⟨rfl, h98⟩ (by omega)
  unfold mWhyWrite at hwhy
  dsimp only [mWrites]
  generalize mLed w as (mLeader w way) wr sz o = life at hwhy hled
  generalize mLeader w way = ld at hlr
  generalize mTold w (w 7) wr sz 5 = a at ht hT
  have a7 : a 7 = w 7 := ht.1 7 (by omega)
  have a6 : a 6 = w 6 := ht.1 6 (by omega)
  have hN := mNew_ok (wr := wr) (sz := sz) (fa := fa) (life := life) (ld := ld) (o := o) hT (u := w 7) ⟨a7, h98⟩ hw hsz hf hled hlr ho (fun g hg => ht.2 g (by omega))
  obtain ⟨fr, v7, v0, v1, v2, v3, v4, v6, vl, v8, v9, v15, v16⟩ := mNew_v (a := a) (u := w 7) (wr := wr) (sz := sz) (fa := fa) (life := life) (ld := ld) (o := o) (by omega)
  generalize mNew a (w 7) wr sz fa life ld o = b at hN fr v7 v0 v1 v2 v3 v4 v6 vl v8 v9 v15 v16
  have b2 : b 2 = w 2 := (fr 2 (by omega)).trans (ht.1 2 (by omega))
  have b0 : b 0 = w 0 := (fr 0 (by omega)).trans (ht.1 0 (by omega))
  have b1 : b 1 = w 1 := (fr 1 (by omega)).trans (ht.1 1 (by omega))
  rw [v6, b2, a6]
  have hq := tdiv_rng (a := w 6 + life) (b := w 2) (by omega) (by omega)
  have hzc : mZoneFor b ((w 6 + life).tdiv (w 2)) sz (-1) = mZoneFor w ((w 6 + life).tdiv (w 2)) sz (-1) := mZoneFor_congr b0 b1 (fun z hz hz2 => ⟨(fr _ (by omega)).trans (ht.1 _ (by omega)), (fr _ (by omega)).trans (ht.1 _ (by omega))⟩) (by omega)
  have hne : mZoneFor b ((w 6 + life).tdiv (w 2)) sz (-1) ≠ -1 := by
    rw [hzc]
    intro q
    rw [if_pos q] at hwhy
    omega
  obtain ⟨e1, e2⟩ := mZoneFor_el (by omega) hne
  have hw0 : 0 ≤ (w 6 + life).tdiv (w 2) * w 2 := Int.mul_nonneg hq.1 (by omega)
  generalize mZoneFor b ((w 6 + life).tdiv (w 2)) sz (-1) = to at e1 e2
  generalize (w 6 + life).tdiv (w 2) = win at hq hw0
  have hm := hN.zM to (by omega)
  have hfi := hN.zF to (by omega)
  refine ⟨mPuts_ok hN (by omega) v4 e1 (by rw [v1]; exact e2.2) ⟨hq.1, by omega, by rw [b2]; omega, by rw [b2]; omega⟩, ?_⟩
  obtain ⟨fr2, -⟩ := mPuts_inv (w := b) (u := w 7) (z := to) (win := win) (by omega) (by omega) (by omega)
  exact ⟨fun i hi => by rw [fr2 i (by omega), fr i (by omega), ht.1 i (by omega)], by rw [fr2 7 (by omega), v7, a7], by rw [fr2 _ (by omega), v16]⟩
theorem mWrites_ne {w as : Int → Int} {way wr sz fa o c : Int} (h : ROK w c) (hway : 0 ≤ way ∧ way ≤ 6) (h98 : w 7 ≤ 98) (hwhy : mWhyWrite w as way wr sz o = 0) :
    mZoneFor (mNew (mTold w (w 7) wr sz 5) (w 7) wr sz fa (mLed w as (mLeader w way) wr sz o) (mLeader w way) o) ((mNew (mTold w (w 7) wr sz 5) (w 7) wr sz fa (mLed w as (mLeader w way) wr sz o) (mLeader w way) o (23 + 17 * (w 7) + 6)).tdiv (mNew (mTold w (w 7) wr sz 5) (w 7) wr sz fa (mLed w as (mLeader w way) wr sz o) (mLeader w way) o 2)) sz (-1) ≠ -1 := by
  have hp7 := h.s7
  have hp0 := h.s0
  have ht := mTold_inv (w := w) (u := w 7) (wr := wr) (sz := sz) 5 (by omega) (by omega)
  unfold mWhyWrite at hwhy
  generalize mLed w as (mLeader w way) wr sz o = life at hwhy
  generalize mLeader w way = ld
  generalize mTold w (w 7) wr sz 5 = a at ht
  have a6 : a 6 = w 6 := ht.1 6 (by omega)
  obtain ⟨fr, v7, v0, v1, v2, v3, v4, v6, -⟩ := mNew_v (a := a) (u := w 7) (wr := wr) (sz := sz) (fa := fa) (life := life) (ld := ld) (o := o) (by omega)
  generalize mNew a (w 7) wr sz fa life ld o = b at fr v7 v0 v1 v2 v3 v4 v6
  have b2 : b 2 = w 2 := (fr 2 (by omega)).trans (ht.1 2 (by omega))
  have b0 : b 0 = w 0 := (fr 0 (by omega)).trans (ht.1 0 (by omega))
  have b1 : b 1 = w 1 := (fr 1 (by omega)).trans (ht.1 1 (by omega))
  rw [v6, b2, a6, mZoneFor_congr b0 b1 (fun z hz hz2 => ⟨(fr _ (by omega)).trans (ht.1 _ (by omega)), (fr _ (by omega)).trans (ht.1 _ (by omega))⟩) (by omega)]
  intro q
  rw [if_pos q] at hwhy
  omega
