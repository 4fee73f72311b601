/-! FLOATING POINT: what is not a NaN (own) -/
def fpG (f : FP.Core.Fmt) : FP.Core.Datum → Prop
  | .nan => False
  | .inf _ => True
  | .fin _ c q => c < 2 ^ f.p ∧ q ≤ f.qmax
theorem fp_bound {f : FP.Core.Fmt} {s : Bool} {c : Nat} {q : Int} (h : c < 2 ^ f.p) : fpG f (FP.Core.bound f s c q) := by
  unfold FP.Core.bound
  split
  · rename_i h2; exact ⟨h, h2⟩
  · exact trivial
theorem fp_settle {f : FP.Core.Fmt} (hp : 1 ≤ f.p) {s : Bool} {c : Nat} {q : Int} : fpG f (FP.Core.settle f s c q) := by
  unfold FP.Core.settle
  split
  · rename_i h; exact fp_bound h
  · refine fp_bound ?_
    unfold FP.Core.Fmt.tails
    exact Nat.pow_lt_pow_right (by decide) (by omega)
theorem fp_ratio {f : FP.Core.Fmt} (hp : 1 ≤ f.p) (hq : f.qmin ≤ f.qmax) {s : Bool} {a b : Nat} {e : Int} : fpG f (FP.Core.roundRatio f s a b e) := by
  unfold FP.Core.roundRatio
  split
  · exact ⟨Nat.two_pow_pos _, hq⟩
  · exact fp_settle hp
theorem fp_round {f : FP.Core.Fmt} (hp : 1 ≤ f.p) (hq : f.qmin ≤ f.qmax) {d : FP.Core.Datum} (h : d ≠ .nan) : fpG f (FP.Core.round f d) := by
  cases d with
  | nan => exact absurd rfl h
  | inf s => exact trivial
  | fin s c q => exact fp_ratio hp hq
def fpP (d : FP.Core.Datum) : Bool := match d with
  | .fin _ c _ => c != 0
  | _ => false
theorem fp_quot {f : FP.Core.Fmt} (hp : 1 ≤ f.p) (hq : f.qmin ≤ f.qmax) {x y : FP.Core.Datum} (hx : x ≠ .nan) (hy : fpP y = true) : fpG f (FP.Core.quotient f x y) := by
  cases y with
  | nan => exact absurd hy (by decide)
  | inf s => exact absurd hy (by simp [fpP])
  | fin t d r =>
    have hd : d ≠ 0 := by simpa [fpP] using hy
    cases x with
    | nan => exact absurd rfl hx
    | inf s => exact trivial
    | fin s c q =>
      show fpG f (if d = 0 then _ else _)
      rw [if_neg hd]
      exact fp_ratio hp hq
theorem b64_v : FP.Core.b64.p = 53 ∧ FP.Core.b64.w = 11 ∧ FP.Core.b64.tails = 4503599627370496 ∧ FP.Core.b64.exps = 2048 ∧ FP.Core.b64.qmin = -1074 ∧ FP.Core.b64.qmax = 971 := by decide
theorem b32_v : FP.Core.b32.p = 24 ∧ FP.Core.b32.w = 8 ∧ FP.Core.b32.tails = 8388608 ∧ FP.Core.b32.exps = 256 ∧ FP.Core.b32.qmin = -149 ∧ FP.Core.b32.qmax = 104 := by decide
theorem fp_enc64 {d : FP.Core.Datum} (h : fpG FP.Core.b64 d) : FP.Core.encode FP.Core.b64 d % 9223372036854775808 ≤ 9218868437227405312 ∧ FP.Core.encode FP.Core.b64 d < 18446744073709551616 := by
  obtain ⟨v1, v2, v3, v4, v5, v6⟩ := b64_v
  cases d with
  | nan => exact h.elim
  | inf s =>
    show FP.Core.assemble _ s _ 0 % _ ≤ _ ∧ FP.Core.assemble _ s _ 0 < _
    unfold FP.Core.assemble
    rw [v3, v4]
    cases s <;> decide
  | fin s c q =>
    obtain ⟨h1, h2⟩ := h
    rw [v1] at h1
    rw [v6] at h2
    have h3 : c < 9007199254740992 := h1
    have hs : s.toNat ≤ 1 := by cases s <;> decide
    unfold FP.Core.encode
    dsimp only
    split
    · rename_i h4
      rw [v3] at h4
      unfold FP.Core.assemble
      rw [v3, v4]
      generalize s.toNat = b at hs ⊢
      omega
    · rename_i h4
      rw [v3] at h4
      unfold FP.Core.assemble
      rw [v3, v4, v5]
      generalize s.toNat = b at hs ⊢
      have h5 : (q - -1074).toNat ≤ 2045 := by omega
      generalize (q - -1074).toNat = e at h5 ⊢
      omega
theorem fp_enc32 {d : FP.Core.Datum} (h : fpG FP.Core.b32 d) : FP.Core.encode FP.Core.b32 d % 2147483648 ≤ 2139095040 ∧ FP.Core.encode FP.Core.b32 d < 4294967296 := by
  obtain ⟨v1, v2, v3, v4, v5, v6⟩ := b32_v
  cases d with
  | nan => exact h.elim
  | inf s =>
    show FP.Core.assemble _ s _ 0 % _ ≤ _ ∧ FP.Core.assemble _ s _ 0 < _
    unfold FP.Core.assemble
    rw [v3, v4]
    cases s <;> decide
  | fin s c q =>
    obtain ⟨h1, h2⟩ := h
    rw [v1] at h1
    rw [v6] at h2
    have h3 : c < 16777216 := h1
    have hs : s.toNat ≤ 1 := by cases s <;> decide
    unfold FP.Core.encode
    dsimp only
    split
    · rename_i h4
      rw [v3] at h4
      unfold FP.Core.assemble
      rw [v3, v4]
      generalize s.toNat = b at hs ⊢
      omega
    · rename_i h4
      rw [v3] at h4
      unfold FP.Core.assemble
      rw [v3, v4, v5]
      generalize s.toNat = b at hs ⊢
      have h5 : (q - -149).toNat ≤ 253 := by omega
      generalize (q - -149).toNat = e at h5 ⊢
      omega
theorem fp_n64 {n : Nat} (h : n % 9223372036854775808 ≤ 9218868437227405312) (h2 : n < 18446744073709551616) : vf_n64 (UInt64.ofNat n) := by
  unfold vf_n64
  rw [UInt64.le_iff_toNat_le, UInt64.toNat_and, UInt64.toNat_ofNat', Nat.mod_eq_of_lt h2]
  show n &&& (2 ^ 63 - 1) ≤ _
  rw [Nat.and_two_pow_sub_one_eq_mod]
  exact h
theorem fp_n32 {n : Nat} (h : n % 2147483648 ≤ 2139095040) (h2 : n < 4294967296) : vf_n32 (UInt32.ofNat n) := by
  unfold vf_n32
  rw [UInt32.le_iff_toNat_le, UInt32.toNat_and, UInt32.toNat_ofNat', Nat.mod_eq_of_lt h2]
  show n &&& (2 ^ 31 - 1) ≤ _
  rw [Nat.and_two_pow_sub_one_eq_mod]
  exact h
theorem fp_dec64 {n : Nat} (h : n % 9223372036854775808 ≤ 9218868437227405312) : FP.Core.decode FP.Core.b64 n ≠ .nan := by
  obtain ⟨v1, v2, v3, v4, v5, v6⟩ := b64_v
  unfold FP.Core.decode FP.Core.fieldE FP.Core.fieldT
  rw [v3, v4]
  split
  · rename_i h1
    split
    · exact fun q => by cases q
    · rename_i h2
      exfalso
      omega
  · split <;> exact fun q => by cases q
theorem fp_dec32 {n : Nat} (h : n % 2147483648 ≤ 2139095040) : FP.Core.decode FP.Core.b32 n ≠ .nan := by
  obtain ⟨v1, v2, v3, v4, v5, v6⟩ := b32_v
  unfold FP.Core.decode FP.Core.fieldE FP.Core.fieldT
  rw [v3, v4]
  split
  · rename_i h1
    split
    · exact fun q => by cases q
    · rename_i h2
      exfalso
      omega
  · split <;> exact fun q => by cases q
theorem fp_i2d (x : Int32) : FP.Core.decode FP.Core.b64 (FP.i2d x).toNat ≠ .nan := by
  have h := fp_enc64 (fp_round (f := FP.Core.b64) (by decide) (by decide) (d := FP.Core.ofInt x.toInt) (by unfold FP.Core.ofInt; exact fun q => by cases q))
  have e9 : FP.i2d x = UInt64.ofNat (FP.Core.encode FP.Core.b64 (FP.Core.round FP.Core.b64 (FP.Core.ofInt x.toInt))) := rfl
  rw [e9, UInt64.toNat_ofNat', Nat.mod_eq_of_lt (b := 2 ^ 64) h.2]
  exact fp_dec64 h.1
theorem fp_i2f (x : Int32) : FP.Core.decode FP.Core.b32 (FP.i2f x).toNat ≠ .nan := by
  have h := fp_enc32 (fp_round (f := FP.Core.b32) (by decide) (by decide) (d := FP.Core.ofInt x.toInt) (by unfold FP.Core.ofInt; exact fun q => by cases q))
  have e9 : FP.i2f x = UInt32.ofNat (FP.Core.encode FP.Core.b32 (FP.Core.round FP.Core.b32 (FP.Core.ofInt x.toInt))) := rfl
  rw [e9, UInt32.toNat_ofNat', Nat.mod_eq_of_lt (b := 2 ^ 32) h.2]
  exact fp_dec32 h.1
theorem fp_ddiv {x y : UInt64} (hx : FP.Core.decode FP.Core.b64 x.toNat ≠ .nan) (hy : fpP (FP.Core.decode FP.Core.b64 y.toNat) = true) : vf_n64 (FP.ddiv x y) := by
  have h := fp_enc64 (fp_quot (f := FP.Core.b64) (by decide) (by decide) hx hy)
  exact fp_n64 h.1 h.2
theorem fp_fdiv {x y : UInt32} (hx : FP.Core.decode FP.Core.b32 x.toNat ≠ .nan) (hy : fpP (FP.Core.decode FP.Core.b32 y.toNat) = true) : vf_n32 (FP.fdiv x y) ∧ FP.Core.decode FP.Core.b32 (FP.fdiv x y).toNat ≠ .nan := by
  have h := fp_enc32 (fp_quot (f := FP.Core.b32) (by decide) (by decide) hx hy)
  refine ⟨fp_n32 h.1 h.2, ?_⟩
  show FP.Core.decode FP.Core.b32 (UInt32.ofNat _).toNat ≠ .nan
  rw [UInt32.toNat_ofNat', Nat.mod_eq_of_lt (by exact h.2)]
  exact fp_dec32 h.1
theorem fp_f2d {x : UInt32} (hx : FP.Core.decode FP.Core.b32 x.toNat ≠ .nan) : vf_n64 (FP.f2d x) := by
  have h := fp_enc64 (fp_round (f := FP.Core.b64) (by decide) (by decide) hx)
  have e : FP.Core.fIsNaN x = false := by
    unfold FP.Core.fIsNaN FP.Core.isNaN
    simpa using hx
  unfold FP.f2d
  rw [e]
  exact fp_n64 h.1 h.2
theorem fp_small64' : ∀ i, i < 72 → ∀ j, j < 72 → 72 * i + j = 0 ∨ fpP (FP.Core.decode FP.Core.b64 (FP.i2d (Int32.ofInt ((72 * i + j : Nat) : Int))).toNat) = true := by decide +kernel
theorem fp_small64 (k : Nat) (h : k < 5001) : k = 0 ∨ fpP (FP.Core.decode FP.Core.b64 (FP.i2d (Int32.ofInt (k : Nat))).toNat) = true := by
  have e := Nat.div_add_mod k 72
  have := fp_small64' (k / 72) (by omega) (k % 72) (Nat.mod_lt _ (by decide))
  rw [e] at this
  exact this
theorem fp_small32 : ∀ k, k < 100 → k = 0 ∨ fpP (FP.Core.decode FP.Core.b32 (FP.i2f (Int32.ofInt (k : Nat))).toNat) = true := by decide +kernel
theorem fp_pos64 {b : Int} (h : 1 ≤ b ∧ b ≤ 5000) : fpP (FP.Core.decode FP.Core.b64 (FP.i2d (Int32.ofInt b)).toNat) = true := by
  obtain ⟨k, rfl⟩ := Int.eq_ofNat_of_zero_le (show 0 ≤ b by omega)
  rcases fp_small64 k (by omega) with q | q
  · omega
  · exact q
theorem fp_pos32 {b : Int} (h : 1 ≤ b ∧ b ≤ 99) : fpP (FP.Core.decode FP.Core.b32 (FP.i2f (Int32.ofInt b)).toNat) = true := by
  obtain ⟨k, rfl⟩ := Int.eq_ofNat_of_zero_le (show 0 ≤ b by omega)
  rcases fp_small32 k (by omega) with q | q
  · omega
  · exact q
theorem fp_m1 : FP.Core.decode FP.Core.b32 (3212836864 : UInt32).toNat ≠ .nan := fp_dec32 (by decide)
/-! what is asked, more -/
def mWsum (w : Int → Int) (k : Int) : Int := sU k (fun g => w (13 + g))
def mShare (w : Int → Int) (g : Int) : UInt64 := FP.ddiv (FP.i2d (Int32.ofInt (w (13 + g)))) (FP.i2d (Int32.ofInt (mWsum w 5)))
def mDead (w : Int → Int) (k : Int) : Int := sU k (fun u => if w (23 + 17 * u + 4) = 1 then 0 else 1)
def mLived (w : Int → Int) (k : Int) : Int := sU k (fun u => if w (23 + 17 * u + 4) = 1 then 0 else w (23 + 17 * u + 9))
def mMean (w : Int → Int) : UInt32 := if mDead w (w 7) = 0 then 3212836864 else FP.fdiv (FP.i2f (Int32.ofInt (mLived w (w 7)))) (FP.i2f (Int32.ofInt (mDead w (w 7))))
def mToldOf (w : Int → Int) (u k : Int) : Int := if k = 0 then 1 else if k = 1 then (if w (23 + 17 * u + 4) = 1 then 1 else 0) else if k = 2 then (if w (23 + 17 * u + 4) = 1 then 0 else w (23 + 17 * u + 9)) else if k = 4 then (if w (23 + 17 * u + 4) = 1 then 0 else mLoss w u (w (23 + 17 * u + 7))) else w (23 + 17 * u + 8)
def mWr3 (w : Int → Int) (wr k : Int) : Int := fI k (fun u n => if w (23 + 17 * u + 0) = wr ∧ ¬ w (23 + 17 * u + 4) = 1 ∧ n < w (23 + 17 * u + 9) then w (23 + 17 * u + 9) else n) (-1)
def mWrs (w : Int → Int) (wr what k : Int) : Int := sU k (fun u => if w (23 + 17 * u + 0) = wr then mToldOf w u what else 0)
def mWriter (w : Int → Int) (wr what : Int) : Int := if what = 3 then mWr3 w wr (w 7) else mWrs w wr what (w 7)
theorem mWr3_s {w : Int → Int} {wr k : Int} (hk : 0 ≤ k) : mWr3 w wr (k + 1) = if w (23 + 17 * k + 0) = wr ∧ ¬ w (23 + 17 * k + 4) = 1 ∧ mWr3 w wr k < w (23 + 17 * k + 9) then w (23 + 17 * k + 9) else mWr3 w wr k := fI_s hk
theorem mWsum_s {w : Int → Int} {k : Int} (hk : 0 ≤ k) : mWsum w (k + 1) = mWsum w k + w (13 + k) := sU_s hk
theorem mDead_s {w : Int → Int} {k : Int} (hk : 0 ≤ k) : mDead w (k + 1) = mDead w k + (if w (23 + 17 * k + 4) = 1 then 0 else 1) := sU_s hk
theorem mLived_s {w : Int → Int} {k : Int} (hk : 0 ≤ k) : mLived w (k + 1) = mLived w k + (if w (23 + 17 * k + 4) = 1 then 0 else w (23 + 17 * k + 9)) := sU_s hk
theorem mWrs_s {w : Int → Int} {wr what k : Int} (hk : 0 ≤ k) : mWrs w wr what (k + 1) = mWrs w wr what k + (if w (23 + 17 * k + 0) = wr then mToldOf w k what else 0) := sU_s hk
theorem tmod2 {k : Int} (h : 0 ≤ k ∧ k ≤ 3) : ∃ e, k.tmod 2 = e ∧ (e = 0 ∧ (k = 0 ∨ k = 2) ∨ e = 1 ∧ (k = 1 ∨ k = 3)) := by
  rcases (show k = 0 ∨ k = 1 ∨ k = 2 ∨ k = 3 by omega) with rfl | rfl | rfl | rfl
  · exact ⟨0, by decide, by decide⟩
  · exact ⟨1, by decide, by decide⟩
  · exact ⟨0, by decide, by decide⟩
  · exact ⟨1, by decide, by decide⟩
theorem bm_r (y : Int) : -128 ≤ y.bmod 256 ∧ y.bmod 256 ≤ 127 := by
  have h1 : -128 ≤ y.bmod 256 := Int.le_bmod (by decide)
  have h2 : y.bmod 256 < 128 := Int.bmod_lt (by decide)
  omega
/-- what is over: the zone of a living unit -/
abbrev mOver (w : Int → Int) (u : Int) : Prop := w (23 + 17 * u + 4) = 1 ∧ w (1706 + 13 * w (23 + 17 * u + 5) + 0) * w 2 + w 2 - 1 < w 6
/-- how many are left behind k units; the unit found -/
def mLate (w : Int → Int) (i k : Int) : Int × Int := fI k (fun u s => if s.2 ≠ -1 then s else if mOver w u then (if s.1 = 0 then (s.1, u) else (s.1 - 1, s.2)) else s) (i, -1)
theorem mLate_s {w : Int → Int} {i k : Int} (hk : 0 ≤ k) : mLate w i (k + 1) = if (mLate w i k).2 ≠ -1 then mLate w i k else if mOver w k then (if (mLate w i k).1 = 0 then ((mLate w i k).1, k) else ((mLate w i k).1 - 1, (mLate w i k).2)) else mLate w i k := fI_s hk
theorem mLate_stay {w : Int → Int} {i k m : Int} {s : Int × Int} (hk : 0 ≤ k) (hm : k ≤ m) (h : mLate w i k = s) (hs : s.2 ≠ -1) : mLate w i m = s :=
  fI_stay (f := fun u s => if s.2 ≠ -1 then s else if mOver w u then (if s.1 = 0 then (s.1, u) else (s.1 - 1, s.2)) else s) hk hm h (fun j _ _ => if_pos hs)
/-- the zones of most and of least resets -/
def mWearM (w : Int → Int) (k : Int) : Int := fI k (fun z a => if w (1706 + 13 * a + 2) < w (1706 + 13 * z + 2) then z else a) 0
def mWearL (w : Int → Int) (k : Int) : Int := fI k (fun z a => if w (1706 + 13 * z + 2) < w (1706 + 13 * a + 2) then z else a) 0
theorem mWearM_s {w : Int → Int} {k : Int} (hk : 0 ≤ k) : mWearM w (k + 1) = if w (1706 + 13 * mWearM w k + 2) < w (1706 + 13 * k + 2) then k else mWearM w k := fI_s hk
theorem mWearL_s {w : Int → Int} {k : Int} (hk : 0 ≤ k) : mWearL w (k + 1) = if w (1706 + 13 * k + 2) < w (1706 + 13 * mWearL w k + 2) then k else mWearL w k := fI_s hk
theorem mWearM_1 (w : Int → Int) : mWearM w 1 = 0 := by
  rw [show (1 : Int) = 0 + 1 from rfl, mWearM_s (by omega)]
  split
  · rename_i h
    exact absurd h (by have : mWearM w 0 = 0 := rfl; rw [this]; omega)
  · rfl
theorem mWearL_1 (w : Int → Int) : mWearL w 1 = 0 := by
  rw [show (1 : Int) = 0 + 1 from rfl, mWearL_s (by omega)]
  split
  · rename_i h
    exact absurd h (by have : mWearL w 0 = 0 := rfl; rw [this]; omega)
  · rfl
def mWear (w : Int → Int) (k : Int) : Int := if k = 0 then w (1706 + 13 * mWearM w (w 0) + 2) else if k = 1 then w (1706 + 13 * mWearL w (w 0) + 2) else if k = 2 then mWearM w (w 0) else mWearL w (w 0)
/-! bytes of an int -/
theorem v_ishrE {Γ : Cx} {M : MI} {d mc ms : Nat} {Q : PQ} {X : PX} {h : AH} {bc bs pc : Nat} {ls : Lcs} {st : List Value} {x y : Int} (hd : decode M.2.1 pc = .ok (.ishr, 1)) (hx : InR x) (hy : 0 ≤ y ∧ y ≤ 31) (k : V Γ M d mc ms Q X h bc bs (pc + 1) ls (vi (x / ((2 ^ y.toNat : Nat) : Int)) :: st)) : V Γ M d mc ms Q X h bc bs pc ls (vi y :: vi x :: st) := by
  refine v_ishr hd ?_
  have e : Int32.ofInt x >>> (Int32.ofInt y &&& 31) = Int32.ofInt (x / ((2 ^ y.toNat : Nat) : Int)) := by
    apply Int32.toInt_inj.mp
    obtain ⟨n, rfl⟩ := Int.eq_ofNat_of_zero_le hy.1
    have hn : n ≤ 31 := by omega
    have e1 : Int32.ofInt (n : Int) &&& 31 = Int32.ofInt (n : Int) := by
      have hall : ∀ n, n < 32 → Int32.ofInt ((n : Nat) : Int) &&& 31 = Int32.ofInt ((n : Nat) : Int) := by decide
      exact hall n (by omega)
    have hall2 : ∀ n, n < 32 → ((Int32.ofInt ((n : Nat) : Int)).toBitVec.smod 32).toNat = n := by decide
    rw [e1]
    show (Int32.ofInt x >>> Int32.ofInt (n : Int)).toBitVec.toInt = _
    rw [Int32.toBitVec_shiftRight]
    show ((Int32.ofInt x).toBitVec.sshiftRight (((Int32.ofInt (n : Int)).toBitVec.smod 32).toNat)).toInt = _
    have e3 : (Int32.ofInt x).toBitVec.toInt = x := I_toInt hx
    have hx1 := hx.1
    have hx2 := hx.2
    rw [hall2 n (by omega), BitVec.sshiftRight_eq, e3, Int.shiftRight_eq_div_pow, BitVec.toInt_ofInt]
    have hk : 1 ≤ ((2 ^ n : Nat) : Int) := by have := Nat.two_pow_pos n; omega
    show _ = (Int32.ofInt (x / ((2 ^ n : Nat) : Int))).toInt
    generalize ((2 ^ n : Nat) : Int) = k at hk ⊢
    have hr : -2147483648 ≤ x / k ∧ x / k ≤ 2147483647 := by
      by_cases h0 : 0 ≤ x
      · have h1 := Int.ediv_nonneg (a := x) (b := k) h0 (by omega)
        have h2 := Int.ediv_le_self k h0
        omega
      · have h1 : x ≤ x / k := Int.le_ediv_of_mul_le (by omega) (by
          have h3 := Int.mul_le_mul_of_nonpos_left (a := x) (b := k) (c := 1) (by omega) hk
          omega)
        have h2 := Int.ediv_neg_of_neg_of_pos (a := x) (b := k) (by omega) (by omega)
        omega
    rw [I_toInt hr]
    exact Int.bmod_eq_of_le (by omega) (by omega)
  rw [e]
  exact k
def mByte (x y : Int) : Int := (x / ((2 ^ y.toNat : Nat) : Int)).bmod 256
theorem mByte_r (x y : Int) : -128 ≤ mByte x y ∧ mByte x y ≤ 127 := by
  have h1 : -128 ≤ mByte x y := Int.le_bmod (by decide)
  have h2 : mByte x y < 128 := Int.bmod_lt (by decide)
  omega
theorem v_i2bE {Γ : Cx} {M : MI} {d mc ms : Nat} {Q : PQ} {X : PX} {h : AH} {bc bs pc : Nat} {ls : Lcs} {st : List Value} {x : Int} (hd : decode M.2.1 pc = .ok (.i2b, 1)) (k : V Γ M d mc ms Q X h bc bs (pc + 1) ls (vi (x.bmod 256) :: st)) : V Γ M d mc ms Q X h bc bs pc ls (vi x :: st) := by
  refine v_i2b hd ?_
  have e : (Int32.ofInt x).toInt8.toInt32 = Int32.ofInt (x.bmod 256) := vi_bmod x
  rw [e]
  exact k
def mApp (tx : Int → Int) (len x : Int) : Int → Int := upi (upi (upi (upi tx len (mByte x 24)) (len + 1) (mByte x 16)) (len + 2) (mByte x 8)) (len + 3) (mByte x 0)
