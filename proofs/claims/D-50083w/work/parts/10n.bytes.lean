/-! bytes (own) -/
set_option maxRecDepth 100000
theorem and255 (a : Int) : Int32.ofInt a &&& Int32.ofInt 255 = Int32.ofInt (a % 256) := by
  apply Int32.toBitVec_inj.mp
  rw [Int32.toBitVec_and, Int32.toBitVec_ofInt, Int32.toBitVec_ofInt, Int32.toBitVec_ofInt]
  apply BitVec.eq_of_toNat_eq
  rw [BitVec.toNat_and, BitVec.toNat_ofInt, BitVec.toNat_ofInt, BitVec.toNat_ofInt]
  have e : ((255 : Int) % ((2 ^ 32 : Nat) : Int)).toNat = 2 ^ 8 - 1 := by decide
  rw [e, Nat.and_two_pow_sub_one_eq_mod]
  omega
theorem v_iand255 {Γ : Cx} {M : MI} {d mc ms : Nat} {Q : PQ} {X : PX} {h : AH} {bc bs pc : Nat} {ls : Lcs} {st : List Value} {x : Int} (hd : decode M.2.1 pc = .ok (.iand, 1)) (k : V Γ M d mc ms Q X h bc bs (pc + 1) ls (vi (x % 256) :: st)) : V Γ M d mc ms Q X h bc bs pc ls (vi 255 :: vi x :: st) := by
  refine v_iand (x := Int32.ofInt x) (y := Int32.ofInt 255) hd ?_
  rw [and255]
  exact k
def mSee (text : Int → Int) (length atp : Int) : Int := if atp < length then text atp % 256 else -1
theorem mSee_r (text : Int → Int) (length atp : Int) : -1 ≤ mSee text length atp ∧ mSee text length atp ≤ 255 := by
  unfold mSee
  split <;> omega
