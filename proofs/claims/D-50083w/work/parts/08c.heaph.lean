/-! NAMED HEAPS (own) -/
theorem vH {Γ : Cx} {M : MI} {d mc ms : Nat} {Q : PQ} {X : PX} {h : AH} {bc bs pc : Nat} {ls : Lcs} {st : List Value} (k : ∀ h' : AH, h' = h → V Γ M d mc ms Q X h' bc bs pc ls st) : V Γ M d mc ms Q X h bc bs pc ls st := k h rfl
theorem hs_s {h h' : AH} {a : Nat} {p : Nat × Ob} (e : h' = hset h a p) : h' a = some p := by rw [e]; exact hset_s _ _ _
theorem hs_o {h h' : AH} {a b : Nat} {p q : Nat × Ob} (e : h' = hset h a p) (n : b ≠ a) (hb : h b = some q) : h' b = some q := by rw [e, hset_n n]; exact hb
theorem hs_f {h h' : AH} {a b : Nat} {p : Nat × Ob} (e : h' = hset h a p) (n : b ≠ a) : h' b = h b := by rw [e, hset_n n]
theorem ne_new {h : AH} {a b : Nat} {p : Nat × Ob} (hb : h b = some p) (hn : h a = none) : b ≠ a := by
  intro z
  rw [z, hn] at hb
  cases hb
theorem ne_FA {h : AH} {a b t1 t2 c k n : Nat} {l : List Value} {f : Nat → Value} (hb : h b = some (t1, oF c l)) (ha : h a = some (t2, oA k n f)) : b ≠ a := by
  intro z
  rw [z, ha] at hb
  cases hb
theorem ne_AF {h : AH} {a b t1 t2 c k n : Nat} {l : List Value} {f : Nat → Value} (hb : h b = some (t1, oA k n f)) (ha : h a = some (t2, oF c l)) : b ≠ a := by
  intro z
  rw [z, ha] at hb
  cases hb
theorem ne_FF {h : AH} {a b t1 t2 c1 c2 : Nat} {l1 l2 : List Value} (hb : h b = some (t1, oF c1 l1)) (ha : h a = some (t2, oF c2 l2)) (n : c1 ≠ c2) : b ≠ a := by
  intro z
  rw [z, ha] at hb
  cases hb
  exact n rfl
theorem ne_AA {h : AH} {a b t1 t2 k1 k2 n1 n2 : Nat} {f1 f2 : Nat → Value} (hb : h b = some (t1, oA k1 n1 f1)) (ha : h a = some (t2, oA k2 n2 f2)) (n : k1 ≠ k2) : b ≠ a := by
  intro z
  rw [z, ha] at hb
  cases hb
  exact n rfl
theorem ne_tag {h : AH} {a b t1 t2 : Nat} {o1 o2 : Ob} (hb : h b = some (t1, o1)) (ha : h a = some (t2, o2)) (n : t1 ≠ t2) : b ≠ a := by
  intro z
  rw [z, ha] at hb
  cases hb
  exact n rfl
/-- two cells changed -/
def Up2 (h h' : AH) (a d : Nat) (o o' : Nat × Ob) : Prop := h' a = some o ∧ h' d = some o' ∧ ∀ b, b ≠ a → b ≠ d → h' b = h b
