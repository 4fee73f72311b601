/-! THE STORE's PICTURE SX (own): w is the row (as in the model), x what the class alone keeps -/
set_option maxRecDepth 100000
/-- ints at a, at least in range -/
def CI (h : AH) (a t n : Nat) (g : Int → Int) : Prop := ∃ f, h a = some (t, oI n f) ∧ ∀ k : Int, 0 ≤ k ∧ k < n → f k = g k
theorem CI.to {h : AH} {a t n : Nat} {g g' : Int → Int} (c : CI h a t n g) (e : ∀ k : Int, 0 ≤ k ∧ k < n → g' k = g k) : CI h a t n g' := by
  obtain ⟨f, h1, h2⟩ := c
  exact ⟨f, h1, fun k hk => (h2 k hk).trans (e k hk).symm⟩
def oCI (o : Ob) (n : Nat) (g : Int → Int) : Prop := ∃ f, o = oI n f ∧ ∀ k : Int, 0 ≤ k ∧ k < n → f k = g k
theorem oCI.to {o : Ob} {n : Nat} {g g' : Int → Int} (c : oCI o n g) (e : ∀ k : Int, 0 ≤ k ∧ k < n → g' k = g k) : oCI o n g' := by
  obtain ⟨f, h1, h2⟩ := c
  exact ⟨f, h1, fun k hk => (h2 k hk).trans (e k hk).symm⟩
/-- references in a row, at least in range -/
def oCR (o : Ob) (ty n : Nat) (m : Int) (g : Int → Value) : Prop := ∃ f, o = oA ty n f ∧ ∀ k : Int, 0 ≤ k ∧ k < m → f k.toNat = g k
theorem oCR.to {o : Ob} {ty n : Nat} {m m' : Int} {g g' : Int → Value} (c : oCR o ty n m g) (hm : m' ≤ m) (e : ∀ k : Int, 0 ≤ k ∧ k < m' → g' k = g k) : oCR o ty n m' g' := by
  obtain ⟨f, h1, h2⟩ := c
  exact ⟨f, h1, fun k hk => (h2 k ⟨hk.1, by omega⟩).trans (e k hk).symm⟩
def sFl (α : Int → Nat) (w x : Int → Int) : List Value := [.ref (α 1), vi (x 404), .ref (α 2), vi (w 6), vi (w 10), vi (w 8), vi (w 9), vi (w 12), vi (x 400), .ref (α 3), .ref (α 5), .ref (α 6), .ref (α 7), .ref (α 8), .ref (α 9), .ref (α 10), .ref (α 11), .ref (α 12), .ref (α 13), .ref (α 14), .ref (α 15), .ref (α 16), .ref (α 17), .ref (α 18)]
def uFl (α : Int → Nat) (w : Int → Int) (u : Int) : List Value := [vi (w (23 + 17 * u + 16)), vi (w (23 + 17 * u + 0)), vi (w (23 + 17 * u + 1)), vi (w (23 + 17 * u + 2)), vi (w (23 + 17 * u + 3)), vi (w (23 + 17 * u + 7)), .ref (α (300 + u)), vi (w (23 + 17 * u + 5)), vi (w (23 + 17 * u + 6)), vi (w (23 + 17 * u + 8)), vi (w (23 + 17 * u + 9))]
def zFl (α : Int → Nat) (w : Int → Int) (z : Int) : List Value := [vi (w (1706 + 13 * z + 0)), vi (w (1706 + 13 * z + 1)), vi (w (1706 + 13 * z + 2)), .ref (α (60 + z))]
/-- what stands at the role i -/
def SC (α : Int → Nat) (w x : Int → Int) (i : Int) (o : Ob) : Prop :=
  if i = 0 then o = oF 2 (sFl α w x)
  else if i = 1 then oCI o 6 w
  else if i = 2 then oCI o (x 405).toNat (fun k => x (500 + k))
  else if i = 3 then o = oF 11 [vi (x 401), .ref (α 4), vi (w 7)]
  else if i = 4 then ∃ n : Nat, oCR o 5 n (w 7) (fun k => .ref (α (100 + k))) ∧ w 7 ≤ n ∧ n ≤ 10000
  else if i = 5 then oCR o 6 12 (w 0) (fun z => .ref (α (40 + z)))
  else if i = 6 then oCI o 5 (fun k => w (13 + k))
  else if i = 7 then oCI o 5 (fun k => w (18 + k))
  else if i = 8 then oCI o 8 (fun k => x (0 + k))
  else if i = 9 then oCI o 8 (fun k => x (10 + k))
  else if i = 10 then oCI o 8 (fun k => x (20 + k))
  else if i = 11 then oCI o 4 (fun k => x (30 + k))
  else if i = 12 then oCI o 4 (fun k => x (40 + k))
  else if i = 13 then oCI o 32 (fun k => x (50 + k))
  else if i = 14 then ∃ f, o = oA 7 7 f ∧ (∀ k : Int, 0 ≤ k ∧ k ≤ 4 → f k.toNat = .ref (α (20 + k))) ∧ f 6 = .ref (α 26)
  else if i = 15 then oCI o 12 (fun k => x (100 + k))
  else if i = 16 then oCI o 12 (fun k => x (120 + k))
  else if i = 17 then oCI o 99 (fun k => x (200 + k))
  else if i = 18 then oCI o 99 (fun k => x (300 + k))
  else if i < 40 then ∃ f, o = oL (if i = 26 then 5 else (i - 20).toNat) 1 f ∧ f 0 = .ref (α 0)
  else if i < 60 then o = oF 3 (zFl α w (i - 40))
  else if i < 80 then o = oF 11 [vi (x (410 + (i - 60))), .ref (α (80 + (i - 60))), vi (w (1706 + 13 * (i - 60) + 3))]
  else if i < 100 then oCR o 5 9 (w (1706 + 13 * (i - 80) + 3)) (fun k => .ref (α (100 + w (1706 + 13 * (i - 80) + 4 + k))))
  else if i < 300 then o = oF 4 (uFl α w (i - 100))
  else oCI o 5 (fun k => w (23 + 17 * (i - 300) + (10 + k)))
abbrev sRo (i : Int) : Prop := i = 1 ∨ i = 2 ∨ 300 ≤ i
def sTg (t : Nat) (i : Int) : Nat := if sRo i then 2 else t
abbrev sUse (w : Int → Int) (i : Int) : Prop := (0 ≤ i ∧ i ≤ 18 ∧ (i = 4 → 1 ≤ w 7)) ∨ (20 ≤ i ∧ i ≤ 24) ∨ i = 26 ∨ (40 ≤ i ∧ i < 40 + w 0) ∨ (60 ≤ i ∧ i < 60 + w 0) ∨ (80 ≤ i ∧ i < 80 + w 0) ∨ (100 ≤ i ∧ i < 100 + w 7) ∨ (300 ≤ i ∧ i < 300 + w 7)
/-- the places of w, and of x, on which the role i depends -/
abbrev dW (w : Int → Int) (i j : Int) : Prop := (i = 0 ∧ (j = 6 ∨ j = 8 ∨ j = 9 ∨ j = 10 ∨ j = 12)) ∨ (i = 1 ∧ 0 ≤ j ∧ j ≤ 5) ∨ (i = 3 ∧ j = 7) ∨ (i = 4 ∧ j = 7) ∨ (i = 5 ∧ j = 0) ∨ (i = 6 ∧ 13 ≤ j ∧ j ≤ 17) ∨ (i = 7 ∧ 18 ≤ j ∧ j ≤ 22)
  ∨ (40 ≤ i ∧ i < 60 ∧ 1706 + 13 * (i - 40) ≤ j ∧ j ≤ 1706 + 13 * (i - 40) + 2) ∨ (60 ≤ i ∧ i < 80 ∧ j = 1706 + 13 * (i - 60) + 3) ∨ (80 ≤ i ∧ i < 100 ∧ (j = 1706 + 13 * (i - 80) + 3 ∨ (1706 + 13 * (i - 80) + 4 ≤ j ∧ j < 1706 + 13 * (i - 80) + 4 + w (1706 + 13 * (i - 80) + 3))))
  ∨ (100 ≤ i ∧ i < 300 ∧ ((23 + 17 * (i - 100) ≤ j ∧ j ≤ 23 + 17 * (i - 100) + 9 ∧ j ≠ 23 + 17 * (i - 100) + 4) ∨ j = 23 + 17 * (i - 100) + 16)) ∨ (300 ≤ i ∧ 23 + 17 * (i - 300) + 10 ≤ j ∧ j ≤ 23 + 17 * (i - 300) + 14)
abbrev dX (i j : Int) : Prop := (i = 0 ∧ (j = 400 ∨ j = 404)) ∨ (i = 2 ∧ (j = 405 ∨ 500 ≤ j)) ∨ (i = 3 ∧ j = 401) ∨ (i = 8 ∧ 0 ≤ j ∧ j ≤ 7) ∨ (i = 9 ∧ 10 ≤ j ∧ j ≤ 17) ∨ (i = 10 ∧ 20 ≤ j ∧ j ≤ 27) ∨ (i = 11 ∧ 30 ≤ j ∧ j ≤ 33) ∨ (i = 12 ∧ 40 ≤ j ∧ j ≤ 43) ∨ (i = 13 ∧ 50 ≤ j ∧ j ≤ 81)
  ∨ (i = 15 ∧ 100 ≤ j ∧ j ≤ 111) ∨ (i = 16 ∧ 120 ≤ j ∧ j ≤ 131) ∨ (i = 17 ∧ 200 ≤ j ∧ j ≤ 298) ∨ (i = 18 ∧ 300 ≤ j ∧ j ≤ 398) ∨ (60 ≤ i ∧ i < 80 ∧ j = 410 + (i - 60))
theorem SC.to {α : Int → Nat} {w x w' x' : Int → Int} {i : Int} {o : Ob} (h : SC α w x i o) (h0 : 0 ≤ i) (hw : ∀ j, dW w i j → w' j = w j) (hx : ∀ j, dX i j → x' j = x j) : SC α w' x' i o := by
  unfold SC at h ⊢
  by_cases e0 : i = 0
  · rw [if_pos e0] at h ⊢
    have a : ∀ j, (j = 6 ∨ j = 8 ∨ j = 9 ∨ j = 10 ∨ j = 12) → w' j = w j := fun j hj => hw j (Or.inl ⟨e0, hj⟩)
    have b : ∀ j, (j = 400 ∨ j = 404) → x' j = x j := fun j hj => hx j (Or.inl ⟨e0, hj⟩)
    rw [h]
    unfold sFl
    rw [a 6 (by decide), a 10 (by decide), a 8 (by decide), a 9 (by decide), a 12 (by decide), b 400 (by decide), b 404 (by decide)]
  rw [if_neg e0] at h ⊢
  by_cases e1 : i = 1
  · rw [if_pos e1] at h ⊢
    exact h.to fun k hk => hw k (Or.inr (Or.inl ⟨e1, by omega, by omega⟩))
  rw [if_neg e1] at h ⊢
  by_cases e2 : i = 2
  · rw [if_pos e2] at h ⊢
    rw [hx 405 (Or.inr (Or.inl ⟨e2, Or.inl rfl⟩))]
    exact h.to fun k hk => hx (500 + k) (Or.inr (Or.inl ⟨e2, Or.inr (by omega)⟩))
  rw [if_neg e2] at h ⊢
  by_cases e3 : i = 3
  · rw [if_pos e3] at h ⊢
    rw [h, hx 401 (Or.inr (Or.inr (Or.inl ⟨e3, rfl⟩))), hw 7 (Or.inr (Or.inr (Or.inl ⟨e3, rfl⟩)))]
  rw [if_neg e3] at h ⊢
  by_cases e4 : i = 4
  · rw [if_pos e4] at h ⊢
    obtain ⟨n, h1, h2, h3⟩ := h
    rw [hw 7 (Or.inr (Or.inr (Or.inr (Or.inl ⟨e4, rfl⟩))))]
    exact ⟨n, h1, h2, h3⟩
  rw [if_neg e4] at h ⊢
  by_cases e5 : i = 5
  · rw [if_pos e5] at h ⊢
    rw [hw 0 (Or.inr (Or.inr (Or.inr (Or.inr (Or.inl ⟨e5, rfl⟩)))))]
    exact h
  rw [if_neg e5] at h ⊢
  by_cases e6 : i = 6
  · rw [if_pos e6] at h ⊢
    exact h.to fun k hk => hw (13 + k) (Or.inr (Or.inr (Or.inr (Or.inr (Or.inr (Or.inl ⟨e6, by omega, by omega⟩))))))
  rw [if_neg e6] at h ⊢
  by_cases e7 : i = 7
  · rw [if_pos e7] at h ⊢
    exact h.to fun k hk => hw (18 + k) (Or.inr (Or.inr (Or.inr (Or.inr (Or.inr (Or.inr (Or.inl ⟨e7, by omega, by omega⟩)))))))
  rw [if_neg e7] at h ⊢
  by_cases e8 : i = 8
  · rw [if_pos e8] at h ⊢
    exact h.to fun k hk => hx (0 + k) (Or.inr (Or.inr (Or.inr (Or.inl ⟨e8, by omega, by omega⟩))))
  rw [if_neg e8] at h ⊢
  by_cases e9 : i = 9
  · rw [if_pos e9] at h ⊢
    exact h.to fun k hk => hx (10 + k) (Or.inr (Or.inr (Or.inr (Or.inr (Or.inl ⟨e9, by omega, by omega⟩)))))
  rw [if_neg e9] at h ⊢
  by_cases e10 : i = 10
  · rw [if_pos e10] at h ⊢
    exact h.to fun k hk => hx (20 + k) (Or.inr (Or.inr (Or.inr (Or.inr (Or.inr (Or.inl ⟨e10, by omega, by omega⟩))))))
  rw [if_neg e10] at h ⊢
  by_cases e11 : i = 11
  · rw [if_pos e11] at h ⊢
    exact h.to fun k hk => hx (30 + k) (Or.inr (Or.inr (Or.inr (Or.inr (Or.inr (Or.inr (Or.inl ⟨e11, by omega, by omega⟩)))))))
  rw [if_neg e11] at h ⊢
  by_cases e12 : i = 12
  · rw [if_pos e12] at h ⊢
    exact h.to fun k hk => hx (40 + k) (Or.inr (Or.inr (Or.inr (Or.inr (Or.inr (Or.inr (Or.inr (Or.inl ⟨e12, by omega, by omega⟩))))))))
  rw [if_neg e12] at h ⊢
  by_cases e13 : i = 13
  · rw [if_pos e13] at h ⊢
    exact h.to fun k hk => hx (50 + k) (Or.inr (Or.inr (Or.inr (Or.inr (Or.inr (Or.inr (Or.inr (Or.inr (Or.inl ⟨e13, by omega, by omega⟩)))))))))
  rw [if_neg e13] at h ⊢
  by_cases e14 : i = 14
  · rw [if_pos e14] at h ⊢
    exact h
  rw [if_neg e14] at h ⊢
  by_cases e15 : i = 15
  · rw [if_pos e15] at h ⊢
    exact h.to fun k hk => hx (100 + k) (Or.inr (Or.inr (Or.inr (Or.inr (Or.inr (Or.inr (Or.inr (Or.inr (Or.inr (Or.inl ⟨e15, by omega, by omega⟩))))))))))
  rw [if_neg e15] at h ⊢
  by_cases e16 : i = 16
  · rw [if_pos e16] at h ⊢
    exact h.to fun k hk => hx (120 + k) (Or.inr (Or.inr (Or.inr (Or.inr (Or.inr (Or.inr (Or.inr (Or.inr (Or.inr (Or.inr (Or.inl ⟨e16, by omega, by omega⟩)))))))))))
  rw [if_neg e16] at h ⊢
  by_cases e17 : i = 17
  · rw [if_pos e17] at h ⊢
    exact h.to fun k hk => hx (200 + k) (Or.inr (Or.inr (Or.inr (Or.inr (Or.inr (Or.inr (Or.inr (Or.inr (Or.inr (Or.inr (Or.inr (Or.inl ⟨e17, by omega, by omega⟩))))))))))))
  rw [if_neg e17] at h ⊢
  by_cases e18 : i = 18
  · rw [if_pos e18] at h ⊢
    exact h.to fun k hk => hx (300 + k) (Or.inr (Or.inr (Or.inr (Or.inr (Or.inr (Or.inr (Or.inr (Or.inr (Or.inr (Or.inr (Or.inr (Or.inr (Or.inl ⟨e18, by omega, by omega⟩)))))))))))))
  rw [if_neg e18] at h ⊢
  by_cases e40 : i < 40
  · rw [if_pos e40] at h ⊢
    exact h
  rw [if_neg e40] at h ⊢
  by_cases e60 : i < 60
  · rw [if_pos e60] at h ⊢
    have a : ∀ k, 0 ≤ k ∧ k ≤ 2 → w' (1706 + 13 * (i - 40) + k) = w (1706 + 13 * (i - 40) + k) := fun k hk => hw _ (Or.inr (Or.inr (Or.inr (Or.inr (Or.inr (Or.inr (Or.inr (Or.inl ⟨by omega, e60, by omega, by omega⟩))))))))
    rw [h]
    unfold zFl
    rw [a 0 (by decide), a 1 (by decide), a 2 (by decide)]
  rw [if_neg e60] at h ⊢
  by_cases e80 : i < 80
  · rw [if_pos e80] at h ⊢
    rw [h, hx (410 + (i - 60)) (Or.inr (Or.inr (Or.inr (Or.inr (Or.inr (Or.inr (Or.inr (Or.inr (Or.inr (Or.inr (Or.inr (Or.inr (Or.inr ⟨by omega, e80, rfl⟩))))))))))))), hw (1706 + 13 * (i - 60) + 3) (Or.inr (Or.inr (Or.inr (Or.inr (Or.inr (Or.inr (Or.inr (Or.inr (Or.inl ⟨by omega, e80, rfl⟩)))))))))]
  rw [if_neg e80] at h ⊢
  by_cases e100 : i < 100
  · rw [if_pos e100] at h ⊢
    rw [hw (1706 + 13 * (i - 80) + 3) (Or.inr (Or.inr (Or.inr (Or.inr (Or.inr (Or.inr (Or.inr (Or.inr (Or.inr (Or.inl ⟨by omega, e100, Or.inl rfl⟩))))))))))]
    exact h.to (Int.le_refl _) fun k hk => by rw [hw (1706 + 13 * (i - 80) + 4 + k) (Or.inr (Or.inr (Or.inr (Or.inr (Or.inr (Or.inr (Or.inr (Or.inr (Or.inr (Or.inl ⟨by omega, e100, Or.inr ⟨by omega, by omega⟩⟩))))))))))]
  rw [if_neg e100] at h ⊢
  by_cases e300 : i < 300
  · rw [if_pos e300] at h ⊢
    have a : ∀ k, (0 ≤ k ∧ k ≤ 9 ∧ k ≠ 4) ∨ k = 16 → w' (23 + 17 * (i - 100) + k) = w (23 + 17 * (i - 100) + k) := fun k hk => hw _ (Or.inr (Or.inr (Or.inr (Or.inr (Or.inr (Or.inr (Or.inr (Or.inr (Or.inr (Or.inr (Or.inl ⟨by omega, e300, hk.imp (fun q => ⟨by omega, by omega, by omega⟩) (fun q => by omega)⟩)))))))))))
    rw [h]
    unfold uFl
    rw [a 16 (by decide), a 0 (by decide), a 1 (by decide), a 2 (by decide), a 3 (by decide), a 7 (by decide), a 5 (by decide), a 6 (by decide), a 8 (by decide), a 9 (by decide)]
  rw [if_neg e300] at h ⊢
  exact h.to fun k hk => hw (23 + 17 * (i - 300) + (10 + k)) (Or.inr (Or.inr (Or.inr (Or.inr (Or.inr (Or.inr (Or.inr (Or.inr (Or.inr (Or.inr (Or.inr ⟨by omega, by omega, by omega⟩)))))))))))
/-- the store at α 0: its cells, of the tag t (what never changes: of the tag 2) -/
def SX (Γ : Cx) (t : Nat) (α : Int → Nat) (h0 h : AH) (w x : Int → Int) : Prop :=
  (t ≠ 1 ∧ t ≠ 2) ∧ (0 ≤ w 0 ∧ w 0 ≤ 12 ∧ 0 ≤ w 7 ∧ w 7 ≤ 99 ∧ ∀ z, 0 ≤ z ∧ z ≤ 11 → 0 ≤ w (1706 + 13 * z + 3) ∧ w (1706 + 13 * z + 3) ≤ 9) ∧
  (∀ i, sUse w i → ∃ o, h (α i) = some (sTg t i, o) ∧ SC α w x i o) ∧ (∀ i j, sUse w i → sUse w j → ¬ sRo i → ¬ sRo j → α i = α j → i = j) ∧ (w 7 = 0 → α 4 = Γ.2.2.2.2.2 3) ∧ Fx t h0 h
section SXS
variable {Γ : Cx} {t : Nat} {α : Int → Nat} {h0 h : AH} {w x : Int → Int}
theorem SX.tne (hS : SX Γ t α h0 h w x) : t ≠ 1 ∧ t ≠ 2 := hS.1
theorem SX.b (hS : SX Γ t α h0 h w x) : 0 ≤ w 0 ∧ w 0 ≤ 12 ∧ 0 ≤ w 7 ∧ w 7 ≤ 99 ∧ ∀ z, 0 ≤ z ∧ z ≤ 11 → 0 ≤ w (1706 + 13 * z + 3) ∧ w (1706 + 13 * z + 3) ≤ 9 := hS.2.1
theorem SX.at (hS : SX Γ t α h0 h w x) {i : Int} (hu : sUse w i) : ∃ o, h (α i) = some (sTg t i, o) ∧ SC α w x i o := hS.2.2.1 i hu
theorem SX.inj (hS : SX Γ t α h0 h w x) : ∀ i j, sUse w i → sUse w j → ¬ sRo i → ¬ sRo j → α i = α j → i = j := hS.2.2.2.1
theorem SX.fx (hS : SX Γ t α h0 h w x) : Fx t h0 h := hS.2.2.2.2.2
theorem SX.rb (hS : SX Γ t α h0 h w x) : SX Γ t α h h w x := ⟨hS.1, hS.2.1, hS.2.2.1, hS.2.2.2.1, hS.2.2.2.2.1, Fx.rf⟩
theorem SX.tr (hS : SX Γ t α h0 h w x) {h1 : AH} {α' : Int → Nat} {w' x' : Int → Int} (hT : SX Γ t α' h h1 w' x') : SX Γ t α' h0 h1 w' x' := ⟨hT.1, hT.2.1, hT.2.2.1, hT.2.2.2.1, hT.2.2.2.2.1, Fx.tr hS.fx hT.fx⟩
theorem sTg_n {t : Nat} {i : Int} (n : ¬ sRo i) : sTg t i = t := if_neg n
theorem sTg_r {t : Nat} {i : Int} (n : sRo i) : sTg t i = 2 := if_pos n
/-- others write their own cells -/
theorem SX.keep (hS : SX Γ t α h0 h w x) {t2 : Nat} {h1 : AH} (hf : Fx t2 h h1) (n1 : t ≠ t2) (n2 : 2 ≠ t2) : SX Γ t α h1 h1 w x := by
  refine ⟨hS.1, hS.2.1, fun i hu => ?_, hS.2.2.2.1, hS.2.2.2.2.1, Fx.rf⟩
  obtain ⟨o, h1, h2⟩ := hS.at hu
  refine ⟨o, hf _ _ h1 ?_, h2⟩
  unfold sTg
  split
  · exact n2
  · exact n1
/-- the rows may be other ones that say the same -/
theorem SX.to (hS : SX Γ t α h0 h w x) {w' x' : Int → Int} (e0 : w' 0 = w 0) (e7 : w' 7 = w 7) (hc : ∀ z, 0 ≤ z ∧ z ≤ 11 → 0 ≤ w' (1706 + 13 * z + 3) ∧ w' (1706 + 13 * z + 3) ≤ 9)
    (hw : ∀ i, sUse w i → ∀ j, dW w i j → w' j = w j) (hx : ∀ i, sUse w i → ∀ j, dX i j → x' j = x j) : SX Γ t α h0 h w' x' := by
  have b := hS.b
  refine ⟨hS.1, ⟨by omega, by omega, by omega, by omega, hc⟩, fun i hu => ?_, ?_, by rw [e7]; exact hS.2.2.2.2.1, hS.fx⟩
  · rw [sUse, e0, e7] at hu
    obtain ⟨o, h1, h2⟩ := hS.at hu
    exact ⟨o, h1, SC.to h2 (by omega) (hw i hu) (hx i hu)⟩
  · intro i j hi hj
    rw [sUse, e0, e7] at hi hj
    exact hS.inj i j hi hj
/-- a cell of the store written -/
theorem SX.set (hS : SX Γ t α h0 h w x) {i : Int} {o' : Ob} {w' x' : Int → Int} (hu : sUse w i) (hr : ¬ sRo i) (e0 : w' 0 = w 0) (e7 : w' 7 = w 7) (hc : ∀ z, 0 ≤ z ∧ z ≤ 11 → 0 ≤ w' (1706 + 13 * z + 3) ∧ w' (1706 + 13 * z + 3) ≤ 9)
    (ho : SC α w' x' i o') (hw : ∀ k, sUse w k → k ≠ i → ∀ j, dW w k j → w' j = w j) (hx : ∀ k, sUse w k → k ≠ i → ∀ j, dX k j → x' j = x j) : SX Γ t α h0 (hset h (α i) (t, o')) w' x' := by
  have b := hS.b
  obtain ⟨o, g1, g2⟩ := hS.at hu
  rw [sTg_n hr] at g1
  refine ⟨hS.1, ⟨by omega, by omega, by omega, by omega, hc⟩, fun k hk => ?_, ?_, by rw [e7]; exact hS.2.2.2.2.1, Fx.tr hS.fx (Fx.set g1)⟩
  · rw [sUse, e0, e7] at hk
    by_cases e : k = i
    · subst e
      exact ⟨o', by rw [sTg_n hr]; exact hset_s _ _ _, ho⟩
    · obtain ⟨q, k1, k2⟩ := hS.at hk
      refine ⟨q, ?_, SC.to k2 (by omega) (hw k hk e) (hx k hk e)⟩
      rw [hset_n]
      · exact k1
      · intro z
        by_cases hq : sRo k
        · rw [z, g1, sTg_r hq] at k1
          have := congrArg (fun y => y.map Prod.fst) k1
          simp at this
          exact hS.tne.2 this
        · exact e (hS.inj k i hk hu hq hr z)
  · intro i j hi hj
    rw [sUse, e0, e7] at hi hj
    exact hS.inj i j hi hj
/-- reading -/
theorem sx_obj (hS : SX Γ t α h0 h w x) : h (α 0) = some (t, oF 2 (sFl α w x)) := by
  obtain ⟨o, h1, h2⟩ := hS.at (i := 0) (by omega)
  rw [sTg_n (by omega)] at h1
  rw [h1, show o = _ from h2]
theorem sx_set (hS : SX Γ t α h0 h w x) : CI h (α 1) 2 6 w := by
  obtain ⟨o, h1, f, h2, h3⟩ := hS.at (i := 1) (by omega)
  rw [sTg_r (by omega)] at h1
  exact ⟨f, by rw [h1, h2], h3⟩
theorem sx_known (hS : SX Γ t α h0 h w x) : CI h (α 2) 2 (x 405).toNat (fun k => x (500 + k)) := by
  obtain ⟨o, h1, f, h2, h3⟩ := hS.at (i := 2) (by omega)
  rw [sTg_r (by omega)] at h1
  exact ⟨f, by rw [h1, h2], h3⟩
theorem sx_units (hS : SX Γ t α h0 h w x) : h (α 3) = some (t, oF 11 [vi (x 401), .ref (α 4), vi (w 7)]) := by
  obtain ⟨o, h1, h2⟩ := hS.at (i := 3) (by omega)
  rw [sTg_n (by omega)] at h1
  rw [h1, show o = _ from h2]
theorem sx_data (hS : SX Γ t α h0 h w x) (h7 : 1 ≤ w 7) : ∃ (n : Nat) (f : Nat → Value), h (α 4) = some (t, oA 5 n f) ∧ w 7 ≤ n ∧ n ≤ 10000 ∧ ∀ k : Int, 0 ≤ k ∧ k < w 7 → f k.toNat = .ref (α (100 + k)) := by
  obtain ⟨o, h1, n, ⟨f, h2, h3⟩, h4, h5⟩ := hS.at (i := 4) (by omega)
  rw [sTg_n (by omega)] at h1
  exact ⟨n, f, by rw [h1, h2], h4, h5, h3⟩
theorem sx_zones (hS : SX Γ t α h0 h w x) : ∃ f : Nat → Value, h (α 5) = some (t, oA 6 12 f) ∧ ∀ k : Int, 0 ≤ k ∧ k < w 0 → f k.toNat = .ref (α (40 + k)) := by
  obtain ⟨o, h1, f, h2, h3⟩ := hS.at (i := 5) (by omega)
  rw [sTg_n (by omega)] at h1
  exact ⟨f, by rw [h1, h2], h3⟩
theorem sx_gue (hS : SX Γ t α h0 h w x) : ∃ f : Nat → Value, h (α 14) = some (t, oA 7 7 f) ∧ (∀ k : Int, 0 ≤ k ∧ k ≤ 4 → f k.toNat = .ref (α (20 + k))) ∧ f 6 = .ref (α 26) := by
  obtain ⟨o, h1, f, h2, h3⟩ := hS.at (i := 14) (by omega)
  rw [sTg_n (by omega)] at h1
  exact ⟨f, by rw [h1, h2], h3⟩
theorem sx_zone (hS : SX Γ t α h0 h w x) {z : Int} (hz : 0 ≤ z ∧ z < w 0) : h (α (40 + z)) = some (t, oF 3 (zFl α w z)) := by
  have b := hS.b
  obtain ⟨o, h1, h2⟩ := hS.at (i := 40 + z) (by omega)
  rw [sTg_n (by omega)] at h1
  unfold SC at h2
  rw [if_neg (by omega), if_neg (by omega), if_neg (by omega), if_neg (by omega), if_neg (by omega), if_neg (by omega), if_neg (by omega), if_neg (by omega), if_neg (by omega), if_neg (by omega), if_neg (by omega), if_neg (by omega), if_neg (by omega), if_neg (by omega), if_neg (by omega), if_neg (by omega), if_neg (by omega), if_neg (by omega), if_neg (by omega), if_neg (by omega), if_pos (by omega), show 40 + z - 40 = z by omega] at h2
  rw [h1, h2]
theorem sx_zl (hS : SX Γ t α h0 h w x) {z : Int} (hz : 0 ≤ z ∧ z < w 0) : h (α (60 + z)) = some (t, oF 11 [vi (x (410 + z)), .ref (α (80 + z)), vi (w (1706 + 13 * z + 3))]) := by
  have b := hS.b
  obtain ⟨o, h1, h2⟩ := hS.at (i := 60 + z) (by omega)
  rw [sTg_n (by omega)] at h1
  unfold SC at h2
  rw [if_neg (by omega), if_neg (by omega), if_neg (by omega), if_neg (by omega), if_neg (by omega), if_neg (by omega), if_neg (by omega), if_neg (by omega), if_neg (by omega), if_neg (by omega), if_neg (by omega), if_neg (by omega), if_neg (by omega), if_neg (by omega), if_neg (by omega), if_neg (by omega), if_neg (by omega), if_neg (by omega), if_neg (by omega), if_neg (by omega), if_neg (by omega), if_pos (by omega), show 60 + z - 60 = z by omega] at h2
  rw [h1, h2]
theorem sx_zd (hS : SX Γ t α h0 h w x) {z : Int} (hz : 0 ≤ z ∧ z < w 0) : ∃ f : Nat → Value, h (α (80 + z)) = some (t, oA 5 9 f) ∧ ∀ k : Int, 0 ≤ k ∧ k < w (1706 + 13 * z + 3) → f k.toNat = .ref (α (100 + w (1706 + 13 * z + 4 + k))) := by
  have b := hS.b
  obtain ⟨o, h1, h2⟩ := hS.at (i := 80 + z) (by omega)
  rw [sTg_n (by omega)] at h1
  unfold SC at h2
  rw [if_neg (by omega), if_neg (by omega), if_neg (by omega), if_neg (by omega), if_neg (by omega), if_neg (by omega), if_neg (by omega), if_neg (by omega), if_neg (by omega), if_neg (by omega), if_neg (by omega), if_neg (by omega), if_neg (by omega), if_neg (by omega), if_neg (by omega), if_neg (by omega), if_neg (by omega), if_neg (by omega), if_neg (by omega), if_neg (by omega), if_neg (by omega), if_neg (by omega), if_pos (by omega), show 80 + z - 80 = z by omega] at h2
  obtain ⟨f, h3, h4⟩ := h2
  exact ⟨f, by rw [h1, h3], h4⟩
theorem sx_unit (hS : SX Γ t α h0 h w x) {u : Int} (hu : 0 ≤ u ∧ u < w 7) : h (α (100 + u)) = some (t, oF 4 (uFl α w u)) := by
  have b := hS.b
  obtain ⟨o, h1, h2⟩ := hS.at (i := 100 + u) (by omega)
  rw [sTg_n (by omega)] at h1
  unfold SC at h2
  rw [if_neg (by omega), if_neg (by omega), if_neg (by omega), if_neg (by omega), if_neg (by omega), if_neg (by omega), if_neg (by omega), if_neg (by omega), if_neg (by omega), if_neg (by omega), if_neg (by omega), if_neg (by omega), if_neg (by omega), if_neg (by omega), if_neg (by omega), if_neg (by omega), if_neg (by omega), if_neg (by omega), if_neg (by omega), if_neg (by omega), if_neg (by omega), if_neg (by omega), if_neg (by omega), if_pos (by omega), show 100 + u - 100 = u by omega] at h2
  rw [h1, h2]
theorem sx_told (hS : SX Γ t α h0 h w x) {u : Int} (hu : 0 ≤ u ∧ u < w 7) : CI h (α (300 + u)) 2 5 (fun k => w (23 + 17 * u + (10 + k))) := by
  have b := hS.b
  obtain ⟨o, h1, h2⟩ := hS.at (i := 300 + u) (by omega)
  rw [sTg_r (by omega)] at h1
  unfold SC at h2
  rw [if_neg (by omega), if_neg (by omega), if_neg (by omega), if_neg (by omega), if_neg (by omega), if_neg (by omega), if_neg (by omega), if_neg (by omega), if_neg (by omega), if_neg (by omega), if_neg (by omega), if_neg (by omega), if_neg (by omega), if_neg (by omega), if_neg (by omega), if_neg (by omega), if_neg (by omega), if_neg (by omega), if_neg (by omega), if_neg (by omega), if_neg (by omega), if_neg (by omega), if_neg (by omega), if_neg (by omega), show 300 + u - 300 = u by omega] at h2
  obtain ⟨f, h3, h4⟩ := h2
  exact ⟨f, by rw [h1, h3], h4⟩
end SXS
