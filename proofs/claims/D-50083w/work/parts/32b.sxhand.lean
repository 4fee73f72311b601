/-! THE STORE's PICTURE, more by hand (own) -/
def xG (w x : Int → Int) (g wr sz nm : Int) : Int :=
  if g = 0 then w 4 else if g = 1 then (if x (0 + wr) = 0 then w 4 else (x (10 + wr)).tdiv (x (0 + wr))) else if g = 2 then (if x (30 + sz) = 0 then w 4 else (x (40 + sz)).tdiv (x (30 + sz)))
  else if g = 3 then (if x (50 + (4 * wr + sz)) = -1 then w 4 else x (50 + (4 * wr + sz))) else if g = 4 then (if x (0 + wr) = 0 then w 4 else x (20 + wr)) else x (500 + nm)
/-- what is laid out is the row w' -/
def Lay (w' w x : Int → Int) : Prop := w' 0 = w 0 ∧ w' 1 = w 1 ∧ ∀ z, 0 ≤ z ∧ z < w 0 → x (100 + z) = w' (1706 + 13 * z + 0) ∧ x (120 + z) = w' (1706 + 13 * z + 1)
section SXH
variable {Γ : Cx} {t : Nat} {α : Int → Nat} {h0 h : AH} {w x : Int → Int}
theorem sp_uget (hS : SX Γ t α h0 h w x) {k : Int} (hk : 0 ≤ k ∧ k < w 7) : Sp Γ yJ2_get mJ2_get 3 0 0 [.ref (α 3), vi k] h (Qw (.ref (α (100 + k))) h) NoX := by
  have b := hS.b
  obtain ⟨n, f, h1, h2, h3, h4⟩ := sx_data hS (by omega)
  exact sp_J2_get (sx_units hS) h1 (by omega) (h4 k hk)
theorem sp_zget (hS : SX Γ t α h0 h w x) {z k : Int} (hz : 0 ≤ z ∧ z < w 0) (hk : 0 ≤ k ∧ k < w (1706 + 13 * z + 3)) : Sp Γ yJ2_get mJ2_get 3 0 0 [.ref (α (60 + z)), vi k] h (Qw (.ref (α (100 + w (1706 + 13 * z + 4 + k)))) h) NoX := by
  have b := hS.b
  have b2 := b.2.2.2.2 z (by omega)
  obtain ⟨f, h1, h2⟩ := sx_zd hS hz
  exact sp_J2_get (sx_zl hS hz) h1 (by omega) (h2 k hk)
/-- a unit put into a zone's list -/
theorem SX.zadd (hS : SX Γ t α h0 h w x) {h' : AH} {f : Nat → Value} {z u : Int} (hz : 0 ≤ z ∧ z < w 0) (hf : ∀ k : Int, 0 ≤ k ∧ k < w (1706 + 13 * z + 3) → f k.toNat = .ref (α (100 + w (1706 + 13 * z + 4 + k)))) (hn : w (1706 + 13 * z + 3) < 9)
    (hh : Up2 h h' (α (60 + z)) (α (80 + z)) (t, oF 11 [vi (x (410 + z) + 1), .ref (α (80 + z)), vi (w (1706 + 13 * z + 3) + 1)]) (t, oA 5 9 (ups f (w (1706 + 13 * z + 3)).toNat (.ref (α (100 + u)))))) :
    SX Γ t α h0 h' (upi (upi w (1706 + 13 * z + 4 + w (1706 + 13 * z + 3)) u) (1706 + 13 * z + 3) (w (1706 + 13 * z + 3) + 1)) (upi x (410 + z) (x (410 + z) + 1)) := by
  have b := hS.b
  have b2 := b.2.2.2.2 z (by omega)
  refine hS.set2 (i := 60 + z) (i2 := 80 + z) (by omega) (by omega) (by omega) (by omega) hh (by rw [upi_n (by omega), upi_n (by omega)]) (by rw [upi_n (by omega), upi_n (by omega)]) (fun y hy => ?_) (sc_zl (by omega) (by rw [upi_s, upi_s])) (sc_zd (by omega) ?_) (fun k hk n1 n2 j hj => by have hb9 := b.2.2.2.2 (k - 80); rw [upi_n (by omega), upi_n (by omega)]) (fun k _ n1 n2 j hj => upi_n (by omega))
  · by_cases e : y = z
    · rw [e, upi_s]; omega
    · rw [upi_n (by omega), upi_n (by omega)]; exact b.2.2.2.2 y hy
  · rw [upi_s]
    refine ⟨_, rfl, fun k hk => ?_⟩
    by_cases e : k = w (1706 + 13 * z + 3)
    · dsimp only
      rw [e, upi_n (by omega), upi_s]
      exact if_pos rfl
    · dsimp only
      rw [upi_n (by omega), upi_n (by omega)]
      unfold ups
      rw [if_neg (by omega)]
      exact hf k (by omega)
/-- a zone's list cleared -/
theorem SX.zclear (hS : SX Γ t α h0 h w x) {h' : AH} {f9 : Nat → Value} {z : Int} (hz : 0 ≤ z ∧ z < w 0)
    (hh : Up2 h h' (α (60 + z)) (α (80 + z)) (t, oF 11 [vi (x (410 + z) + 1), .ref (α (80 + z)), vi 0]) (t, oA 5 9 f9)) :
    SX Γ t α h0 h' (upi w (1706 + 13 * z + 3) 0) (upi x (410 + z) (x (410 + z) + 1)) := by
  have b := hS.b
  refine hS.set2 (i := 60 + z) (i2 := 80 + z) (by omega) (by omega) (by omega) (by omega) hh (upi_n (by omega)) (upi_n (by omega)) (fun y hy => ?_) (sc_zl (by omega) (by rw [upi_s, upi_s])) (sc_zd (by omega) ?_) (fun k hk n1 n2 j hj => by have hb9 := b.2.2.2.2 (k - 80); rw [upi_n (by omega)]) (fun k _ n1 n2 j hj => upi_n (by omega))
  · by_cases e : y = z
    · rw [e, upi_s]; omega
    · rw [upi_n (by omega)]; exact b.2.2.2.2 y hy
  · rw [upi_s]
    exact ⟨_, rfl, fun k hk => absurd hk.1 (by omega)⟩
end SXH
