/-! ROWS OF THE STORE's PICTURE (printed by gen/mksx.py) -/
set_option maxRecDepth 100000
theorem oCI_set {n : Nat} {f g g' : Int → Int} {i v : Int} (hf : ∀ k : Int, 0 ≤ k ∧ k < n → f k = g k) (hg : g' i = v) (hn : ∀ k : Int, 0 ≤ k ∧ k < n → k ≠ i → g' k = g k) : oCI (oI n (upi f i v)) n g' := by
  refine ⟨_, rfl, fun k hk => ?_⟩
  by_cases e : k = i
  · rw [e, upi_s, hg]
  · rw [upi_n e, hf k hk, hn k hk e]
theorem sc_zone {α : Int → Nat} {w x : Int → Int} {z : Int} {o : Ob} (hz : 0 ≤ z ∧ z ≤ 11) (e : o = oF 3 (zFl α w z)) : SC α w x (40 + z) o := by
  unfold SC
  rw [if_neg (by omega), if_neg (by omega), if_neg (by omega), if_neg (by omega), if_neg (by omega), if_neg (by omega), if_neg (by omega), if_neg (by omega), if_neg (by omega), if_neg (by omega), if_neg (by omega), if_neg (by omega), if_neg (by omega), if_neg (by omega), if_neg (by omega), if_neg (by omega), if_neg (by omega), if_neg (by omega), if_neg (by omega), if_neg (by omega), if_pos (by omega), show 40 + z - 40 = z by omega]
  exact e
theorem sc_zl {α : Int → Nat} {w x : Int → Int} {z : Int} {o : Ob} (hz : 0 ≤ z ∧ z ≤ 11) (e : o = oF 11 [vi (x (410 + z)), .ref (α (80 + z)), vi (w (1706 + 13 * z + 3))]) : SC α w x (60 + z) o := by
  unfold SC
  rw [if_neg (by omega), if_neg (by omega), if_neg (by omega), if_neg (by omega), if_neg (by omega), if_neg (by omega), if_neg (by omega), if_neg (by omega), if_neg (by omega), if_neg (by omega), if_neg (by omega), if_neg (by omega), if_neg (by omega), if_neg (by omega), if_neg (by omega), if_neg (by omega), if_neg (by omega), if_neg (by omega), if_neg (by omega), if_neg (by omega), if_neg (by omega), if_pos (by omega), show 60 + z - 60 = z by omega]
  exact e
theorem sc_zd {α : Int → Nat} {w x : Int → Int} {z : Int} {o : Ob} (hz : 0 ≤ z ∧ z ≤ 11) (e : oCR o 5 9 (w (1706 + 13 * z + 3)) (fun k => .ref (α (100 + w (1706 + 13 * z + 4 + k))))) : SC α w x (80 + z) o := by
  unfold SC
  rw [if_neg (by omega), if_neg (by omega), if_neg (by omega), if_neg (by omega), if_neg (by omega), if_neg (by omega), if_neg (by omega), if_neg (by omega), if_neg (by omega), if_neg (by omega), if_neg (by omega), if_neg (by omega), if_neg (by omega), if_neg (by omega), if_neg (by omega), if_neg (by omega), if_neg (by omega), if_neg (by omega), if_neg (by omega), if_neg (by omega), if_neg (by omega), if_neg (by omega), if_pos (by omega), show 80 + z - 80 = z by omega]
  exact e
theorem sc_unit {α : Int → Nat} {w x : Int → Int} {u : Int} {o : Ob} (hu : 0 ≤ u ∧ u ≤ 98) (e : o = oF 4 (uFl α w u)) : SC α w x (100 + u) o := by
  unfold SC
  rw [if_neg (by omega), if_neg (by omega), if_neg (by omega), if_neg (by omega), if_neg (by omega), if_neg (by omega), if_neg (by omega), if_neg (by omega), if_neg (by omega), if_neg (by omega), if_neg (by omega), if_neg (by omega), if_neg (by omega), if_neg (by omega), if_neg (by omega), if_neg (by omega), if_neg (by omega), if_neg (by omega), if_neg (by omega), if_neg (by omega), if_neg (by omega), if_neg (by omega), if_neg (by omega), if_pos (by omega), show 100 + u - 100 = u by omega]
  exact e
theorem sc_told {α : Int → Nat} {w x : Int → Int} {u : Int} {o : Ob} (hu : 0 ≤ u ∧ u ≤ 98) (e : oCI o 5 (fun k => w (23 + 17 * u + (10 + k)))) : SC α w x (300 + u) o := by
  unfold SC
  rw [if_neg (by omega), if_neg (by omega), if_neg (by omega), if_neg (by omega), if_neg (by omega), if_neg (by omega), if_neg (by omega), if_neg (by omega), if_neg (by omega), if_neg (by omega), if_neg (by omega), if_neg (by omega), if_neg (by omega), if_neg (by omega), if_neg (by omega), if_neg (by omega), if_neg (by omega), if_neg (by omega), if_neg (by omega), if_neg (by omega), if_neg (by omega), if_neg (by omega), if_neg (by omega), if_neg (by omega), show 300 + u - 300 = u by omega]
  exact e
/-- two cells written -/
theorem SX.set2 {Γ : Cx} {t : Nat} {α : Int → Nat} {h0 h h' : AH} {w x : Int → Int} (hS : SX Γ t α h0 h w x) {i i2 : Int} {o1 o2 : Ob} {w' x' : Int → Int} (hu : sUse w i) (hr : ¬ sRo i) (hu2 : sUse w i2) (hr2 : ¬ sRo i2) (hh : Up2 h h' (α i) (α i2) (t, o1) (t, o2)) (e0 : w' 0 = w 0) (e7 : w' 7 = w 7) (hc : ∀ z, 0 ≤ z ∧ z ≤ 11 → 0 ≤ w' (1706 + 13 * z + 3) ∧ w' (1706 + 13 * z + 3) ≤ 9)
    (ho : SC α w' x' i o1) (ho2 : SC α w' x' i2 o2) (hw : ∀ k, sUse w k → k ≠ i → k ≠ i2 → ∀ j, dW w k j → w' j = w j) (hx : ∀ k, sUse w k → k ≠ i → k ≠ i2 → ∀ j, dX k j → x' j = x j) : SX Γ t α h0 h' w' x' := by
  have b := hS.b
  obtain ⟨q1, g1, -⟩ := hS.at hu
  obtain ⟨q2, g2, -⟩ := hS.at hu2
  rw [sTg_n hr] at g1
  rw [sTg_n hr2] at g2
  have ha : ∀ k, sUse w k → ∀ i, sUse w i → ¬ sRo i → ∀ q, h (α i) = some (t, q) → k ≠ i → α k ≠ α i := by
    intro k hk i hi hri q hq e z
    obtain ⟨p, k1, -⟩ := hS.at hk
    by_cases hq2 : sRo k
    · rw [z, hq, sTg_r hq2] at k1
      have := congrArg (fun y => y.map Prod.fst) k1
      simp at this
      exact hS.tne.2 this
    · exact e (hS.inj k i hk hi hq2 hri z)
  refine ⟨hS.1, ⟨by omega, by omega, by omega, by omega, hc⟩, fun k hk => ?_, ?_, by rw [e7]; exact hS.2.2.2.2.1, Fx.tr hS.fx (fun y p hy hp => ?_)⟩
  · rw [sUse, e0, e7] at hk
    by_cases e : k = i
    · subst e
      exact ⟨o1, by rw [sTg_n hr]; exact hh.1, ho⟩
    by_cases e2 : k = i2
    · subst e2
      exact ⟨o2, by rw [sTg_n hr2]; exact hh.2.1, ho2⟩
    obtain ⟨q, k1, k2⟩ := hS.at hk
    refine ⟨q, ?_, SC.to k2 (by omega) (hw k hk e e2) (hx k hk e e2)⟩
    rw [hh.2.2 _ (ha k hk i hu hr _ g1 e) (ha k hk i2 hu2 hr2 _ g2 e2)]
    exact k1
  · intro i j hi hj
    rw [sUse, e0, e7] at hi hj
    exact hS.inj i j hi hj
  · rw [hh.2.2 y (fun z => by rw [z, g1] at hy; cases hy; exact hp rfl) (fun z => by rw [z, g2] at hy; cases hy; exact hp rfl)]
    exact hy
section SXR
variable {Γ : Cx} {M : MI} {d mc ms : Nat} {Q : PQ} {X : PX} {h h0 : AH} {bc bs pc : Nat} {ls : Lcs} {st : List Value} {t : Nat} {α : Int → Nat} {w x : Int → Int}
theorem v_ptS_day (hS : SX Γ t α h0 h w x) {v : Int} {idx : Nat} (hd : decode M.2.1 pc = .ok (.putfield idx, 3)) (hl : Cond.fieldLink M.1 idx RX3 (TX3 3).2.1 (TX3 3).2.2.1 ∈ lw_tbl) (kk : ∀ h' : AH, SX Γ t α h0 h' (upi w 6 v) x → V Γ M d mc ms Q X h' bc bs (pc + 3) ls st) : V Γ M d mc ms Q X h bc bs pc ls (vi v :: .ref (α 0) :: st) :=
  v_putf KX3 3 hd hl (Or.inl rfl) (Nat.le_of_ble_eq_true rfl) rfl (sx_obj hS) hS.tne.1 (Nat.le_of_ble_eq_true rfl) rfl rfl rfl (kk _ (hS.set (i := 0) (by omega) (by omega) (upi_n (by omega)) (upi_n (by omega)) (fun z hz => by rw [upi_n (by omega)]; exact hS.b.2.2.2.2 z hz) rfl (fun k hk hn j hj => upi_n (by have hb9 := hS.b.2.2.2.2 (k - 80); omega)) (fun _ _ _ _ _ => rfl)))
theorem v_ptS_loss (hS : SX Γ t α h0 h w x) {v : Int} {idx : Nat} (hd : decode M.2.1 pc = .ok (.putfield idx, 3)) (hl : Cond.fieldLink M.1 idx RX3 (TX3 4).2.1 (TX3 4).2.2.1 ∈ lw_tbl) (kk : ∀ h' : AH, SX Γ t α h0 h' (upi w 10 v) x → V Γ M d mc ms Q X h' bc bs (pc + 3) ls st) : V Γ M d mc ms Q X h bc bs pc ls (vi v :: .ref (α 0) :: st) :=
  v_putf KX3 4 hd hl (Or.inl rfl) (Nat.le_of_ble_eq_true rfl) rfl (sx_obj hS) hS.tne.1 (Nat.le_of_ble_eq_true rfl) rfl rfl rfl (kk _ (hS.set (i := 0) (by omega) (by omega) (upi_n (by omega)) (upi_n (by omega)) (fun z hz => by rw [upi_n (by omega)]; exact hS.b.2.2.2.2 z hz) rfl (fun k hk hn j hj => upi_n (by have hb9 := hS.b.2.2.2.2 (k - 80); omega)) (fun _ _ _ _ _ => rfl)))
theorem v_ptS_moves (hS : SX Γ t α h0 h w x) {v : Int} {idx : Nat} (hd : decode M.2.1 pc = .ok (.putfield idx, 3)) (hl : Cond.fieldLink M.1 idx RX3 (TX3 5).2.1 (TX3 5).2.2.1 ∈ lw_tbl) (kk : ∀ h' : AH, SX Γ t α h0 h' (upi w 8 v) x → V Γ M d mc ms Q X h' bc bs (pc + 3) ls st) : V Γ M d mc ms Q X h bc bs pc ls (vi v :: .ref (α 0) :: st) :=
  v_putf KX3 5 hd hl (Or.inl rfl) (Nat.le_of_ble_eq_true rfl) rfl (sx_obj hS) hS.tne.1 (Nat.le_of_ble_eq_true rfl) rfl rfl rfl (kk _ (hS.set (i := 0) (by omega) (by omega) (upi_n (by omega)) (upi_n (by omega)) (fun z hz => by rw [upi_n (by omega)]; exact hS.b.2.2.2.2 z hz) rfl (fun k hk hn j hj => upi_n (by have hb9 := hS.b.2.2.2.2 (k - 80); omega)) (fun _ _ _ _ _ => rfl)))
theorem v_ptS_resets (hS : SX Γ t α h0 h w x) {v : Int} {idx : Nat} (hd : decode M.2.1 pc = .ok (.putfield idx, 3)) (hl : Cond.fieldLink M.1 idx RX3 (TX3 6).2.1 (TX3 6).2.2.1 ∈ lw_tbl) (kk : ∀ h' : AH, SX Γ t α h0 h' (upi w 9 v) x → V Γ M d mc ms Q X h' bc bs (pc + 3) ls st) : V Γ M d mc ms Q X h bc bs pc ls (vi v :: .ref (α 0) :: st) :=
  v_putf KX3 6 hd hl (Or.inl rfl) (Nat.le_of_ble_eq_true rfl) rfl (sx_obj hS) hS.tne.1 (Nat.le_of_ble_eq_true rfl) rfl rfl rfl (kk _ (hS.set (i := 0) (by omega) (by omega) (upi_n (by omega)) (upi_n (by omega)) (fun z hz => by rw [upi_n (by omega)]; exact hS.b.2.2.2.2 z hz) rfl (fun k hk hn j hj => upi_n (by have hb9 := hS.b.2.2.2.2 (k - 80); omega)) (fun _ _ _ _ _ => rfl)))
theorem v_ptS_deaths (hS : SX Γ t α h0 h w x) {v : Int} {idx : Nat} (hd : decode M.2.1 pc = .ok (.putfield idx, 3)) (hl : Cond.fieldLink M.1 idx RX3 (TX3 7).2.1 (TX3 7).2.2.1 ∈ lw_tbl) (kk : ∀ h' : AH, SX Γ t α h0 h' (upi w 12 v) x → V Γ M d mc ms Q X h' bc bs (pc + 3) ls st) : V Γ M d mc ms Q X h bc bs pc ls (vi v :: .ref (α 0) :: st) :=
  v_putf KX3 7 hd hl (Or.inl rfl) (Nat.le_of_ble_eq_true rfl) rfl (sx_obj hS) hS.tne.1 (Nat.le_of_ble_eq_true rfl) rfl rfl rfl (kk _ (hS.set (i := 0) (by omega) (by omega) (upi_n (by omega)) (upi_n (by omega)) (fun z hz => by rw [upi_n (by omega)]; exact hS.b.2.2.2.2 z hz) rfl (fun k hk hn j hj => upi_n (by have hb9 := hS.b.2.2.2.2 (k - 80); omega)) (fun _ _ _ _ _ => rfl)))
theorem v_ptS_lives (hS : SX Γ t α h0 h w x) {v : Int} {idx : Nat} (hd : decode M.2.1 pc = .ok (.putfield idx, 3)) (hl : Cond.fieldLink M.1 idx RX3 (TX3 8).2.1 (TX3 8).2.2.1 ∈ lw_tbl) (kk : ∀ h' : AH, SX Γ t α h0 h' w (upi x 400 v) → V Γ M d mc ms Q X h' bc bs (pc + 3) ls st) : V Γ M d mc ms Q X h bc bs pc ls (vi v :: .ref (α 0) :: st) :=
  v_putf KX3 8 hd hl (Or.inl rfl) (Nat.le_of_ble_eq_true rfl) rfl (sx_obj hS) hS.tne.1 (Nat.le_of_ble_eq_true rfl) rfl rfl rfl (kk _ (hS.set (i := 0) (by omega) (by omega) rfl rfl hS.b.2.2.2.2 rfl (fun _ _ _ _ _ => rfl) (fun k _ hn j hj => upi_n (by omega))))
theorem sx_weights (hS : SX Γ t α h0 h w x) : CI h (α 6) t 5 (fun k => w (13 + k)) := by
  obtain ⟨o, h1, f, h2, h3⟩ := hS.at (i := 6) (by omega)
  rw [sTg_n (by omega)] at h1
  exact ⟨f, by rw [h1, h2], h3⟩
theorem v_ldS_weights (hS : SX Γ t α h0 h w x) {i : Int} (hd : decode M.2.1 pc = .ok (.iaload, 1)) (hi : 0 ≤ i ∧ i < 5) (kk : V Γ M d mc ms Q X h bc bs (pc + 1) ls (vi (w (13 + i)) :: st)) : V Γ M d mc ms Q X h bc bs pc ls (vi i :: .ref (α 6) :: st) := by
  obtain ⟨f, h1, h2⟩ := sx_weights hS
  refine v_iald hd h1 ⟨hi.1, by omega, by omega⟩ ?_
  rw [h2 i ⟨hi.1, by omega⟩]
  exact kk
theorem v_stS_weights (hS : SX Γ t α h0 h w x) {i v : Int} (hd : decode M.2.1 pc = .ok (.iastore, 1)) (hi : 0 ≤ i ∧ i < 5) (kk : ∀ h' : AH, SX Γ t α h0 h' (upi w (13 + i) v) x → V Γ M d mc ms Q X h' bc bs (pc + 1) ls st) : V Γ M d mc ms Q X h bc bs pc ls (vi v :: vi i :: .ref (α 6) :: st) := by
  obtain ⟨f, h1, h2⟩ := sx_weights hS
  refine v_iast hd h1 hS.tne.1 ⟨hi.1, by omega, by omega⟩ (kk _ (hS.set (i := 6) (by omega) (by omega) (upi_n (by omega)) (upi_n (by omega)) (fun z hz => by rw [upi_n (by omega)]; exact hS.b.2.2.2.2 z hz) ?_ (fun k hk hn j hj => upi_n (by have hb9 := hS.b.2.2.2.2 (k - 80); omega)) (fun _ _ _ _ _ => rfl)))
  exact oCI_set h2 (upi_s _ _ _) (fun k hk e => upi_n (by omega))
theorem sx_losses (hS : SX Γ t α h0 h w x) : CI h (α 7) t 5 (fun k => w (18 + k)) := by
  obtain ⟨o, h1, f, h2, h3⟩ := hS.at (i := 7) (by omega)
  rw [sTg_n (by omega)] at h1
  exact ⟨f, by rw [h1, h2], h3⟩
theorem v_ldS_losses (hS : SX Γ t α h0 h w x) {i : Int} (hd : decode M.2.1 pc = .ok (.iaload, 1)) (hi : 0 ≤ i ∧ i < 5) (kk : V Γ M d mc ms Q X h bc bs (pc + 1) ls (vi (w (18 + i)) :: st)) : V Γ M d mc ms Q X h bc bs pc ls (vi i :: .ref (α 7) :: st) := by
  obtain ⟨f, h1, h2⟩ := sx_losses hS
  refine v_iald hd h1 ⟨hi.1, by omega, by omega⟩ ?_
  rw [h2 i ⟨hi.1, by omega⟩]
  exact kk
theorem v_stS_losses (hS : SX Γ t α h0 h w x) {i v : Int} (hd : decode M.2.1 pc = .ok (.iastore, 1)) (hi : 0 ≤ i ∧ i < 5) (kk : ∀ h' : AH, SX Γ t α h0 h' (upi w (18 + i) v) x → V Γ M d mc ms Q X h' bc bs (pc + 1) ls st) : V Γ M d mc ms Q X h bc bs pc ls (vi v :: vi i :: .ref (α 7) :: st) := by
  obtain ⟨f, h1, h2⟩ := sx_losses hS
  refine v_iast hd h1 hS.tne.1 ⟨hi.1, by omega, by omega⟩ (kk _ (hS.set (i := 7) (by omega) (by omega) (upi_n (by omega)) (upi_n (by omega)) (fun z hz => by rw [upi_n (by omega)]; exact hS.b.2.2.2.2 z hz) ?_ (fun k hk hn j hj => upi_n (by have hb9 := hS.b.2.2.2.2 (k - 80); omega)) (fun _ _ _ _ _ => rfl)))
  exact oCI_set h2 (upi_s _ _ _) (fun k hk e => upi_n (by omega))
theorem sx_writerMany (hS : SX Γ t α h0 h w x) : CI h (α 8) t 8 (fun k => x (0 + k)) := by
  obtain ⟨o, h1, f, h2, h3⟩ := hS.at (i := 8) (by omega)
  rw [sTg_n (by omega)] at h1
  exact ⟨f, by rw [h1, h2], h3⟩
theorem v_ldS_writerMany (hS : SX Γ t α h0 h w x) {i : Int} (hd : decode M.2.1 pc = .ok (.iaload, 1)) (hi : 0 ≤ i ∧ i < 8) (kk : V Γ M d mc ms Q X h bc bs (pc + 1) ls (vi (x (0 + i)) :: st)) : V Γ M d mc ms Q X h bc bs pc ls (vi i :: .ref (α 8) :: st) := by
  obtain ⟨f, h1, h2⟩ := sx_writerMany hS
  refine v_iald hd h1 ⟨hi.1, by omega, by omega⟩ ?_
  rw [h2 i ⟨hi.1, by omega⟩]
  exact kk
theorem v_stS_writerMany (hS : SX Γ t α h0 h w x) {i v : Int} (hd : decode M.2.1 pc = .ok (.iastore, 1)) (hi : 0 ≤ i ∧ i < 8) (kk : ∀ h' : AH, SX Γ t α h0 h' w (upi x (0 + i) v) → V Γ M d mc ms Q X h' bc bs (pc + 1) ls st) : V Γ M d mc ms Q X h bc bs pc ls (vi v :: vi i :: .ref (α 8) :: st) := by
  obtain ⟨f, h1, h2⟩ := sx_writerMany hS
  refine v_iast hd h1 hS.tne.1 ⟨hi.1, by omega, by omega⟩ (kk _ (hS.set (i := 8) (by omega) (by omega) rfl rfl hS.b.2.2.2.2 ?_ (fun _ _ _ _ _ => rfl) (fun k _ hn j hj => upi_n (by omega))))
  exact oCI_set h2 (upi_s _ _ _) (fun k hk e => upi_n (by omega))
theorem sx_writerSum (hS : SX Γ t α h0 h w x) : CI h (α 9) t 8 (fun k => x (10 + k)) := by
  obtain ⟨o, h1, f, h2, h3⟩ := hS.at (i := 9) (by omega)
  rw [sTg_n (by omega)] at h1
  exact ⟨f, by rw [h1, h2], h3⟩
theorem v_ldS_writerSum (hS : SX Γ t α h0 h w x) {i : Int} (hd : decode M.2.1 pc = .ok (.iaload, 1)) (hi : 0 ≤ i ∧ i < 8) (kk : V Γ M d mc ms Q X h bc bs (pc + 1) ls (vi (x (10 + i)) :: st)) : V Γ M d mc ms Q X h bc bs pc ls (vi i :: .ref (α 9) :: st) := by
  obtain ⟨f, h1, h2⟩ := sx_writerSum hS
  refine v_iald hd h1 ⟨hi.1, by omega, by omega⟩ ?_
  rw [h2 i ⟨hi.1, by omega⟩]
  exact kk
theorem v_stS_writerSum (hS : SX Γ t α h0 h w x) {i v : Int} (hd : decode M.2.1 pc = .ok (.iastore, 1)) (hi : 0 ≤ i ∧ i < 8) (kk : ∀ h' : AH, SX Γ t α h0 h' w (upi x (10 + i) v) → V Γ M d mc ms Q X h' bc bs (pc + 1) ls st) : V Γ M d mc ms Q X h bc bs pc ls (vi v :: vi i :: .ref (α 9) :: st) := by
  obtain ⟨f, h1, h2⟩ := sx_writerSum hS
  refine v_iast hd h1 hS.tne.1 ⟨hi.1, by omega, by omega⟩ (kk _ (hS.set (i := 9) (by omega) (by omega) rfl rfl hS.b.2.2.2.2 ?_ (fun _ _ _ _ _ => rfl) (fun k _ hn j hj => upi_n (by omega))))
  exact oCI_set h2 (upi_s _ _ _) (fun k hk e => upi_n (by omega))
theorem sx_writerMost (hS : SX Γ t α h0 h w x) : CI h (α 10) t 8 (fun k => x (20 + k)) := by
  obtain ⟨o, h1, f, h2, h3⟩ := hS.at (i := 10) (by omega)
  rw [sTg_n (by omega)] at h1
  exact ⟨f, by rw [h1, h2], h3⟩
theorem v_ldS_writerMost (hS : SX Γ t α h0 h w x) {i : Int} (hd : decode M.2.1 pc = .ok (.iaload, 1)) (hi : 0 ≤ i ∧ i < 8) (kk : V Γ M d mc ms Q X h bc bs (pc + 1) ls (vi (x (20 + i)) :: st)) : V Γ M d mc ms Q X h bc bs pc ls (vi i :: .ref (α 10) :: st) := by
  obtain ⟨f, h1, h2⟩ := sx_writerMost hS
  refine v_iald hd h1 ⟨hi.1, by omega, by omega⟩ ?_
  rw [h2 i ⟨hi.1, by omega⟩]
  exact kk
theorem v_stS_writerMost (hS : SX Γ t α h0 h w x) {i v : Int} (hd : decode M.2.1 pc = .ok (.iastore, 1)) (hi : 0 ≤ i ∧ i < 8) (kk : ∀ h' : AH, SX Γ t α h0 h' w (upi x (20 + i) v) → V Γ M d mc ms Q X h' bc bs (pc + 1) ls st) : V Γ M d mc ms Q X h bc bs pc ls (vi v :: vi i :: .ref (α 10) :: st) := by
  obtain ⟨f, h1, h2⟩ := sx_writerMost hS
  refine v_iast hd h1 hS.tne.1 ⟨hi.1, by omega, by omega⟩ (kk _ (hS.set (i := 10) (by omega) (by omega) rfl rfl hS.b.2.2.2.2 ?_ (fun _ _ _ _ _ => rfl) (fun k _ hn j hj => upi_n (by omega))))
  exact oCI_set h2 (upi_s _ _ _) (fun k hk e => upi_n (by omega))
theorem sx_sizeMany (hS : SX Γ t α h0 h w x) : CI h (α 11) t 4 (fun k => x (30 + k)) := by
  obtain ⟨o, h1, f, h2, h3⟩ := hS.at (i := 11) (by omega)
  rw [sTg_n (by omega)] at h1
  exact ⟨f, by rw [h1, h2], h3⟩
theorem v_ldS_sizeMany (hS : SX Γ t α h0 h w x) {i : Int} (hd : decode M.2.1 pc = .ok (.iaload, 1)) (hi : 0 ≤ i ∧ i < 4) (kk : V Γ M d mc ms Q X h bc bs (pc + 1) ls (vi (x (30 + i)) :: st)) : V Γ M d mc ms Q X h bc bs pc ls (vi i :: .ref (α 11) :: st) := by
  obtain ⟨f, h1, h2⟩ := sx_sizeMany hS
  refine v_iald hd h1 ⟨hi.1, by omega, by omega⟩ ?_
  rw [h2 i ⟨hi.1, by omega⟩]
  exact kk
theorem v_stS_sizeMany (hS : SX Γ t α h0 h w x) {i v : Int} (hd : decode M.2.1 pc = .ok (.iastore, 1)) (hi : 0 ≤ i ∧ i < 4) (kk : ∀ h' : AH, SX Γ t α h0 h' w (upi x (30 + i) v) → V Γ M d mc ms Q X h' bc bs (pc + 1) ls st) : V Γ M d mc ms Q X h bc bs pc ls (vi v :: vi i :: .ref (α 11) :: st) := by
  obtain ⟨f, h1, h2⟩ := sx_sizeMany hS
  refine v_iast hd h1 hS.tne.1 ⟨hi.1, by omega, by omega⟩ (kk _ (hS.set (i := 11) (by omega) (by omega) rfl rfl hS.b.2.2.2.2 ?_ (fun _ _ _ _ _ => rfl) (fun k _ hn j hj => upi_n (by omega))))
  exact oCI_set h2 (upi_s _ _ _) (fun k hk e => upi_n (by omega))
theorem sx_sizeSum (hS : SX Γ t α h0 h w x) : CI h (α 12) t 4 (fun k => x (40 + k)) := by
  obtain ⟨o, h1, f, h2, h3⟩ := hS.at (i := 12) (by omega)
  rw [sTg_n (by omega)] at h1
  exact ⟨f, by rw [h1, h2], h3⟩
theorem v_ldS_sizeSum (hS : SX Γ t α h0 h w x) {i : Int} (hd : decode M.2.1 pc = .ok (.iaload, 1)) (hi : 0 ≤ i ∧ i < 4) (kk : V Γ M d mc ms Q X h bc bs (pc + 1) ls (vi (x (40 + i)) :: st)) : V Γ M d mc ms Q X h bc bs pc ls (vi i :: .ref (α 12) :: st) := by
  obtain ⟨f, h1, h2⟩ := sx_sizeSum hS
  refine v_iald hd h1 ⟨hi.1, by omega, by omega⟩ ?_
  rw [h2 i ⟨hi.1, by omega⟩]
  exact kk
theorem v_stS_sizeSum (hS : SX Γ t α h0 h w x) {i v : Int} (hd : decode M.2.1 pc = .ok (.iastore, 1)) (hi : 0 ≤ i ∧ i < 4) (kk : ∀ h' : AH, SX Γ t α h0 h' w (upi x (40 + i) v) → V Γ M d mc ms Q X h' bc bs (pc + 1) ls st) : V Γ M d mc ms Q X h bc bs pc ls (vi v :: vi i :: .ref (α 12) :: st) := by
  obtain ⟨f, h1, h2⟩ := sx_sizeSum hS
  refine v_iast hd h1 hS.tne.1 ⟨hi.1, by omega, by omega⟩ (kk _ (hS.set (i := 12) (by omega) (by omega) rfl rfl hS.b.2.2.2.2 ?_ (fun _ _ _ _ _ => rfl) (fun k _ hn j hj => upi_n (by omega))))
  exact oCI_set h2 (upi_s _ _ _) (fun k hk e => upi_n (by omega))
theorem sx_latest (hS : SX Γ t α h0 h w x) : CI h (α 13) t 32 (fun k => x (50 + k)) := by
  obtain ⟨o, h1, f, h2, h3⟩ := hS.at (i := 13) (by omega)
  rw [sTg_n (by omega)] at h1
  exact ⟨f, by rw [h1, h2], h3⟩
theorem v_ldS_latest (hS : SX Γ t α h0 h w x) {i : Int} (hd : decode M.2.1 pc = .ok (.iaload, 1)) (hi : 0 ≤ i ∧ i < 32) (kk : V Γ M d mc ms Q X h bc bs (pc + 1) ls (vi (x (50 + i)) :: st)) : V Γ M d mc ms Q X h bc bs pc ls (vi i :: .ref (α 13) :: st) := by
  obtain ⟨f, h1, h2⟩ := sx_latest hS
  refine v_iald hd h1 ⟨hi.1, by omega, by omega⟩ ?_
  rw [h2 i ⟨hi.1, by omega⟩]
  exact kk
theorem v_stS_latest (hS : SX Γ t α h0 h w x) {i v : Int} (hd : decode M.2.1 pc = .ok (.iastore, 1)) (hi : 0 ≤ i ∧ i < 32) (kk : ∀ h' : AH, SX Γ t α h0 h' w (upi x (50 + i) v) → V Γ M d mc ms Q X h' bc bs (pc + 1) ls st) : V Γ M d mc ms Q X h bc bs pc ls (vi v :: vi i :: .ref (α 13) :: st) := by
  obtain ⟨f, h1, h2⟩ := sx_latest hS
  refine v_iast hd h1 hS.tne.1 ⟨hi.1, by omega, by omega⟩ (kk _ (hS.set (i := 13) (by omega) (by omega) rfl rfl hS.b.2.2.2.2 ?_ (fun _ _ _ _ _ => rfl) (fun k _ hn j hj => upi_n (by omega))))
  exact oCI_set h2 (upi_s _ _ _) (fun k hk e => upi_n (by omega))
theorem sx_windows (hS : SX Γ t α h0 h w x) : CI h (α 15) t 12 (fun k => x (100 + k)) := by
  obtain ⟨o, h1, f, h2, h3⟩ := hS.at (i := 15) (by omega)
  rw [sTg_n (by omega)] at h1
  exact ⟨f, by rw [h1, h2], h3⟩
theorem v_ldS_windows (hS : SX Γ t α h0 h w x) {i : Int} (hd : decode M.2.1 pc = .ok (.iaload, 1)) (hi : 0 ≤ i ∧ i < 12) (kk : V Γ M d mc ms Q X h bc bs (pc + 1) ls (vi (x (100 + i)) :: st)) : V Γ M d mc ms Q X h bc bs pc ls (vi i :: .ref (α 15) :: st) := by
  obtain ⟨f, h1, h2⟩ := sx_windows hS
  refine v_iald hd h1 ⟨hi.1, by omega, by omega⟩ ?_
  rw [h2 i ⟨hi.1, by omega⟩]
  exact kk
theorem v_stS_windows (hS : SX Γ t α h0 h w x) {i v : Int} (hd : decode M.2.1 pc = .ok (.iastore, 1)) (hi : 0 ≤ i ∧ i < 12) (kk : ∀ h' : AH, SX Γ t α h0 h' w (upi x (100 + i) v) → V Γ M d mc ms Q X h' bc bs (pc + 1) ls st) : V Γ M d mc ms Q X h bc bs pc ls (vi v :: vi i :: .ref (α 15) :: st) := by
  obtain ⟨f, h1, h2⟩ := sx_windows hS
  refine v_iast hd h1 hS.tne.1 ⟨hi.1, by omega, by omega⟩ (kk _ (hS.set (i := 15) (by omega) (by omega) rfl rfl hS.b.2.2.2.2 ?_ (fun _ _ _ _ _ => rfl) (fun k _ hn j hj => upi_n (by omega))))
  exact oCI_set h2 (upi_s _ _ _) (fun k hk e => upi_n (by omega))
theorem sx_fills (hS : SX Γ t α h0 h w x) : CI h (α 16) t 12 (fun k => x (120 + k)) := by
  obtain ⟨o, h1, f, h2, h3⟩ := hS.at (i := 16) (by omega)
  rw [sTg_n (by omega)] at h1
  exact ⟨f, by rw [h1, h2], h3⟩
theorem v_ldS_fills (hS : SX Γ t α h0 h w x) {i : Int} (hd : decode M.2.1 pc = .ok (.iaload, 1)) (hi : 0 ≤ i ∧ i < 12) (kk : V Γ M d mc ms Q X h bc bs (pc + 1) ls (vi (x (120 + i)) :: st)) : V Γ M d mc ms Q X h bc bs pc ls (vi i :: .ref (α 16) :: st) := by
  obtain ⟨f, h1, h2⟩ := sx_fills hS
  refine v_iald hd h1 ⟨hi.1, by omega, by omega⟩ ?_
  rw [h2 i ⟨hi.1, by omega⟩]
  exact kk
theorem v_stS_fills (hS : SX Γ t α h0 h w x) {i v : Int} (hd : decode M.2.1 pc = .ok (.iastore, 1)) (hi : 0 ≤ i ∧ i < 12) (kk : ∀ h' : AH, SX Γ t α h0 h' w (upi x (120 + i) v) → V Γ M d mc ms Q X h' bc bs (pc + 1) ls st) : V Γ M d mc ms Q X h bc bs pc ls (vi v :: vi i :: .ref (α 16) :: st) := by
  obtain ⟨f, h1, h2⟩ := sx_fills hS
  refine v_iast hd h1 hS.tne.1 ⟨hi.1, by omega, by omega⟩ (kk _ (hS.set (i := 16) (by omega) (by omega) rfl rfl hS.b.2.2.2.2 ?_ (fun _ _ _ _ _ => rfl) (fun k _ hn j hj => upi_n (by omega))))
  exact oCI_set h2 (upi_s _ _ _) (fun k hk e => upi_n (by omega))
theorem sx_targets (hS : SX Γ t α h0 h w x) : CI h (α 17) t 99 (fun k => x (200 + k)) := by
  obtain ⟨o, h1, f, h2, h3⟩ := hS.at (i := 17) (by omega)
  rw [sTg_n (by omega)] at h1
  exact ⟨f, by rw [h1, h2], h3⟩
theorem v_ldS_targets (hS : SX Γ t α h0 h w x) {i : Int} (hd : decode M.2.1 pc = .ok (.iaload, 1)) (hi : 0 ≤ i ∧ i < 99) (kk : V Γ M d mc ms Q X h bc bs (pc + 1) ls (vi (x (200 + i)) :: st)) : V Γ M d mc ms Q X h bc bs pc ls (vi i :: .ref (α 17) :: st) := by
  obtain ⟨f, h1, h2⟩ := sx_targets hS
  refine v_iald hd h1 ⟨hi.1, by omega, by omega⟩ ?_
  rw [h2 i ⟨hi.1, by omega⟩]
  exact kk
theorem v_stS_targets (hS : SX Γ t α h0 h w x) {i v : Int} (hd : decode M.2.1 pc = .ok (.iastore, 1)) (hi : 0 ≤ i ∧ i < 99) (kk : ∀ h' : AH, SX Γ t α h0 h' w (upi x (200 + i) v) → V Γ M d mc ms Q X h' bc bs (pc + 1) ls st) : V Γ M d mc ms Q X h bc bs pc ls (vi v :: vi i :: .ref (α 17) :: st) := by
  obtain ⟨f, h1, h2⟩ := sx_targets hS
  refine v_iast hd h1 hS.tne.1 ⟨hi.1, by omega, by omega⟩ (kk _ (hS.set (i := 17) (by omega) (by omega) rfl rfl hS.b.2.2.2.2 ?_ (fun _ _ _ _ _ => rfl) (fun k _ hn j hj => upi_n (by omega))))
  exact oCI_set h2 (upi_s _ _ _) (fun k hk e => upi_n (by omega))
theorem sx_days (hS : SX Γ t α h0 h w x) : CI h (α 18) t 99 (fun k => x (300 + k)) := by
  obtain ⟨o, h1, f, h2, h3⟩ := hS.at (i := 18) (by omega)
  rw [sTg_n (by omega)] at h1
  exact ⟨f, by rw [h1, h2], h3⟩
theorem v_ldS_days (hS : SX Γ t α h0 h w x) {i : Int} (hd : decode M.2.1 pc = .ok (.iaload, 1)) (hi : 0 ≤ i ∧ i < 99) (kk : V Γ M d mc ms Q X h bc bs (pc + 1) ls (vi (x (300 + i)) :: st)) : V Γ M d mc ms Q X h bc bs pc ls (vi i :: .ref (α 18) :: st) := by
  obtain ⟨f, h1, h2⟩ := sx_days hS
  refine v_iald hd h1 ⟨hi.1, by omega, by omega⟩ ?_
  rw [h2 i ⟨hi.1, by omega⟩]
  exact kk
theorem v_stS_days (hS : SX Γ t α h0 h w x) {i v : Int} (hd : decode M.2.1 pc = .ok (.iastore, 1)) (hi : 0 ≤ i ∧ i < 99) (kk : ∀ h' : AH, SX Γ t α h0 h' w (upi x (300 + i) v) → V Γ M d mc ms Q X h' bc bs (pc + 1) ls st) : V Γ M d mc ms Q X h bc bs pc ls (vi v :: vi i :: .ref (α 18) :: st) := by
  obtain ⟨f, h1, h2⟩ := sx_days hS
  refine v_iast hd h1 hS.tne.1 ⟨hi.1, by omega, by omega⟩ (kk _ (hS.set (i := 18) (by omega) (by omega) rfl rfl hS.b.2.2.2.2 ?_ (fun _ _ _ _ _ => rfl) (fun k _ hn j hj => upi_n (by omega))))
  exact oCI_set h2 (upi_s _ _ _) (fun k hk e => upi_n (by omega))
theorem v_ldS_set (hS : SX Γ t α h0 h w x) {i : Int} (hd : decode M.2.1 pc = .ok (.iaload, 1)) (hi : 0 ≤ i ∧ i < 6) (kk : V Γ M d mc ms Q X h bc bs (pc + 1) ls (vi (w i) :: st)) : V Γ M d mc ms Q X h bc bs pc ls (vi i :: .ref (α 1) :: st) := by
  obtain ⟨f, h1, h2⟩ := sx_set hS
  refine v_iald hd h1 ⟨hi.1, by omega, by omega⟩ ?_
  rw [h2 i ⟨hi.1, by omega⟩]
  exact kk
theorem v_ldS_known (hS : SX Γ t α h0 h w x) {i : Int} (hd : decode M.2.1 pc = .ok (.iaload, 1)) (hi : 0 ≤ i ∧ i < x 405 ∧ x 405 ≤ 1000) (kk : V Γ M d mc ms Q X h bc bs (pc + 1) ls (vi (x (500 + i)) :: st)) : V Γ M d mc ms Q X h bc bs pc ls (vi i :: .ref (α 2) :: st) := by
  obtain ⟨f, h1, h2⟩ := sx_known hS
  refine v_iald hd h1 ⟨hi.1, by omega, by omega⟩ ?_
  rw [h2 i ⟨hi.1, by omega⟩]
  exact kk
theorem v_ldS_told (hS : SX Γ t α h0 h w x) {u i : Int} (hd : decode M.2.1 pc = .ok (.iaload, 1)) (hu : 0 ≤ u ∧ u < w 7) (hi : 0 ≤ i ∧ i < 5) (kk : V Γ M d mc ms Q X h bc bs (pc + 1) ls (vi (w (23 + 17 * u + (10 + i))) :: st)) : V Γ M d mc ms Q X h bc bs pc ls (vi i :: .ref (α (300 + u)) :: st) := by
  obtain ⟨f, h1, h2⟩ := sx_told hS hu
  refine v_iald hd h1 ⟨hi.1, by omega, by omega⟩ ?_
  rw [h2 i ⟨hi.1, by omega⟩]
  exact kk
theorem v_ldS_zones (hS : SX Γ t α h0 h w x) {z : Int} (hd : decode M.2.1 pc = .ok (.aaload, 1)) (hz : 0 ≤ z ∧ z < w 0) (kk : V Γ M d mc ms Q X h bc bs (pc + 1) ls (.ref (α (40 + z)) :: st)) : V Γ M d mc ms Q X h bc bs pc ls (vi z :: .ref (α 5) :: st) := by
  have b := hS.b
  obtain ⟨f, h1, h2⟩ := sx_zones hS
  exact v_aald hd rfl h1 ⟨hz.1, by omega, by omega⟩ (h2 z hz) kk
theorem v_ldS_gue (hS : SX Γ t α h0 h w x) {g : Int} (hd : decode M.2.1 pc = .ok (.aaload, 1)) (hg : 0 ≤ g ∧ g ≤ 6 ∧ g ≠ 5) (kk : V Γ M d mc ms Q X h bc bs (pc + 1) ls (.ref (α (20 + g)) :: st)) : V Γ M d mc ms Q X h bc bs pc ls (vi g :: .ref (α 14) :: st) := by
  obtain ⟨f, h1, h2, h3⟩ := sx_gue hS
  refine v_aald hd rfl h1 ⟨hg.1, by omega, by omega⟩ ?_ kk
  by_cases e : g = 6
  · subst e
    exact h3
  · exact h2 g (by omega)
theorem v_ptU_zone (hS : SX Γ t α h0 h w x) {u v : Int} {idx : Nat} (hd : decode M.2.1 pc = .ok (.putfield idx, 3)) (hl : Cond.fieldLinkNest M.1 idx RX9 (TX9 7).2.1 (TX9 7).2.2.1 RX1 ∈ lw_tbl) (hu : 0 ≤ u ∧ u < w 7) (kk : ∀ h' : AH, SX Γ t α h0 h' (upi w (23 + 17 * u + 5) v) x → V Γ M d mc ms Q X h' bc bs (pc + 3) ls st) : V Γ M d mc ms Q X h bc bs pc ls (vi v :: .ref (α (100 + u)) :: st) := by
  have b := hS.b
  refine v_putfN KX9 7 hd hl (Or.inl rfl) (Nat.le_of_ble_eq_true rfl) rfl (sx_unit hS hu) hS.tne.1 (Nat.le_of_ble_eq_true rfl) rfl rfl rfl (kk _ (hS.set (i := 100 + u) (by omega) (by omega) (upi_n (by omega)) (upi_n (by omega)) (fun z hz => by rw [upi_n (by omega)]; exact hS.b.2.2.2.2 z hz) (sc_unit (by omega) ?_) (fun k hk hn j hj => upi_n (by have hb9 := hS.b.2.2.2.2 (k - 80); omega)) (fun _ _ _ _ _ => rfl)))
  show oF 4 [vi (w (23 + 17 * u + 16)), vi (w (23 + 17 * u + 0)), vi (w (23 + 17 * u + 1)), vi (w (23 + 17 * u + 2)), vi (w (23 + 17 * u + 3)), vi (w (23 + 17 * u + 7)), .ref (α (300 + u)), vi v, vi (w (23 + 17 * u + 6)), vi (w (23 + 17 * u + 8)), vi (w (23 + 17 * u + 9))] = _
  unfold uFl
  rw [upi_s, upi_n (show (23 + 17 * u + 16) ≠ (23 + 17 * u + 5) by omega), upi_n (show (23 + 17 * u + 0) ≠ (23 + 17 * u + 5) by omega), upi_n (show (23 + 17 * u + 1) ≠ (23 + 17 * u + 5) by omega), upi_n (show (23 + 17 * u + 2) ≠ (23 + 17 * u + 5) by omega), upi_n (show (23 + 17 * u + 3) ≠ (23 + 17 * u + 5) by omega), upi_n (show (23 + 17 * u + 7) ≠ (23 + 17 * u + 5) by omega), upi_n (show (23 + 17 * u + 6) ≠ (23 + 17 * u + 5) by omega), upi_n (show (23 + 17 * u + 8) ≠ (23 + 17 * u + 5) by omega), upi_n (show (23 + 17 * u + 9) ≠ (23 + 17 * u + 5) by omega)]
theorem v_ptU_guessed (hS : SX Γ t α h0 h w x) {u v : Int} {idx : Nat} (hd : decode M.2.1 pc = .ok (.putfield idx, 3)) (hl : Cond.fieldLinkNest M.1 idx RX9 (TX9 8).2.1 (TX9 8).2.2.1 RX1 ∈ lw_tbl) (hu : 0 ≤ u ∧ u < w 7) (kk : ∀ h' : AH, SX Γ t α h0 h' (upi w (23 + 17 * u + 6) v) x → V Γ M d mc ms Q X h' bc bs (pc + 3) ls st) : V Γ M d mc ms Q X h bc bs pc ls (vi v :: .ref (α (100 + u)) :: st) := by
  have b := hS.b
  refine v_putfN KX9 8 hd hl (Or.inl rfl) (Nat.le_of_ble_eq_true rfl) rfl (sx_unit hS hu) hS.tne.1 (Nat.le_of_ble_eq_true rfl) rfl rfl rfl (kk _ (hS.set (i := 100 + u) (by omega) (by omega) (upi_n (by omega)) (upi_n (by omega)) (fun z hz => by rw [upi_n (by omega)]; exact hS.b.2.2.2.2 z hz) (sc_unit (by omega) ?_) (fun k hk hn j hj => upi_n (by have hb9 := hS.b.2.2.2.2 (k - 80); omega)) (fun _ _ _ _ _ => rfl)))
  show oF 4 [vi (w (23 + 17 * u + 16)), vi (w (23 + 17 * u + 0)), vi (w (23 + 17 * u + 1)), vi (w (23 + 17 * u + 2)), vi (w (23 + 17 * u + 3)), vi (w (23 + 17 * u + 7)), .ref (α (300 + u)), vi (w (23 + 17 * u + 5)), vi v, vi (w (23 + 17 * u + 8)), vi (w (23 + 17 * u + 9))] = _
  unfold uFl
  rw [upi_s, upi_n (show (23 + 17 * u + 16) ≠ (23 + 17 * u + 6) by omega), upi_n (show (23 + 17 * u + 0) ≠ (23 + 17 * u + 6) by omega), upi_n (show (23 + 17 * u + 1) ≠ (23 + 17 * u + 6) by omega), upi_n (show (23 + 17 * u + 2) ≠ (23 + 17 * u + 6) by omega), upi_n (show (23 + 17 * u + 3) ≠ (23 + 17 * u + 6) by omega), upi_n (show (23 + 17 * u + 7) ≠ (23 + 17 * u + 6) by omega), upi_n (show (23 + 17 * u + 5) ≠ (23 + 17 * u + 6) by omega), upi_n (show (23 + 17 * u + 8) ≠ (23 + 17 * u + 6) by omega), upi_n (show (23 + 17 * u + 9) ≠ (23 + 17 * u + 6) by omega)]
theorem v_ptU_moves (hS : SX Γ t α h0 h w x) {u v : Int} {idx : Nat} (hd : decode M.2.1 pc = .ok (.putfield idx, 3)) (hl : Cond.fieldLinkNest M.1 idx RX9 (TX9 9).2.1 (TX9 9).2.2.1 RX1 ∈ lw_tbl) (hu : 0 ≤ u ∧ u < w 7) (kk : ∀ h' : AH, SX Γ t α h0 h' (upi w (23 + 17 * u + 8) v) x → V Γ M d mc ms Q X h' bc bs (pc + 3) ls st) : V Γ M d mc ms Q X h bc bs pc ls (vi v :: .ref (α (100 + u)) :: st) := by
  have b := hS.b
  refine v_putfN KX9 9 hd hl (Or.inl rfl) (Nat.le_of_ble_eq_true rfl) rfl (sx_unit hS hu) hS.tne.1 (Nat.le_of_ble_eq_true rfl) rfl rfl rfl (kk _ (hS.set (i := 100 + u) (by omega) (by omega) (upi_n (by omega)) (upi_n (by omega)) (fun z hz => by rw [upi_n (by omega)]; exact hS.b.2.2.2.2 z hz) (sc_unit (by omega) ?_) (fun k hk hn j hj => upi_n (by have hb9 := hS.b.2.2.2.2 (k - 80); omega)) (fun _ _ _ _ _ => rfl)))
  show oF 4 [vi (w (23 + 17 * u + 16)), vi (w (23 + 17 * u + 0)), vi (w (23 + 17 * u + 1)), vi (w (23 + 17 * u + 2)), vi (w (23 + 17 * u + 3)), vi (w (23 + 17 * u + 7)), .ref (α (300 + u)), vi (w (23 + 17 * u + 5)), vi (w (23 + 17 * u + 6)), vi v, vi (w (23 + 17 * u + 9))] = _
  unfold uFl
  rw [upi_s, upi_n (show (23 + 17 * u + 16) ≠ (23 + 17 * u + 8) by omega), upi_n (show (23 + 17 * u + 0) ≠ (23 + 17 * u + 8) by omega), upi_n (show (23 + 17 * u + 1) ≠ (23 + 17 * u + 8) by omega), upi_n (show (23 + 17 * u + 2) ≠ (23 + 17 * u + 8) by omega), upi_n (show (23 + 17 * u + 3) ≠ (23 + 17 * u + 8) by omega), upi_n (show (23 + 17 * u + 7) ≠ (23 + 17 * u + 8) by omega), upi_n (show (23 + 17 * u + 5) ≠ (23 + 17 * u + 8) by omega), upi_n (show (23 + 17 * u + 6) ≠ (23 + 17 * u + 8) by omega), upi_n (show (23 + 17 * u + 9) ≠ (23 + 17 * u + 8) by omega)]
theorem v_ptU_life (hS : SX Γ t α h0 h w x) {u v : Int} {idx : Nat} (hd : decode M.2.1 pc = .ok (.putfield idx, 3)) (hl : Cond.fieldLinkNest M.1 idx RX9 (TX9 10).2.1 (TX9 10).2.2.1 RX1 ∈ lw_tbl) (hu : 0 ≤ u ∧ u < w 7) (kk : ∀ h' : AH, SX Γ t α h0 h' (upi w (23 + 17 * u + 9) v) x → V Γ M d mc ms Q X h' bc bs (pc + 3) ls st) : V Γ M d mc ms Q X h bc bs pc ls (vi v :: .ref (α (100 + u)) :: st) := by
  have b := hS.b
  refine v_putfN KX9 10 hd hl (Or.inl rfl) (Nat.le_of_ble_eq_true rfl) rfl (sx_unit hS hu) hS.tne.1 (Nat.le_of_ble_eq_true rfl) rfl rfl rfl (kk _ (hS.set (i := 100 + u) (by omega) (by omega) (upi_n (by omega)) (upi_n (by omega)) (fun z hz => by rw [upi_n (by omega)]; exact hS.b.2.2.2.2 z hz) (sc_unit (by omega) ?_) (fun k hk hn j hj => upi_n (by have hb9 := hS.b.2.2.2.2 (k - 80); omega)) (fun _ _ _ _ _ => rfl)))
  show oF 4 [vi (w (23 + 17 * u + 16)), vi (w (23 + 17 * u + 0)), vi (w (23 + 17 * u + 1)), vi (w (23 + 17 * u + 2)), vi (w (23 + 17 * u + 3)), vi (w (23 + 17 * u + 7)), .ref (α (300 + u)), vi (w (23 + 17 * u + 5)), vi (w (23 + 17 * u + 6)), vi (w (23 + 17 * u + 8)), vi v] = _
  unfold uFl
  rw [upi_s, upi_n (show (23 + 17 * u + 16) ≠ (23 + 17 * u + 9) by omega), upi_n (show (23 + 17 * u + 0) ≠ (23 + 17 * u + 9) by omega), upi_n (show (23 + 17 * u + 1) ≠ (23 + 17 * u + 9) by omega), upi_n (show (23 + 17 * u + 2) ≠ (23 + 17 * u + 9) by omega), upi_n (show (23 + 17 * u + 3) ≠ (23 + 17 * u + 9) by omega), upi_n (show (23 + 17 * u + 7) ≠ (23 + 17 * u + 9) by omega), upi_n (show (23 + 17 * u + 5) ≠ (23 + 17 * u + 9) by omega), upi_n (show (23 + 17 * u + 6) ≠ (23 + 17 * u + 9) by omega), upi_n (show (23 + 17 * u + 8) ≠ (23 + 17 * u + 9) by omega)]
theorem v_ptZ_window (hS : SX Γ t α h0 h w x) {z v : Int} {idx : Nat} (hd : decode M.2.1 pc = .ok (.putfield idx, 3)) (hl : Cond.fieldLinkNest M.1 idx RX4 (TX4 0).2.1 (TX4 0).2.2.1 RX1 ∈ lw_tbl) (hz : 0 ≤ z ∧ z < w 0) (kk : ∀ h' : AH, SX Γ t α h0 h' (upi w (1706 + 13 * z + 0) v) x → V Γ M d mc ms Q X h' bc bs (pc + 3) ls st) : V Γ M d mc ms Q X h bc bs pc ls (vi v :: .ref (α (40 + z)) :: st) := by
  have b := hS.b
  refine v_putfN KX4 0 hd hl (Or.inl rfl) (Nat.le_of_ble_eq_true rfl) rfl (sx_zone hS hz) hS.tne.1 (Nat.le_of_ble_eq_true rfl) rfl rfl rfl (kk _ (hS.set (i := 40 + z) (by omega) (by omega) (upi_n (by omega)) (upi_n (by omega)) (fun z hz => by rw [upi_n (by omega)]; exact hS.b.2.2.2.2 z hz) (sc_zone (by omega) ?_) (fun k hk hn j hj => upi_n (by have hb9 := hS.b.2.2.2.2 (k - 80); omega)) (fun _ _ _ _ _ => rfl)))
  show oF 3 [vi v, vi (w (1706 + 13 * z + 1)), vi (w (1706 + 13 * z + 2)), .ref (α (60 + z))] = _
  unfold zFl
  rw [upi_s, upi_n (show (1706 + 13 * z + 1) ≠ (1706 + 13 * z + 0) by omega), upi_n (show (1706 + 13 * z + 2) ≠ (1706 + 13 * z + 0) by omega)]
theorem v_ptZO_window (hS : SX Γ t α h0 h w x) {z v : Int} {idx : Nat} (hd : decode M.2.1 pc = .ok (.putfield idx, 3)) (hl : Cond.fieldLink M.1 idx RX4 (TX4 0).2.1 (TX4 0).2.2.1 ∈ lw_tbl) (hz : 0 ≤ z ∧ z < w 0) (kk : ∀ h' : AH, SX Γ t α h0 h' (upi w (1706 + 13 * z + 0) v) x → V Γ M d mc ms Q X h' bc bs (pc + 3) ls st) : V Γ M d mc ms Q X h bc bs pc ls (vi v :: .ref (α (40 + z)) :: st) := by
  have b := hS.b
  refine v_putf KX4 0 hd hl (Or.inl rfl) (Nat.le_of_ble_eq_true rfl) rfl (sx_zone hS hz) hS.tne.1 (Nat.le_of_ble_eq_true rfl) rfl rfl rfl (kk _ (hS.set (i := 40 + z) (by omega) (by omega) (upi_n (by omega)) (upi_n (by omega)) (fun z hz => by rw [upi_n (by omega)]; exact hS.b.2.2.2.2 z hz) (sc_zone (by omega) ?_) (fun k hk hn j hj => upi_n (by have hb9 := hS.b.2.2.2.2 (k - 80); omega)) (fun _ _ _ _ _ => rfl)))
  show oF 3 [vi v, vi (w (1706 + 13 * z + 1)), vi (w (1706 + 13 * z + 2)), .ref (α (60 + z))] = _
  unfold zFl
  rw [upi_s, upi_n (show (1706 + 13 * z + 1) ≠ (1706 + 13 * z + 0) by omega), upi_n (show (1706 + 13 * z + 2) ≠ (1706 + 13 * z + 0) by omega)]
theorem v_ptZ_filled (hS : SX Γ t α h0 h w x) {z v : Int} {idx : Nat} (hd : decode M.2.1 pc = .ok (.putfield idx, 3)) (hl : Cond.fieldLinkNest M.1 idx RX4 (TX4 1).2.1 (TX4 1).2.2.1 RX1 ∈ lw_tbl) (hz : 0 ≤ z ∧ z < w 0) (kk : ∀ h' : AH, SX Γ t α h0 h' (upi w (1706 + 13 * z + 1) v) x → V Γ M d mc ms Q X h' bc bs (pc + 3) ls st) : V Γ M d mc ms Q X h bc bs pc ls (vi v :: .ref (α (40 + z)) :: st) := by
  have b := hS.b
  refine v_putfN KX4 1 hd hl (Or.inl rfl) (Nat.le_of_ble_eq_true rfl) rfl (sx_zone hS hz) hS.tne.1 (Nat.le_of_ble_eq_true rfl) rfl rfl rfl (kk _ (hS.set (i := 40 + z) (by omega) (by omega) (upi_n (by omega)) (upi_n (by omega)) (fun z hz => by rw [upi_n (by omega)]; exact hS.b.2.2.2.2 z hz) (sc_zone (by omega) ?_) (fun k hk hn j hj => upi_n (by have hb9 := hS.b.2.2.2.2 (k - 80); omega)) (fun _ _ _ _ _ => rfl)))
  show oF 3 [vi (w (1706 + 13 * z + 0)), vi v, vi (w (1706 + 13 * z + 2)), .ref (α (60 + z))] = _
  unfold zFl
  rw [upi_s, upi_n (show (1706 + 13 * z + 0) ≠ (1706 + 13 * z + 1) by omega), upi_n (show (1706 + 13 * z + 2) ≠ (1706 + 13 * z + 1) by omega)]
theorem v_ptZO_filled (hS : SX Γ t α h0 h w x) {z v : Int} {idx : Nat} (hd : decode M.2.1 pc = .ok (.putfield idx, 3)) (hl : Cond.fieldLink M.1 idx RX4 (TX4 1).2.1 (TX4 1).2.2.1 ∈ lw_tbl) (hz : 0 ≤ z ∧ z < w 0) (kk : ∀ h' : AH, SX Γ t α h0 h' (upi w (1706 + 13 * z + 1) v) x → V Γ M d mc ms Q X h' bc bs (pc + 3) ls st) : V Γ M d mc ms Q X h bc bs pc ls (vi v :: .ref (α (40 + z)) :: st) := by
  have b := hS.b
  refine v_putf KX4 1 hd hl (Or.inl rfl) (Nat.le_of_ble_eq_true rfl) rfl (sx_zone hS hz) hS.tne.1 (Nat.le_of_ble_eq_true rfl) rfl rfl rfl (kk _ (hS.set (i := 40 + z) (by omega) (by omega) (upi_n (by omega)) (upi_n (by omega)) (fun z hz => by rw [upi_n (by omega)]; exact hS.b.2.2.2.2 z hz) (sc_zone (by omega) ?_) (fun k hk hn j hj => upi_n (by have hb9 := hS.b.2.2.2.2 (k - 80); omega)) (fun _ _ _ _ _ => rfl)))
  show oF 3 [vi (w (1706 + 13 * z + 0)), vi v, vi (w (1706 + 13 * z + 2)), .ref (α (60 + z))] = _
  unfold zFl
  rw [upi_s, upi_n (show (1706 + 13 * z + 0) ≠ (1706 + 13 * z + 1) by omega), upi_n (show (1706 + 13 * z + 2) ≠ (1706 + 13 * z + 1) by omega)]
theorem v_ptZ_resets (hS : SX Γ t α h0 h w x) {z v : Int} {idx : Nat} (hd : decode M.2.1 pc = .ok (.putfield idx, 3)) (hl : Cond.fieldLinkNest M.1 idx RX4 (TX4 2).2.1 (TX4 2).2.2.1 RX1 ∈ lw_tbl) (hz : 0 ≤ z ∧ z < w 0) (kk : ∀ h' : AH, SX Γ t α h0 h' (upi w (1706 + 13 * z + 2) v) x → V Γ M d mc ms Q X h' bc bs (pc + 3) ls st) : V Γ M d mc ms Q X h bc bs pc ls (vi v :: .ref (α (40 + z)) :: st) := by
  have b := hS.b
  refine v_putfN KX4 2 hd hl (Or.inl rfl) (Nat.le_of_ble_eq_true rfl) rfl (sx_zone hS hz) hS.tne.1 (Nat.le_of_ble_eq_true rfl) rfl rfl rfl (kk _ (hS.set (i := 40 + z) (by omega) (by omega) (upi_n (by omega)) (upi_n (by omega)) (fun z hz => by rw [upi_n (by omega)]; exact hS.b.2.2.2.2 z hz) (sc_zone (by omega) ?_) (fun k hk hn j hj => upi_n (by have hb9 := hS.b.2.2.2.2 (k - 80); omega)) (fun _ _ _ _ _ => rfl)))
  show oF 3 [vi (w (1706 + 13 * z + 0)), vi (w (1706 + 13 * z + 1)), vi v, .ref (α (60 + z))] = _
  unfold zFl
  rw [upi_s, upi_n (show (1706 + 13 * z + 0) ≠ (1706 + 13 * z + 2) by omega), upi_n (show (1706 + 13 * z + 1) ≠ (1706 + 13 * z + 2) by omega)]
theorem v_ptZO_resets (hS : SX Γ t α h0 h w x) {z v : Int} {idx : Nat} (hd : decode M.2.1 pc = .ok (.putfield idx, 3)) (hl : Cond.fieldLink M.1 idx RX4 (TX4 2).2.1 (TX4 2).2.2.1 ∈ lw_tbl) (hz : 0 ≤ z ∧ z < w 0) (kk : ∀ h' : AH, SX Γ t α h0 h' (upi w (1706 + 13 * z + 2) v) x → V Γ M d mc ms Q X h' bc bs (pc + 3) ls st) : V Γ M d mc ms Q X h bc bs pc ls (vi v :: .ref (α (40 + z)) :: st) := by
  have b := hS.b
  refine v_putf KX4 2 hd hl (Or.inl rfl) (Nat.le_of_ble_eq_true rfl) rfl (sx_zone hS hz) hS.tne.1 (Nat.le_of_ble_eq_true rfl) rfl rfl rfl (kk _ (hS.set (i := 40 + z) (by omega) (by omega) (upi_n (by omega)) (upi_n (by omega)) (fun z hz => by rw [upi_n (by omega)]; exact hS.b.2.2.2.2 z hz) (sc_zone (by omega) ?_) (fun k hk hn j hj => upi_n (by have hb9 := hS.b.2.2.2.2 (k - 80); omega)) (fun _ _ _ _ _ => rfl)))
  show oF 3 [vi (w (1706 + 13 * z + 0)), vi (w (1706 + 13 * z + 1)), vi v, .ref (α (60 + z))] = _
  unfold zFl
  rw [upi_s, upi_n (show (1706 + 13 * z + 0) ≠ (1706 + 13 * z + 2) by omega), upi_n (show (1706 + 13 * z + 1) ≠ (1706 + 13 * z + 2) by omega)]
end SXR
