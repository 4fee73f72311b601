/-! THE STORE: small methods (printed by gen) -/
set_option maxRecDepth 100000
theorem sp_X1_bit {Γ : Cx} {h : AH} {b : Int} (hb : 0 ≤ b ∧ b ≤ 1) : Sp Γ yX1_bit mX1_bit 1 0 0 [vi b] h (Qe b h) NoX := by
  refine sp_of okX1_bit (cat_all rfl) (Nat.le_of_ble_eq_true rfl) rfl ?_
  refine v_ild0 (pc := 0) dX1_bit_0 ?_
  refine v_if_eq (pc := 1) (tgt := 8) dX1_bit_1 rfl (by omega) (fun c1 => ?_) (fun c1 => ?_)
  · refine v_iconst (pc := 8) dX1_bit_8 ?_
    refine v_ret_n (pc := 9) dX1_bit_9 rfl ?_
    exact qe_ok (by omega)
  · refine v_iconst (pc := 4) dX1_bit_4 ?_
    refine v_goto (pc := 5) (tgt := 9) dX1_bit_5 rfl ?_
    refine v_ret_n (pc := 9) dX1_bit_9 rfl ?_
    exact qe_ok (by omega)
theorem sp_X3_life {Γ : Cx} {t : Nat} {α : Int → Nat} {h0 h : AH} {w x : Int → Int} {c : Int}  (hS : SX Γ t α h0 h w x) (hR : ROK w c) : Sp Γ yX3_life mX3_life 1 0 0 [.ref (α 0)] h (Qe (w 4) h) NoX := by
  refine sp_of okX3_life (cat_all rfl) (Nat.le_of_ble_eq_true rfl) rfl ?_
  refine v_ald0 (pc := 0) dX3_life_0 ?_
  refine v_getf KX3 0 (pc := 1) dX3_life_1 (lw_all_tbl q596) (Or.inl rfl) (Nat.le_of_ble_eq_true rfl) (sx_obj hS) rfl ?_
  refine v_iconst (pc := 4) dX3_life_4 ?_
  refine v_ldS_set hS (pc := 5) dX3_life_5 ⟨(by first | omega | (simp (disch := omega) only [upi_n]; omega)), (by first | omega | (simp (disch := omega) only [upi_n]; omega))⟩ ?_
  refine v_ret_n (pc := 6) dX3_life_6 rfl ?_
  exact qe_ok (by first | rfl | omega)
theorem sp_X3_lifeOf {Γ : Cx} {t : Nat} {α : Int → Nat} {h0 h : AH} {w x : Int → Int} {n : Int} (hS : SX Γ t α h0 h w x) (hn : 0 ≤ n ∧ n < x 405 ∧ x 405 ≤ 1000) : Sp Γ yX3_lifeOf mX3_lifeOf 1 0 0 [.ref (α 0), vi n] h (Qe (x (500 + n)) h) NoX := by
  refine sp_of okX3_lifeOf (cat_all rfl) (Nat.le_of_ble_eq_true rfl) rfl ?_
  refine v_ald0 (pc := 0) dX3_lifeOf_0 ?_
  refine v_getf KX3 2 (pc := 1) dX3_lifeOf_1 (lw_all_tbl q598) (Or.inl rfl) (Nat.le_of_ble_eq_true rfl) (sx_obj hS) rfl ?_
  refine v_ild1 (pc := 4) dX3_lifeOf_4 ?_
  refine v_ldS_known hS (pc := 5) dX3_lifeOf_5 ⟨by omega, by omega, by omega⟩ ?_
  refine v_ret_n (pc := 6) dX3_lifeOf_6 rfl ?_
  exact qe_ok (by first | rfl | omega)
theorem sp_X3_both {Γ : Cx} {h : AH} {a b : Int}  : Sp Γ yX3_both mX3_both 1 0 0 [vi a, vi b] h (Qe (4 * a + b) h) NoX := by
  refine sp_of okX3_both (cat_all rfl) (Nat.le_of_ble_eq_true rfl) rfl ?_
  refine v_iconst (pc := 0) dX3_both_0 ?_
  refine v_ild0 (pc := 1) dX3_both_1 ?_
  refine v_imul (pc := 2) dX3_both_2 ?_
  refine v_ild1 (pc := 3) dX3_both_3 ?_
  refine v_iadd (pc := 4) dX3_both_4 ?_
  refine v_ret_n (pc := 5) dX3_both_5 rfl ?_
  exact qe_ok (by first | rfl | omega)
theorem sp_X4_isFree {Γ : Cx} {t : Nat} {α : Int → Nat} {h0 h : AH} {w x : Int → Int} {z : Int} (hS : SX Γ t α h0 h w x) (hz : 0 ≤ z ∧ z < w 0) (hzw : -2147483648 ≤ w (1706 + 13 * z + 0) ∧ w (1706 + 13 * z + 0) ≤ 2147483647) : Sp Γ yX4_isFree mX4_isFree 1 0 0 [.ref (α (40 + z))] h (Qb (w (1706 + 13 * z + 0) = -1) h) NoX := by
  refine sp_of okX4_isFree (cat_all rfl) (Nat.le_of_ble_eq_true rfl) rfl ?_
  refine v_ald0 (pc := 0) dX4_isFree_0 ?_
  refine v_getf KX4 0 (pc := 1) dX4_isFree_1 (lw_all_tbl q574) (Or.inl rfl) (Nat.le_of_ble_eq_true rfl) (sx_zone hS (z := z) ⟨(by first | omega | (simp (disch := omega) only [upi_n]; omega)), (by first | omega | (simp (disch := omega) only [upi_n]; omega))⟩) rfl ?_
  refine v_iconst (pc := 4) dX4_isFree_4 ?_
  refine v_icmp_ne (pc := 5) (tgt := 12) dX4_isFree_5 rfl (by omega) (by omega) (fun c5 => ?_) (fun c5 => ?_)
  · refine v_iconst (pc := 12) dX4_isFree_12 ?_
    refine v_ret_z0 (pc := 13) dX4_isFree_13 rfl ?_
    exact qb_0 (by omega)
  · refine v_iconst (pc := 8) dX4_isFree_8 ?_
    refine v_goto (pc := 9) (tgt := 13) dX4_isFree_9 rfl ?_
    refine v_ret_z1 (pc := 13) dX4_isFree_13 rfl ?_
    exact qb_1 (by omega)
theorem sp_X9_lives {Γ : Cx} {t : Nat} {α : Int → Nat} {h0 h : AH} {w x : Int → Int} {c : Int} {u : Int} (hS : SX Γ t α h0 h w x) (hR : ROK w c) (hu : 0 ≤ u ∧ u < w 7) : Sp Γ yX9_lives mX9_lives 1 0 0 [.ref (α (100 + u))] h (Qb (w (23 + 17 * u + 4) = 1) h) NoX := by
  refine sp_of okX9_lives (cat_all rfl) (Nat.le_of_ble_eq_true rfl) rfl ?_
  have h7 := hR.s7
  have hc0 := hR.c0
  have hlv := hR.uLv u hu
  have hal := hR.uAl u hu
  have hdd := hR.uDd u hu
  have hli := hR.uLi u hu
  refine v_ald0 (pc := 0) dX9_lives_0 ?_
  refine v_getf KX9 10 (pc := 1) dX9_lives_1 (lw_all_tbl q905) (Or.inl rfl) (Nat.le_of_ble_eq_true rfl) (sx_unit hS (u := u) ⟨(by first | omega | (simp (disch := omega) only [upi_n]; omega)), (by first | omega | (simp (disch := omega) only [upi_n]; omega))⟩) rfl ?_
  refine v_iconst (pc := 4) dX9_lives_4 ?_
  refine v_icmp_ne (pc := 5) (tgt := 12) dX9_lives_5 rfl (by omega) (by omega) (fun c5 => ?_) (fun c5 => ?_)
  · refine v_iconst (pc := 12) dX9_lives_12 ?_
    refine v_ret_z0 (pc := 13) dX9_lives_13 rfl ?_
    exact qb_0 (by omega)
  · refine v_iconst (pc := 8) dX9_lives_8 ?_
    refine v_goto (pc := 9) (tgt := 13) dX9_lives_9 rfl ?_
    refine v_ret_z1 (pc := 13) dX9_lives_13 rfl ?_
    exact qb_1 (by omega)
theorem sp_X9_isDue {Γ : Cx} {t : Nat} {α : Int → Nat} {h0 h : AH} {w x : Int → Int} {c : Int} {u d : Int} (hS : SX Γ t α h0 h w x) (hR : ROK w c) (hu : 0 ≤ u ∧ u < w 7) (hd : -2147483648 ≤ d ∧ d ≤ 2147483647) : Sp Γ yX9_isDue mX9_isDue 2 0 0 [.ref (α (100 + u)), vi d] h (Qb (w (23 + 17 * u + 4) = 1 ∧ 0 < w (23 + 17 * u + 2) ∧ w (23 + 17 * u + 3) + w (23 + 17 * u + 2) ≤ d) h) NoX := by
  refine sp_of okX9_isDue (cat_all rfl) (Nat.le_of_ble_eq_true rfl) rfl ?_
  have h7 := hR.s7
  have hc0 := hR.c0
  have hlv := hR.uLv u hu
  have hal := hR.uAl u hu
  have hdd := hR.uDd u hu
  have hli := hR.uLi u hu
  have hfa := hR.uFa u hu
  have hwt := hR.uWt u hu
  have h6 := hR.s6
  refine v_ald0 (pc := 0) dX9_isDue_0 ?_
  refine v_cb0 (pc := 1) (v_runV0 okX9_lives rfl (sp_X9_lives hS (by omega) (by omega)) dX9_isDue_1 (lw_all_tbl q1073) (lw_all_tbl q800) (lw_all_tbl q801) rfl (sx_unit hS (u := u) ⟨(by first | omega | (simp (disch := omega) only [upi_n]; omega)), (by first | omega | (simp (disch := omega) only [upi_n]; omega))⟩) (Nat.le_of_ble_eq_true rfl) ⟨Nat.zero_le _, Nat.zero_le _⟩ (Nat.le_of_ble_eq_true rfl)) (fun c1 => ?_) (fun c1 => ?_)
  · refine v_if_eq1 (pc := 4) (tgt := 31) dX9_isDue_4 rfl ?_
    refine v_ald0 (pc := 7) dX9_isDue_7 ?_
    refine v_getf KX9 3 (pc := 8) dX9_isDue_8 (lw_all_tbl q885) (Or.inl rfl) (Nat.le_of_ble_eq_true rfl) (sx_unit hS (u := u) ⟨(by first | omega | (simp (disch := omega) only [upi_n]; omega)), (by first | omega | (simp (disch := omega) only [upi_n]; omega))⟩) rfl ?_
    refine v_if_eq (pc := 11) (tgt := 31) dX9_isDue_11 rfl (by omega) (fun c11 => ?_) (fun c11 => ?_)
    · refine v_iconst (pc := 31) dX9_isDue_31 ?_
      refine v_ret_z0 (pc := 32) dX9_isDue_32 rfl ?_
      exact qb_0 (by omega)
    · refine v_ald0 (pc := 14) dX9_isDue_14 ?_
      refine v_getf KX9 4 (pc := 15) dX9_isDue_15 (lw_all_tbl q887) (Or.inl rfl) (Nat.le_of_ble_eq_true rfl) (sx_unit hS (u := u) ⟨(by first | omega | (simp (disch := omega) only [upi_n]; omega)), (by first | omega | (simp (disch := omega) only [upi_n]; omega))⟩) rfl ?_
      refine v_ald0 (pc := 18) dX9_isDue_18 ?_
      refine v_getf KX9 3 (pc := 19) dX9_isDue_19 (lw_all_tbl q885) (Or.inl rfl) (Nat.le_of_ble_eq_true rfl) (sx_unit hS (u := u) ⟨(by first | omega | (simp (disch := omega) only [upi_n]; omega)), (by first | omega | (simp (disch := omega) only [upi_n]; omega))⟩) rfl ?_
      refine v_iadd (pc := 22) dX9_isDue_22 ?_
      refine v_ild1 (pc := 23) dX9_isDue_23 ?_
      refine v_icmp_gt (pc := 24) (tgt := 31) dX9_isDue_24 rfl (by omega) (by omega) (fun c24 => ?_) (fun c24 => ?_)
      · refine v_iconst (pc := 31) dX9_isDue_31 ?_
        refine v_ret_z0 (pc := 32) dX9_isDue_32 rfl ?_
        exact qb_0 (by omega)
      · refine v_iconst (pc := 27) dX9_isDue_27 ?_
        refine v_goto (pc := 28) (tgt := 32) dX9_isDue_28 rfl ?_
        refine v_ret_z1 (pc := 32) dX9_isDue_32 rfl ?_
        exact qb_1 (by omega)
  · refine v_if_eq0 (pc := 4) (tgt := 31) dX9_isDue_4 rfl ?_
    refine v_iconst (pc := 31) dX9_isDue_31 ?_
    refine v_ret_z0 (pc := 32) dX9_isDue_32 rfl ?_
    exact qb_0 (by omega)
theorem sp_X3_lossOf {Γ : Cx} {t : Nat} {α : Int → Nat} {h0 h : AH} {w x : Int → Int} {u g : Int} (hS : SX Γ t α h0 h w x) (hu : 0 ≤ u ∧ u < w 7) (hg : 0 ≤ g ∧ g ≤ 4) (hl : -1 ≤ w (23 + 17 * u + 9) ∧ w (23 + 17 * u + 9) ≤ 14000000) (ht : 0 ≤ w (23 + 17 * u + (10 + g)) ∧ w (23 + 17 * u + (10 + g)) ≤ 1000) : Sp Γ yX3_lossOf mX3_lossOf 2 0 0 [.ref (α (100 + u)), vi g] h (Qe (mLoss w u g) h) NoX := by
  refine sp_of okX3_lossOf (cat_all rfl) (Nat.le_of_ble_eq_true rfl) rfl ?_
  refine v_bipush (pc := 0) dX3_lossOf_0 ⟨by decide, by decide⟩ ?_
  refine v_ald0 (pc := 2) dX3_lossOf_2 ?_
  refine v_getfN KX9 10 (pc := 3) dX3_lossOf_3 q906 (Or.inl rfl) (Nat.le_of_ble_eq_true rfl) (sx_unit hS (u := u) ⟨(by first | omega | (simp (disch := omega) only [upi_n]; omega)), (by first | omega | (simp (disch := omega) only [upi_n]; omega))⟩) rfl ?_
  refine v_ald0 (pc := 6) dX3_lossOf_6 ?_
  refine v_getfN KX9 6 (pc := 7) dX3_lossOf_7 q894 (Or.inl rfl) (Nat.le_of_ble_eq_true rfl) (sx_unit hS (u := u) ⟨(by first | omega | (simp (disch := omega) only [upi_n]; omega)), (by first | omega | (simp (disch := omega) only [upi_n]; omega))⟩) rfl ?_
  refine v_ild1 (pc := 10) dX3_lossOf_10 ?_
  refine v_ldS_told hS (u := u) (pc := 11) dX3_lossOf_11 ⟨(by first | omega | (simp (disch := omega) only [upi_n]; omega)), (by first | omega | (simp (disch := omega) only [upi_n]; omega))⟩ ⟨(by first | omega | (simp (disch := omega) only [upi_n]; omega)), (by first | omega | (simp (disch := omega) only [upi_n]; omega))⟩ ?_
  refine v_isub (pc := 12) dX3_lossOf_12 ?_
  refine v_mabs (pc := 13) dX3_lossOf_13 (lw_all_tbl q868) (lw_all_tbl q869) (lw_all_tbl q129) (lw_all_tbl q870) (Nat.le_of_ble_eq_true rfl) (Nat.le_of_ble_eq_true rfl) (by omega) ?_
  have hab : 0 ≤ (if w (23 + 17 * u + 9) - w (23 + 17 * u + (10 + g)) < 0 then -(w (23 + 17 * u + 9) - w (23 + 17 * u + (10 + g))) else w (23 + 17 * u + 9) - w (23 + 17 * u + (10 + g))) ∧ (if w (23 + 17 * u + 9) - w (23 + 17 * u + (10 + g)) < 0 then -(w (23 + 17 * u + 9) - w (23 + 17 * u + (10 + g))) else w (23 + 17 * u + 9) - w (23 + 17 * u + (10 + g))) ≤ 30000000 := by split <;> omega
  refine v_mmin (pc := 16) dX3_lossOf_16 (lw_all_tbl q855) (lw_all_tbl q377) (lw_all_tbl q129) (lw_all_tbl q378) (Nat.le_of_ble_eq_true rfl) (Nat.le_of_ble_eq_true rfl) (by omega) (by omega) ?_
  refine v_ret_n (pc := 19) dX3_lossOf_19 rfl ?_
  exact qe_ok (by rw [mLoss, mLossI]; (repeat (any_goals split)) <;> omega)
theorem sp_X3_hasRoom {Γ : Cx} {t : Nat} {α : Int → Nat} {h0 h : AH} {w x : Int → Int} {c : Int} {z sz : Int} (hS : SX Γ t α h0 h w x) (hR : ROK w c) (hz : 0 ≤ z ∧ z < w 0) (hf : 0 ≤ x (120 + z) ∧ x (120 + z) ≤ 100) (hsz : 0 ≤ sz ∧ sz ≤ 100) : Sp Γ yX3_hasRoom mX3_hasRoom 1 0 0 [.ref (α 0), vi z, vi sz] h (Qb (x (120 + z) + sz ≤ w 1) h) NoX := by
  refine sp_of okX3_hasRoom (cat_all rfl) (Nat.le_of_ble_eq_true rfl) rfl ?_
  have hs0 := hR.s0
  have hs1 := hR.s1
  refine v_ald0 (pc := 0) dX3_hasRoom_0 ?_
  refine v_getf KX3 21 (pc := 1) dX3_hasRoom_1 (lw_all_tbl q631) (Or.inl rfl) (Nat.le_of_ble_eq_true rfl) (sx_obj hS) rfl ?_
  refine v_ild1 (pc := 4) dX3_hasRoom_4 ?_
  refine v_ldS_fills hS (pc := 5) dX3_hasRoom_5 ⟨(by first | omega | (simp (disch := omega) only [upi_n]; omega)), (by first | omega | (simp (disch := omega) only [upi_n]; omega))⟩ ?_
  refine v_ild2 (pc := 6) dX3_hasRoom_6 ?_
  refine v_iadd (pc := 7) dX3_hasRoom_7 ?_
  refine v_ald0 (pc := 8) dX3_hasRoom_8 ?_
  refine v_getf KX3 0 (pc := 9) dX3_hasRoom_9 (lw_all_tbl q596) (Or.inl rfl) (Nat.le_of_ble_eq_true rfl) (sx_obj hS) rfl ?_
  refine v_iconst (pc := 12) dX3_hasRoom_12 ?_
  refine v_ldS_set hS (pc := 13) dX3_hasRoom_13 ⟨(by first | omega | (simp (disch := omega) only [upi_n]; omega)), (by first | omega | (simp (disch := omega) only [upi_n]; omega))⟩ ?_
  refine v_icmp_gt (pc := 14) (tgt := 21) dX3_hasRoom_14 rfl (by omega) (by omega) (fun c14 => ?_) (fun c14 => ?_)
  · refine v_iconst (pc := 21) dX3_hasRoom_21 ?_
    refine v_ret_z0 (pc := 22) dX3_hasRoom_22 rfl ?_
    exact qb_0 (by omega)
  · refine v_iconst (pc := 17) dX3_hasRoom_17 ?_
    refine v_goto (pc := 18) (tgt := 22) dX3_hasRoom_18 rfl ?_
    refine v_ret_z1 (pc := 22) dX3_hasRoom_22 rfl ?_
    exact qb_1 (by omega)
theorem sp_X3_isNearer {Γ : Cx} {h : AH} {a b n : Int} (hab : (-1 ≤ a ∧ a ≤ 20000000) ∧ (-1 ≤ b ∧ b ≤ 20000000) ∧ -1000 ≤ n ∧ n ≤ 20000000) : Sp Γ yX3_isNearer mX3_isNearer 2 0 0 [vi a, vi b, vi n] h (Qb ((if a - n < 0 then -(a - n) else a - n) < (if b - n < 0 then -(b - n) else b - n) ∨ (if a - n < 0 then -(a - n) else a - n) = (if b - n < 0 then -(b - n) else b - n) ∧ a < b) h) NoX := by
  refine sp_of okX3_isNearer (cat_all rfl) (Nat.le_of_ble_eq_true rfl) rfl ?_
  have e1 : 0 ≤ (if a - n < 0 then -(a - n) else a - n) ∧ (if a - n < 0 then -(a - n) else a - n) ≤ 60000000 := by split <;> omega
  have e2 : 0 ≤ (if b - n < 0 then -(b - n) else b - n) ∧ (if b - n < 0 then -(b - n) else b - n) ≤ 60000000 := by split <;> omega
  refine v_ild0 (pc := 0) dX3_isNearer_0 ?_
  refine v_ild2 (pc := 1) dX3_isNearer_1 ?_
  refine v_isub (pc := 2) dX3_isNearer_2 ?_
  refine v_mabs (pc := 3) dX3_isNearer_3 (lw_all_tbl q868) (lw_all_tbl q869) (lw_all_tbl q129) (lw_all_tbl q870) (Nat.le_of_ble_eq_true rfl) (Nat.le_of_ble_eq_true rfl) (by omega) ?_
  refine v_ild1 (pc := 6) dX3_isNearer_6 ?_
  refine v_ild2 (pc := 7) dX3_isNearer_7 ?_
  refine v_isub (pc := 8) dX3_isNearer_8 ?_
  refine v_mabs (pc := 9) dX3_isNearer_9 (lw_all_tbl q868) (lw_all_tbl q869) (lw_all_tbl q129) (lw_all_tbl q870) (Nat.le_of_ble_eq_true rfl) (Nat.le_of_ble_eq_true rfl) (by omega) ?_
  refine v_isub (pc := 12) dX3_isNearer_12 ?_
  generalize (if a - n < 0 then -(a - n) else a - n) = p at e1 ⊢
  generalize (if b - n < 0 then -(b - n) else b - n) = q at e2 ⊢
  refine v_ist3 (pc := 13) dX3_isNearer_13 rfl ?_
  refine v_ild3 (pc := 14) dX3_isNearer_14 ?_
  refine v_if_lt (pc := 15) (tgt := 27) dX3_isNearer_15 rfl (by omega) (fun c15 => ?_) (fun c15 => ?_)
  · refine v_iconst (pc := 27) dX3_isNearer_27 ?_
    refine v_goto (pc := 28) (tgt := 32) dX3_isNearer_28 rfl ?_
    refine v_ret_z1 (pc := 32) dX3_isNearer_32 rfl ?_
    exact qb_1 (by omega)
  · refine v_ild3 (pc := 18) dX3_isNearer_18 ?_
    refine v_if_ne (pc := 19) (tgt := 31) dX3_isNearer_19 rfl (by omega) (fun c19 => ?_) (fun c19 => ?_)
    · refine v_iconst (pc := 31) dX3_isNearer_31 ?_
      refine v_ret_z0 (pc := 32) dX3_isNearer_32 rfl ?_
      exact qb_0 (by omega)
    · refine v_ild0 (pc := 22) dX3_isNearer_22 ?_
      refine v_ild1 (pc := 23) dX3_isNearer_23 ?_
      refine v_icmp_ge (pc := 24) (tgt := 31) dX3_isNearer_24 rfl (by omega) (by omega) (fun c24 => ?_) (fun c24 => ?_)
      · refine v_iconst (pc := 31) dX3_isNearer_31 ?_
        refine v_ret_z0 (pc := 32) dX3_isNearer_32 rfl ?_
        exact qb_0 (by omega)
      · refine v_iconst (pc := 27) dX3_isNearer_27 ?_
        refine v_goto (pc := 28) (tgt := 32) dX3_isNearer_28 rfl ?_
        refine v_ret_z1 (pc := 32) dX3_isNearer_32 rfl ?_
        exact qb_1 (by omega)
theorem sp_X3_leader {Γ : Cx} {t : Nat} {α : Int → Nat} {h0 h : AH} {w x : Int → Int} {c : Int}  (hS : SX Γ t α h0 h w x) (hR : ROK w c) (hw : 0 ≤ x 404 ∧ x 404 ≤ 6) : Sp Γ yX3_leader mX3_leader 1 0 0 [.ref (α 0)] h (Qe (mLeader w (x 404)) h) NoX := by
  refine sp_of okX3_leader (cat_all rfl) (Nat.le_of_ble_eq_true rfl) rfl ?_
  have L17 : ∀ (n9 : Nat) (best : Int) (g : Int), (5 - g).toNat = n9 → (1 ≤ g ∧ g ≤ 5) → (0 ≤ best ∧ best ≤ 4) → (x 404 = 5) → (best = mBest w g) → V Γ mX3_leader 1 0 0 (Qe (mLeader w (x 404)) h) (NoX) h 0 0 17 [some (.ref (α 0)), some (vi best), some (vi g)] [] := by
    intro n9
    induction n9 using Nat.strongRecOn with
    | _ n9 ih =>
      intro best g hn9 hg hbr hw5 hb
      refine v_ild2 (pc := 17) dX3_leader_17 ?_
      refine v_iconst (pc := 18) dX3_leader_18 ?_
      refine v_icmp_ge (pc := 19) (tgt := 49) dX3_leader_19 rfl (by omega) (by omega) (fun c19 => ?_) (fun c19 => ?_)
      · refine v_ild1 (pc := 49) dX3_leader_49 ?_
        refine v_ret_n (pc := 50) dX3_leader_50 rfl ?_
        exact qe_ok (by rw [mLeader, if_neg (by omega), hb, show g = 5 by omega])
      · have hw1 := hR.gW g ⟨(by first | omega | (simp (disch := omega) only [upi_n]; omega)), (by first | omega | (simp (disch := omega) only [upi_n]; omega))⟩
        have hw2 := hR.gW best ⟨(by first | omega | (simp (disch := omega) only [upi_n]; omega)), (by first | omega | (simp (disch := omega) only [upi_n]; omega))⟩
        refine v_ald0 (pc := 22) dX3_leader_22 ?_
        refine v_getf KX3 11 (pc := 23) dX3_leader_23 (lw_all_tbl q619) (Or.inl rfl) (Nat.le_of_ble_eq_true rfl) (sx_obj hS) rfl ?_
        refine v_ild2 (pc := 26) dX3_leader_26 ?_
        refine v_ldS_weights hS (pc := 27) dX3_leader_27 ⟨(by first | omega | (simp (disch := omega) only [upi_n]; omega)), (by first | omega | (simp (disch := omega) only [upi_n]; omega))⟩ ?_
        refine v_ald0 (pc := 28) dX3_leader_28 ?_
        refine v_getf KX3 11 (pc := 29) dX3_leader_29 (lw_all_tbl q619) (Or.inl rfl) (Nat.le_of_ble_eq_true rfl) (sx_obj hS) rfl ?_
        refine v_ild1 (pc := 32) dX3_leader_32 ?_
        refine v_ldS_weights hS (pc := 33) dX3_leader_33 ⟨(by first | omega | (simp (disch := omega) only [upi_n]; omega)), (by first | omega | (simp (disch := omega) only [upi_n]; omega))⟩ ?_
        refine v_icmp_le (pc := 34) (tgt := 41) dX3_leader_34 rfl (by omega) (by omega) (fun c34 => ?_) (fun c34 => ?_)
        · refine v_ild1 (pc := 41) dX3_leader_41 ?_
          refine v_ist1 (pc := 42) dX3_leader_42 rfl ?_
          refine v_iinc2 (pc := 43) dX3_leader_43 rfl ?_
          refine v_goto (pc := 46) (tgt := 17) dX3_leader_46 rfl ?_
          exact ih _ (by omega) _ _ rfl (by omega) (by omega) (by omega) (by rw [mBest_s (by omega), ← hb]; split <;> omega)
        · refine v_ild2 (pc := 37) dX3_leader_37 ?_
          refine v_goto (pc := 38) (tgt := 42) dX3_leader_38 rfl ?_
          refine v_ist1 (pc := 42) dX3_leader_42 rfl ?_
          refine v_iinc2 (pc := 43) dX3_leader_43 rfl ?_
          refine v_goto (pc := 46) (tgt := 17) dX3_leader_46 rfl ?_
          exact ih _ (by omega) _ _ rfl (by omega) (by omega) (by omega) (by rw [mBest_s (by omega), ← hb]; split <;> omega)
  refine v_ald0 (pc := 0) dX3_leader_0 ?_
  refine v_getf KX3 1 (pc := 1) dX3_leader_1 (lw_all_tbl q597) (Or.inl rfl) (Nat.le_of_ble_eq_true rfl) (sx_obj hS) rfl ?_
  refine v_iconst (pc := 4) dX3_leader_4 ?_
  refine v_icmp_eq (pc := 5) (tgt := 13) dX3_leader_5 rfl (by omega) (by omega) (fun c5 => ?_) (fun c5 => ?_)
  · refine v_iconst (pc := 13) dX3_leader_13 ?_
    refine v_ist1 (pc := 14) dX3_leader_14 rfl ?_
    refine v_iconst (pc := 15) dX3_leader_15 ?_
    refine v_ist2 (pc := 16) dX3_leader_16 rfl ?_
    exact L17 _ _ _ rfl (by omega) (by omega) (by omega) (mBest_1 w).symm
  · refine v_ald0 (pc := 8) dX3_leader_8 ?_
    refine v_getf KX3 1 (pc := 9) dX3_leader_9 (lw_all_tbl q597) (Or.inl rfl) (Nat.le_of_ble_eq_true rfl) (sx_obj hS) rfl ?_
    refine v_ret_n (pc := 12) dX3_leader_12 rfl ?_
    exact qe_ok (by rw [mLeader, if_pos (by omega)])
theorem sp_X3_lambda_new_0 {Γ : Cx} {t : Nat} {α : Int → Nat} {h0 h : AH} {w x : Int → Int} {c : Int} {wr sz nm : Int} (hS : SX Γ t α h0 h w x) (hR : ROK w c) (hwr : 0 ≤ wr ∧ wr ≤ 7) (hsz : 1 ≤ sz ∧ sz ≤ 3) (hx : ∀ i, 0 ≤ i ∧ i ≤ 100 → -1 ≤ x i ∧ x i ≤ 1400000000) : Sp Γ yX3_lambda_new_0 mX3_lambda_new_0 2 0 0 [.ref (α 0), vi wr, vi sz, vi nm] h (Qe (xG w x 0 wr sz nm) h) NoX := by
  refine sp_of okX3_lambda_new_0 (cat_all rfl) (Nat.le_of_ble_eq_true rfl) rfl ?_
  refine v_ald0 (pc := 0) dX3_lambda_new_0_0 ?_
  refine v_ce0 (pc := 1) (v_runV0 okX3_life rfl (sp_X3_life hS (by omega)) dX3_lambda_new_0_1 (lw_all_tbl q221) (lw_all_tbl q223) (lw_all_tbl qs1) rfl (sx_obj hS) (Nat.le_of_ble_eq_true rfl) ⟨Nat.zero_le _, Nat.zero_le _⟩ (Nat.le_of_ble_eq_true rfl)) ?_
  refine v_ret_n (pc := 4) dX3_lambda_new_0_4 rfl ?_
  exact qe_ok (by unfold xG; first | rfl | (rw [if_pos (by omega)]))
theorem sp_X3_lambda_new_1 {Γ : Cx} {t : Nat} {α : Int → Nat} {h0 h : AH} {w x : Int → Int} {c : Int} {wr sz nm : Int} (hS : SX Γ t α h0 h w x) (hR : ROK w c) (hwr : 0 ≤ wr ∧ wr ≤ 7) (hsz : 1 ≤ sz ∧ sz ≤ 3) (hx : ∀ i, 0 ≤ i ∧ i ≤ 100 → -1 ≤ x i ∧ x i ≤ 1400000000) : Sp Γ yX3_lambda_new_1 mX3_lambda_new_1 2 0 0 [.ref (α 0), vi wr, vi sz, vi nm] h (Qe (xG w x 1 wr sz nm) h) NoX := by
  refine sp_of okX3_lambda_new_1 (cat_all rfl) (Nat.le_of_ble_eq_true rfl) rfl ?_
  have hxa := hx (0 + wr) ⟨by omega, by omega⟩
  have hxb := hx (10 + wr) ⟨by omega, by omega⟩
  refine v_ald0 (pc := 0) dX3_lambda_new_1_0 ?_
  refine v_getf KX3 13 (pc := 1) dX3_lambda_new_1_1 (lw_all_tbl q623) (Or.inl rfl) (Nat.le_of_ble_eq_true rfl) (sx_obj hS) rfl ?_
  refine v_ild1 (pc := 4) dX3_lambda_new_1_4 ?_
  refine v_ldS_writerMany hS (pc := 5) dX3_lambda_new_1_5 ⟨(by first | omega | (simp (disch := omega) only [upi_n]; omega)), (by first | omega | (simp (disch := omega) only [upi_n]; omega))⟩ ?_
  refine v_if_ne (pc := 6) (tgt := 16) dX3_lambda_new_1_6 rfl (by omega) (fun c6 => ?_) (fun c6 => ?_)
  · refine v_ald0 (pc := 16) dX3_lambda_new_1_16 ?_
    refine v_getf KX3 14 (pc := 17) dX3_lambda_new_1_17 (lw_all_tbl q624) (Or.inl rfl) (Nat.le_of_ble_eq_true rfl) (sx_obj hS) rfl ?_
    refine v_ild1 (pc := 20) dX3_lambda_new_1_20 ?_
    refine v_ldS_writerSum hS (pc := 21) dX3_lambda_new_1_21 ⟨(by first | omega | (simp (disch := omega) only [upi_n]; omega)), (by first | omega | (simp (disch := omega) only [upi_n]; omega))⟩ ?_
    refine v_ald0 (pc := 22) dX3_lambda_new_1_22 ?_
    refine v_getf KX3 13 (pc := 23) dX3_lambda_new_1_23 (lw_all_tbl q623) (Or.inl rfl) (Nat.le_of_ble_eq_true rfl) (sx_obj hS) rfl ?_
    refine v_ild1 (pc := 26) dX3_lambda_new_1_26 ?_
    refine v_ldS_writerMany hS (pc := 27) dX3_lambda_new_1_27 ⟨(by first | omega | (simp (disch := omega) only [upi_n]; omega)), (by first | omega | (simp (disch := omega) only [upi_n]; omega))⟩ ?_
    refine v_idiv (pc := 28) dX3_lambda_new_1_28 (by omega) (by omega) (by omega) ?_
    refine v_ret_n (pc := 29) dX3_lambda_new_1_29 rfl ?_
    exact qe_ok (by unfold xG; rw [if_neg (by omega), if_pos (by omega)]; first | rw [if_pos (by omega)] | rw [if_neg (by omega)])
  · refine v_ald0 (pc := 9) dX3_lambda_new_1_9 ?_
    refine v_ce0 (pc := 10) (v_runV0 okX3_life rfl (sp_X3_life hS (by omega)) dX3_lambda_new_1_10 (lw_all_tbl q221) (lw_all_tbl q223) (lw_all_tbl qs1) rfl (sx_obj hS) (Nat.le_of_ble_eq_true rfl) ⟨Nat.zero_le _, Nat.zero_le _⟩ (Nat.le_of_ble_eq_true rfl)) ?_
    refine v_goto (pc := 13) (tgt := 29) dX3_lambda_new_1_13 rfl ?_
    refine v_ret_n (pc := 29) dX3_lambda_new_1_29 rfl ?_
    exact qe_ok (by unfold xG; rw [if_neg (by omega), if_pos (by omega)]; first | rw [if_pos (by omega)] | rw [if_neg (by omega)])
theorem sp_X3_lambda_new_2 {Γ : Cx} {t : Nat} {α : Int → Nat} {h0 h : AH} {w x : Int → Int} {c : Int} {wr sz nm : Int} (hS : SX Γ t α h0 h w x) (hR : ROK w c) (hwr : 0 ≤ wr ∧ wr ≤ 7) (hsz : 1 ≤ sz ∧ sz ≤ 3) (hx : ∀ i, 0 ≤ i ∧ i ≤ 100 → -1 ≤ x i ∧ x i ≤ 1400000000) : Sp Γ yX3_lambda_new_2 mX3_lambda_new_2 2 0 0 [.ref (α 0), vi wr, vi sz, vi nm] h (Qe (xG w x 2 wr sz nm) h) NoX := by
  refine sp_of okX3_lambda_new_2 (cat_all rfl) (Nat.le_of_ble_eq_true rfl) rfl ?_
  have hxa := hx (30 + sz) ⟨by omega, by omega⟩
  have hxb := hx (40 + sz) ⟨by omega, by omega⟩
  refine v_ald0 (pc := 0) dX3_lambda_new_2_0 ?_
  refine v_getf KX3 16 (pc := 1) dX3_lambda_new_2_1 (lw_all_tbl q626) (Or.inl rfl) (Nat.le_of_ble_eq_true rfl) (sx_obj hS) rfl ?_
  refine v_ild2 (pc := 4) dX3_lambda_new_2_4 ?_
  refine v_ldS_sizeMany hS (pc := 5) dX3_lambda_new_2_5 ⟨(by first | omega | (simp (disch := omega) only [upi_n]; omega)), (by first | omega | (simp (disch := omega) only [upi_n]; omega))⟩ ?_
  refine v_if_ne (pc := 6) (tgt := 16) dX3_lambda_new_2_6 rfl (by omega) (fun c6 => ?_) (fun c6 => ?_)
  · refine v_ald0 (pc := 16) dX3_lambda_new_2_16 ?_
    refine v_getf KX3 17 (pc := 17) dX3_lambda_new_2_17 (lw_all_tbl q627) (Or.inl rfl) (Nat.le_of_ble_eq_true rfl) (sx_obj hS) rfl ?_
    refine v_ild2 (pc := 20) dX3_lambda_new_2_20 ?_
    refine v_ldS_sizeSum hS (pc := 21) dX3_lambda_new_2_21 ⟨(by first | omega | (simp (disch := omega) only [upi_n]; omega)), (by first | omega | (simp (disch := omega) only [upi_n]; omega))⟩ ?_
    refine v_ald0 (pc := 22) dX3_lambda_new_2_22 ?_
    refine v_getf KX3 16 (pc := 23) dX3_lambda_new_2_23 (lw_all_tbl q626) (Or.inl rfl) (Nat.le_of_ble_eq_true rfl) (sx_obj hS) rfl ?_
    refine v_ild2 (pc := 26) dX3_lambda_new_2_26 ?_
    refine v_ldS_sizeMany hS (pc := 27) dX3_lambda_new_2_27 ⟨(by first | omega | (simp (disch := omega) only [upi_n]; omega)), (by first | omega | (simp (disch := omega) only [upi_n]; omega))⟩ ?_
    refine v_idiv (pc := 28) dX3_lambda_new_2_28 (by omega) (by omega) (by omega) ?_
    refine v_ret_n (pc := 29) dX3_lambda_new_2_29 rfl ?_
    exact qe_ok (by unfold xG; rw [if_neg (by omega), if_neg (by omega), if_pos (by omega)]; first | rw [if_pos (by omega)] | rw [if_neg (by omega)])
  · refine v_ald0 (pc := 9) dX3_lambda_new_2_9 ?_
    refine v_ce0 (pc := 10) (v_runV0 okX3_life rfl (sp_X3_life hS (by omega)) dX3_lambda_new_2_10 (lw_all_tbl q221) (lw_all_tbl q223) (lw_all_tbl qs1) rfl (sx_obj hS) (Nat.le_of_ble_eq_true rfl) ⟨Nat.zero_le _, Nat.zero_le _⟩ (Nat.le_of_ble_eq_true rfl)) ?_
    refine v_goto (pc := 13) (tgt := 29) dX3_lambda_new_2_13 rfl ?_
    refine v_ret_n (pc := 29) dX3_lambda_new_2_29 rfl ?_
    exact qe_ok (by unfold xG; rw [if_neg (by omega), if_neg (by omega), if_pos (by omega)]; first | rw [if_pos (by omega)] | rw [if_neg (by omega)])
theorem sp_X3_lambda_new_3 {Γ : Cx} {t : Nat} {α : Int → Nat} {h0 h : AH} {w x : Int → Int} {c : Int} {wr sz nm : Int} (hS : SX Γ t α h0 h w x) (hR : ROK w c) (hwr : 0 ≤ wr ∧ wr ≤ 7) (hsz : 1 ≤ sz ∧ sz ≤ 3) (hx : ∀ i, 0 ≤ i ∧ i ≤ 100 → -1 ≤ x i ∧ x i ≤ 1400000000) : Sp Γ yX3_lambda_new_3 mX3_lambda_new_3 2 0 0 [.ref (α 0), vi wr, vi sz, vi nm] h (Qe (xG w x 3 wr sz nm) h) NoX := by
  refine sp_of okX3_lambda_new_3 (cat_all rfl) (Nat.le_of_ble_eq_true rfl) rfl ?_
  have hxa := hx (50 + (4 * wr + sz)) ⟨by omega, by omega⟩
  have hxb := hx (0) ⟨by omega, by omega⟩
  refine v_ald0 (pc := 0) dX3_lambda_new_3_0 ?_
  refine v_getf KX3 18 (pc := 1) dX3_lambda_new_3_1 (lw_all_tbl q628) (Or.inl rfl) (Nat.le_of_ble_eq_true rfl) (sx_obj hS) rfl ?_
  refine v_ild1 (pc := 4) dX3_lambda_new_3_4 ?_
  refine v_ild2 (pc := 5) dX3_lambda_new_3_5 ?_
  refine v_ce0 (pc := 6) (v_runS2 okX3_both rfl (sp_X3_both) dX3_lambda_new_3_6 (lw_all_tbl q234) (lw_all_tbl q235) (Nat.le_of_ble_eq_true rfl) ⟨Nat.zero_le _, Nat.zero_le _⟩ (Nat.le_of_ble_eq_true rfl)) ?_
  refine v_ldS_latest hS (pc := 9) dX3_lambda_new_3_9 ⟨(by first | omega | (simp (disch := omega) only [upi_n]; omega)), (by first | omega | (simp (disch := omega) only [upi_n]; omega))⟩ ?_
  refine v_iconst (pc := 10) dX3_lambda_new_3_10 ?_
  refine v_icmp_ne (pc := 11) (tgt := 21) dX3_lambda_new_3_11 rfl (by omega) (by omega) (fun c11 => ?_) (fun c11 => ?_)
  · refine v_ald0 (pc := 21) dX3_lambda_new_3_21 ?_
    refine v_getf KX3 18 (pc := 22) dX3_lambda_new_3_22 (lw_all_tbl q628) (Or.inl rfl) (Nat.le_of_ble_eq_true rfl) (sx_obj hS) rfl ?_
    refine v_ild1 (pc := 25) dX3_lambda_new_3_25 ?_
    refine v_ild2 (pc := 26) dX3_lambda_new_3_26 ?_
    refine v_ce0 (pc := 27) (v_runS2 okX3_both rfl (sp_X3_both) dX3_lambda_new_3_27 (lw_all_tbl q234) (lw_all_tbl q235) (Nat.le_of_ble_eq_true rfl) ⟨Nat.zero_le _, Nat.zero_le _⟩ (Nat.le_of_ble_eq_true rfl)) ?_
    refine v_ldS_latest hS (pc := 30) dX3_lambda_new_3_30 ⟨(by first | omega | (simp (disch := omega) only [upi_n]; omega)), (by first | omega | (simp (disch := omega) only [upi_n]; omega))⟩ ?_
    refine v_ret_n (pc := 31) dX3_lambda_new_3_31 rfl ?_
    exact qe_ok (by unfold xG; rw [if_neg (by omega), if_neg (by omega), if_neg (by omega), if_pos (by omega)]; first | rw [if_pos (by omega)] | rw [if_neg (by omega)])
  · refine v_ald0 (pc := 14) dX3_lambda_new_3_14 ?_
    refine v_ce0 (pc := 15) (v_runV0 okX3_life rfl (sp_X3_life hS (by omega)) dX3_lambda_new_3_15 (lw_all_tbl q221) (lw_all_tbl q223) (lw_all_tbl qs1) rfl (sx_obj hS) (Nat.le_of_ble_eq_true rfl) ⟨Nat.zero_le _, Nat.zero_le _⟩ (Nat.le_of_ble_eq_true rfl)) ?_
    refine v_goto (pc := 18) (tgt := 31) dX3_lambda_new_3_18 rfl ?_
    refine v_ret_n (pc := 31) dX3_lambda_new_3_31 rfl ?_
    exact qe_ok (by unfold xG; rw [if_neg (by omega), if_neg (by omega), if_neg (by omega), if_pos (by omega)]; first | rw [if_pos (by omega)] | rw [if_neg (by omega)])
theorem sp_X3_lambda_new_4 {Γ : Cx} {t : Nat} {α : Int → Nat} {h0 h : AH} {w x : Int → Int} {c : Int} {wr sz nm : Int} (hS : SX Γ t α h0 h w x) (hR : ROK w c) (hwr : 0 ≤ wr ∧ wr ≤ 7) (hsz : 1 ≤ sz ∧ sz ≤ 3) (hx : ∀ i, 0 ≤ i ∧ i ≤ 100 → -1 ≤ x i ∧ x i ≤ 1400000000) : Sp Γ yX3_lambda_new_4 mX3_lambda_new_4 2 0 0 [.ref (α 0), vi wr, vi sz, vi nm] h (Qe (xG w x 4 wr sz nm) h) NoX := by
  refine sp_of okX3_lambda_new_4 (cat_all rfl) (Nat.le_of_ble_eq_true rfl) rfl ?_
  have hxa := hx (0 + wr) ⟨by omega, by omega⟩
  have hxb := hx (20 + wr) ⟨by omega, by omega⟩
  refine v_ald0 (pc := 0) dX3_lambda_new_4_0 ?_
  refine v_getf KX3 13 (pc := 1) dX3_lambda_new_4_1 (lw_all_tbl q623) (Or.inl rfl) (Nat.le_of_ble_eq_true rfl) (sx_obj hS) rfl ?_
  refine v_ild1 (pc := 4) dX3_lambda_new_4_4 ?_
  refine v_ldS_writerMany hS (pc := 5) dX3_lambda_new_4_5 ⟨(by first | omega | (simp (disch := omega) only [upi_n]; omega)), (by first | omega | (simp (disch := omega) only [upi_n]; omega))⟩ ?_
  refine v_if_ne (pc := 6) (tgt := 16) dX3_lambda_new_4_6 rfl (by omega) (fun c6 => ?_) (fun c6 => ?_)
  · refine v_ald0 (pc := 16) dX3_lambda_new_4_16 ?_
    refine v_getf KX3 15 (pc := 17) dX3_lambda_new_4_17 (lw_all_tbl q625) (Or.inl rfl) (Nat.le_of_ble_eq_true rfl) (sx_obj hS) rfl ?_
    refine v_ild1 (pc := 20) dX3_lambda_new_4_20 ?_
    refine v_ldS_writerMost hS (pc := 21) dX3_lambda_new_4_21 ⟨(by first | omega | (simp (disch := omega) only [upi_n]; omega)), (by first | omega | (simp (disch := omega) only [upi_n]; omega))⟩ ?_
    refine v_ret_n (pc := 22) dX3_lambda_new_4_22 rfl ?_
    exact qe_ok (by unfold xG; rw [if_neg (by omega), if_neg (by omega), if_neg (by omega), if_neg (by omega), if_pos (by omega)]; first | rw [if_pos (by omega)] | rw [if_neg (by omega)])
  · refine v_ald0 (pc := 9) dX3_lambda_new_4_9 ?_
    refine v_ce0 (pc := 10) (v_runV0 okX3_life rfl (sp_X3_life hS (by omega)) dX3_lambda_new_4_10 (lw_all_tbl q221) (lw_all_tbl q223) (lw_all_tbl qs1) rfl (sx_obj hS) (Nat.le_of_ble_eq_true rfl) ⟨Nat.zero_le _, Nat.zero_le _⟩ (Nat.le_of_ble_eq_true rfl)) ?_
    refine v_goto (pc := 13) (tgt := 22) dX3_lambda_new_4_13 rfl ?_
    refine v_ret_n (pc := 22) dX3_lambda_new_4_22 rfl ?_
    exact qe_ok (by unfold xG; rw [if_neg (by omega), if_neg (by omega), if_neg (by omega), if_neg (by omega), if_pos (by omega)]; first | rw [if_pos (by omega)] | rw [if_neg (by omega)])
theorem sp_X3_lambda_new_5 {Γ : Cx} {t : Nat} {α : Int → Nat} {h0 h : AH} {w x : Int → Int} {wr sz nm : Int} (hS : SX Γ t α h0 h w x) (hn : 0 ≤ nm ∧ nm < x 405 ∧ x 405 ≤ 1000) : Sp Γ yX3_lambda_new_5 mX3_lambda_new_5 2 0 0 [.ref (α 0), vi wr, vi sz, vi nm] h (Qe (xG w x 6 wr sz nm) h) NoX := by
  refine sp_of okX3_lambda_new_5 (cat_all rfl) (Nat.le_of_ble_eq_true rfl) rfl ?_
  refine v_ald0 (pc := 0) dX3_lambda_new_5_0 ?_
  refine v_ild3 (pc := 1) dX3_lambda_new_5_1 ?_
  refine v_ce0 (pc := 2) (v_runV1 okX3_lifeOf rfl (sp_X3_lifeOf hS hn) dX3_lambda_new_5_2 (lw_all_tbl q243) (lw_all_tbl q245) (lw_all_tbl qs7) rfl (sx_obj hS) (Nat.le_of_ble_eq_true rfl) ⟨Nat.zero_le _, Nat.zero_le _⟩ (Nat.le_of_ble_eq_true rfl)) ?_
  refine v_ret_n (pc := 5) dX3_lambda_new_5_5 rfl ?_
  exact qe_ok (by unfold xG; rw [if_neg (by omega), if_neg (by omega), if_neg (by omega), if_neg (by omega), if_neg (by omega)])
theorem sp_X3_free {Γ : Cx} {t : Nat} {α : Int → Nat} {h0 h : AH} {w x : Int → Int} {c : Int}  (hS : SX Γ t α h0 h w x) (hR : ROK w c) : Sp Γ yX3_free mX3_free 2 0 0 [.ref (α 0)] h (Qe (mFreeZ w (w 0)) h) NoX := by
  refine sp_of okX3_free (cat_all rfl) (Nat.le_of_ble_eq_true rfl) rfl ?_
  have hs0 := hR.s0
  have hc0 := hR.c0
  have L4 : ∀ (n9 : Nat) (n : Int) (z : Int), (w 0 - z).toNat = n9 → (0 ≤ z ∧ z ≤ w 0) → (n = mFreeZ w z) → V Γ mX3_free 2 0 0 (Qe (mFreeZ w (w 0)) h) (NoX) h 0 0 4 [some (.ref (α 0)), some (vi n), some (vi z)] [] := by
    intro n9
    induction n9 using Nat.strongRecOn with
    | _ n9 ih =>
      intro n z hn9 hz hn
      refine v_ild2 (pc := 4) dX3_free_4 ?_
      refine v_ald0 (pc := 5) dX3_free_5 ?_
      refine v_getf KX3 0 (pc := 6) dX3_free_6 (lw_all_tbl q596) (Or.inl rfl) (Nat.le_of_ble_eq_true rfl) (sx_obj hS) rfl ?_
      refine v_iconst (pc := 9) dX3_free_9 ?_
      refine v_ldS_set hS (pc := 10) dX3_free_10 ⟨(by first | omega | (simp (disch := omega) only [upi_n]; omega)), (by first | omega | (simp (disch := omega) only [upi_n]; omega))⟩ ?_
      refine v_icmp_ge (pc := 11) (tgt := 35) dX3_free_11 rfl (by omega) (by omega) (fun c11 => ?_) (fun c11 => ?_)
      · refine v_ild1 (pc := 35) dX3_free_35 ?_
        refine v_ret_n (pc := 36) dX3_free_36 rfl ?_
        exact qe_ok (by rw [hn, show z = w 0 by omega])
      · have hzw := hR.zW z ⟨(by first | omega | (simp (disch := omega) only [upi_n]; omega)), (by first | omega | (simp (disch := omega) only [upi_n]; omega))⟩
        refine v_ild1 (pc := 14) dX3_free_14 ?_
        refine v_ald0 (pc := 15) dX3_free_15 ?_
        refine v_getf KX3 10 (pc := 16) dX3_free_16 (lw_all_tbl q616) (Or.inl rfl) (Nat.le_of_ble_eq_true rfl) (sx_obj hS) rfl ?_
        refine v_ild2 (pc := 19) dX3_free_19 ?_
        refine v_ldS_zones hS (z := z) (pc := 20) dX3_free_20 ⟨(by first | omega | (simp (disch := omega) only [upi_n]; omega)), (by first | omega | (simp (disch := omega) only [upi_n]; omega))⟩ ?_
        refine v_cb0 (pc := 21) (v_runV0 okX4_isFree rfl (sp_X4_isFree hS (by omega) (by omega)) dX3_free_21 (lw_all_tbl q991) (lw_all_tbl q992) (lw_all_tbl q993) rfl (sx_zone hS (z := z) ⟨(by first | omega | (simp (disch := omega) only [upi_n]; omega)), (by first | omega | (simp (disch := omega) only [upi_n]; omega))⟩) (Nat.le_of_ble_eq_true rfl) ⟨Nat.zero_le _, Nat.zero_le _⟩ (Nat.le_of_ble_eq_true rfl)) (fun c21 => ?_) (fun c21 => ?_)
        · refine v_ce0 (pc := 24) (v_runSN1 okX1_bit rfl (sp_X1_bit (by omega)) dX3_free_24 q1024 (lw_all_tbl q1025) (Nat.le_of_ble_eq_true rfl) ⟨Nat.zero_le _, Nat.zero_le _⟩ (Nat.le_of_ble_eq_true rfl)) ?_
          refine v_iadd (pc := 27) dX3_free_27 ?_
          refine v_ist1 (pc := 28) dX3_free_28 rfl ?_
          refine v_iinc2 (pc := 29) dX3_free_29 rfl ?_
          refine v_goto (pc := 32) (tgt := 4) dX3_free_32 rfl ?_
          exact ih _ (by omega) _ _ rfl (by omega) (by rw [mFreeZ_s (by omega), ← hn]; split <;> omega)
        · refine v_ce0 (pc := 24) (v_runSN1 okX1_bit rfl (sp_X1_bit (by omega)) dX3_free_24 q1024 (lw_all_tbl q1025) (Nat.le_of_ble_eq_true rfl) ⟨Nat.zero_le _, Nat.zero_le _⟩ (Nat.le_of_ble_eq_true rfl)) ?_
          refine v_iadd (pc := 27) dX3_free_27 ?_
          refine v_ist1 (pc := 28) dX3_free_28 rfl ?_
          refine v_iinc2 (pc := 29) dX3_free_29 rfl ?_
          refine v_goto (pc := 32) (tgt := 4) dX3_free_32 rfl ?_
          exact ih _ (by omega) _ _ rfl (by omega) (by rw [mFreeZ_s (by omega), ← hn]; split <;> omega)
  refine v_iconst (pc := 0) dX3_free_0 ?_
  refine v_ist1 (pc := 1) dX3_free_1 rfl ?_
  refine v_iconst (pc := 2) dX3_free_2 ?_
  refine v_ist2 (pc := 3) dX3_free_3 rfl ?_
  exact L4 _ _ _ rfl (by omega) rfl
theorem sp_X3_living {Γ : Cx} {t : Nat} {α : Int → Nat} {h0 h : AH} {w x : Int → Int} {c : Int} {b : Int} (hS : SX Γ t α h0 h w x) (hR : ROK w c) (hb : 0 ≤ b ∧ b ≤ 1) : Sp Γ yX3_living mX3_living 4 0 0 [.ref (α 0), vi b] h (Qe (if b = 0 then mLivU w (w 7) else mLivP w (-1) (w 7)) h) NoX := by
  refine sp_of okX3_living (cat_all rfl) (Nat.le_of_ble_eq_true rfl) rfl ?_
  have h7 := hR.s7
  have hc0 := hR.c0
  have L4 : ∀ (n9 : Nat) (n : Int) (u : Int), (w 7 - u).toNat = n9 → (0 ≤ u ∧ u ≤ w 7) → (n = if b = 0 then mLivU w u else mLivP w (-1) u) → V Γ mX3_living 4 0 0 (Qe (if b = 0 then mLivU w (w 7) else mLivP w (-1) (w 7)) h) (NoX) h 0 0 4 [some (.ref (α 0)), some (vi b), some (vi n), some (vi u)] [] := by
    intro n9
    induction n9 using Nat.strongRecOn with
    | _ n9 ih =>
      intro n u hn9 hu hn
      refine v_ild3 (pc := 4) dX3_living_4 ?_
      refine v_ald0 (pc := 5) dX3_living_5 ?_
      refine v_getf KX3 9 (pc := 6) dX3_living_6 (lw_all_tbl q614) (Or.inl rfl) (Nat.le_of_ble_eq_true rfl) (sx_obj hS) rfl ?_
      refine v_ce0 (pc := 9) (v_runF0 okJ2_size rfl (sp_J2_size (sx_units hS)) dX3_living_9 (lw_all_tbl q823) q772 q771 rfl (lw_all_tbl q774) (lw_all_tbl q776) q777 q775 q773 ⟨⟨by decide, by decide⟩, by decide +kernel⟩ rfl (sx_units hS) (Nat.le_of_ble_eq_true rfl) ⟨Nat.zero_le _, Nat.zero_le _⟩ (Nat.le_of_ble_eq_true rfl)) ?_
      refine v_icmp_ge (pc := 14) (tgt := 73) dX3_living_14 rfl (by omega) (by omega) (fun c14 => ?_) (fun c14 => ?_)
      · refine v_ild2 (pc := 73) dX3_living_73 ?_
        refine v_ret_n (pc := 74) dX3_living_74 rfl ?_
        exact qe_ok (by rw [hn, show u = w 7 by omega])
      · refine v_ild2 (pc := 17) dX3_living_17 ?_
        refine v_ald0 (pc := 18) dX3_living_18 ?_
        refine v_getf KX3 9 (pc := 19) dX3_living_19 (lw_all_tbl q614) (Or.inl rfl) (Nat.le_of_ble_eq_true rfl) (sx_obj hS) rfl ?_
        refine v_ild3 (pc := 22) dX3_living_22 ?_
        refine v_cw0 (pc := 23) (v_runF1 okJ2_get rfl (sp_uget hS (k := u) ⟨(by first | omega | (simp (disch := omega) only [upi_n]; omega)), (by first | omega | (simp (disch := omega) only [upi_n]; omega))⟩) dX3_living_23 (lw_all_tbl q825) q782 q781 rfl (lw_all_tbl q783) (lw_all_tbl q785) q786 q784 q773 ⟨⟨by decide, by decide⟩, by decide +kernel⟩ rfl (sx_units hS) (Nat.le_of_ble_eq_true rfl) ⟨Nat.zero_le _, Nat.zero_le _⟩ (Nat.le_of_ble_eq_true rfl)) ?_
        refine v_castS (pc := 28) dX3_living_28 (lw_all_tbl q826) (sx_unit hS (u := u) ⟨(by first | omega | (simp (disch := omega) only [upi_n]; omega)), (by first | omega | (simp (disch := omega) only [upi_n]; omega))⟩) rfl ?_
        refine v_cb0 (pc := 31) (v_runV0 okX9_lives rfl (sp_X9_lives hS (by omega) (by omega)) dX3_living_31 (lw_all_tbl q999) (lw_all_tbl q800) (lw_all_tbl q801) rfl (sx_unit hS (u := u) ⟨(by first | omega | (simp (disch := omega) only [upi_n]; omega)), (by first | omega | (simp (disch := omega) only [upi_n]; omega))⟩) (Nat.le_of_ble_eq_true rfl) ⟨Nat.zero_le _, Nat.zero_le _⟩ (Nat.le_of_ble_eq_true rfl)) (fun c31 => ?_) (fun c31 => ?_)
        · refine v_if_ne1 (pc := 34) (tgt := 41) dX3_living_34 rfl ?_
          refine v_ild1 (pc := 41) dX3_living_41 ?_
          refine v_if_eq (pc := 42) (tgt := 64) dX3_living_42 rfl (by omega) (fun c42 => ?_) (fun c42 => ?_)
          · refine v_iconst (pc := 64) dX3_living_64 ?_
            refine v_iadd (pc := 65) dX3_living_65 ?_
            refine v_ist2 (pc := 66) dX3_living_66 rfl ?_
            refine v_iinc3 (pc := 67) dX3_living_67 rfl ?_
            refine v_goto (pc := 70) (tgt := 4) dX3_living_70 rfl ?_
            exact ih _ (by omega) _ _ rfl (by omega) (by by_cases q : b = 0 <;> first | (exfalso; omega) | (rw [if_pos q] at hn ⊢; rw [mLivU_s hu.1, ← hn]; first | rw [if_pos (by omega)] | (rw [if_neg (by omega)]; omega)) | (rw [if_neg q] at hn ⊢; rw [mLivP_s hu.1, ← hn]; first | rw [if_pos (by omega)] | (rw [if_neg (by omega)]; omega)))
          · refine v_ald0 (pc := 45) dX3_living_45 ?_
            refine v_getf KX3 9 (pc := 46) dX3_living_46 (lw_all_tbl q614) (Or.inl rfl) (Nat.le_of_ble_eq_true rfl) (sx_obj hS) rfl ?_
            refine v_ild3 (pc := 49) dX3_living_49 ?_
            refine v_cw0 (pc := 50) (v_runF1 okJ2_get rfl (sp_uget hS (k := u) ⟨(by first | omega | (simp (disch := omega) only [upi_n]; omega)), (by first | omega | (simp (disch := omega) only [upi_n]; omega))⟩) dX3_living_50 (lw_all_tbl q825) q782 q781 rfl (lw_all_tbl q783) (lw_all_tbl q785) q786 q784 q773 ⟨⟨by decide, by decide⟩, by decide +kernel⟩ rfl (sx_units hS) (Nat.le_of_ble_eq_true rfl) ⟨Nat.zero_le _, Nat.zero_le _⟩ (Nat.le_of_ble_eq_true rfl)) ?_
            refine v_castS (pc := 55) dX3_living_55 (lw_all_tbl q826) (sx_unit hS (u := u) ⟨(by first | omega | (simp (disch := omega) only [upi_n]; omega)), (by first | omega | (simp (disch := omega) only [upi_n]; omega))⟩) rfl ?_
            refine v_getfN KX9 2 (pc := 58) dX3_living_58 q883 (Or.inl rfl) (Nat.le_of_ble_eq_true rfl) (sx_unit hS (u := u) ⟨(by first | omega | (simp (disch := omega) only [upi_n]; omega)), (by first | omega | (simp (disch := omega) only [upi_n]; omega))⟩) rfl ?_
            refine v_goto (pc := 61) (tgt := 65) dX3_living_61 rfl ?_
            refine v_iadd (pc := 65) dX3_living_65 ?_
            refine v_ist2 (pc := 66) dX3_living_66 rfl ?_
            refine v_iinc3 (pc := 67) dX3_living_67 rfl ?_
            refine v_goto (pc := 70) (tgt := 4) dX3_living_70 rfl ?_
            exact ih _ (by omega) _ _ rfl (by omega) (by by_cases q : b = 0 <;> first | (exfalso; omega) | (rw [if_pos q] at hn ⊢; rw [mLivU_s hu.1, ← hn]; first | rw [if_pos (by omega)] | (rw [if_neg (by omega)]; omega)) | (rw [if_neg q] at hn ⊢; rw [mLivP_s hu.1, ← hn]; first | rw [if_pos (by omega)] | (rw [if_neg (by omega)]; omega)))
        · refine v_if_ne0 (pc := 34) (tgt := 41) dX3_living_34 rfl ?_
          refine v_iconst (pc := 37) dX3_living_37 ?_
          refine v_goto (pc := 38) (tgt := 65) dX3_living_38 rfl ?_
          refine v_iadd (pc := 65) dX3_living_65 ?_
          refine v_ist2 (pc := 66) dX3_living_66 rfl ?_
          refine v_iinc3 (pc := 67) dX3_living_67 rfl ?_
          refine v_goto (pc := 70) (tgt := 4) dX3_living_70 rfl ?_
          exact ih _ (by omega) _ _ rfl (by omega) (by by_cases q : b = 0 <;> first | (exfalso; omega) | (rw [if_pos q] at hn ⊢; rw [mLivU_s hu.1, ← hn]; first | rw [if_pos (by omega)] | (rw [if_neg (by omega)]; omega)) | (rw [if_neg q] at hn ⊢; rw [mLivP_s hu.1, ← hn]; first | rw [if_pos (by omega)] | (rw [if_neg (by omega)]; omega)))
  refine v_iconst (pc := 0) dX3_living_0 ?_
  refine v_ist2 (pc := 1) dX3_living_1 rfl ?_
  refine v_iconst (pc := 2) dX3_living_2 ?_
  refine v_ist3 (pc := 3) dX3_living_3 rfl ?_
  exact L4 _ _ _ rfl (by omega) (by split <;> rfl)
theorem sp_X3_isOver {Γ : Cx} {t : Nat} {α : Int → Nat} {h0 h : AH} {w x : Int → Int} {c : Int} {z gr : Int} (hS : SX Γ t α h0 h w x) (hR : ROK w c) (hz : 0 ≤ z ∧ z < w 0) (hgr : 0 ≤ gr ∧ gr ≤ 1000) : Sp Γ yX3_isOver mX3_isOver 2 0 0 [.ref (α 0), vi z, vi gr] h (Qb (w (1706 + 13 * z + 0) ≠ -1 ∧ w (1706 + 13 * z + 0) * w 2 + w 2 - 1 + gr < w 6) h) NoX := by
  refine sp_of okX3_isOver (cat_all rfl) (Nat.le_of_ble_eq_true rfl) rfl ?_
  have hs0 := hR.s0
  have hs2 := hR.s2
  have h6 := hR.s6
  have hzw := hR.zW z ⟨by omega, by omega⟩
  have hzp := hR.zP z ⟨by omega, by omega⟩
  have hc0 := hR.c0
  refine v_ald0 (pc := 0) dX3_isOver_0 ?_
  refine v_getf KX3 10 (pc := 1) dX3_isOver_1 (lw_all_tbl q616) (Or.inl rfl) (Nat.le_of_ble_eq_true rfl) (sx_obj hS) rfl ?_
  refine v_ild1 (pc := 4) dX3_isOver_4 ?_
  refine v_ldS_zones hS (z := z) (pc := 5) dX3_isOver_5 ⟨(by first | omega | (simp (disch := omega) only [upi_n]; omega)), (by first | omega | (simp (disch := omega) only [upi_n]; omega))⟩ ?_
  refine v_cb0 (pc := 6) (v_runV0 okX4_isFree rfl (sp_X4_isFree hS (by omega) (by omega)) dX3_isOver_6 (lw_all_tbl q991) (lw_all_tbl q992) (lw_all_tbl q993) rfl (sx_zone hS (z := z) ⟨(by first | omega | (simp (disch := omega) only [upi_n]; omega)), (by first | omega | (simp (disch := omega) only [upi_n]; omega))⟩) (Nat.le_of_ble_eq_true rfl) ⟨Nat.zero_le _, Nat.zero_le _⟩ (Nat.le_of_ble_eq_true rfl)) (fun c6 => ?_) (fun c6 => ?_)
  · refine v_if_ne1 (pc := 9) (tgt := 45) dX3_isOver_9 rfl ?_
    refine v_iconst (pc := 45) dX3_isOver_45 ?_
    refine v_ret_z0 (pc := 46) dX3_isOver_46 rfl ?_
    exact qb_0 (by omega)
  · refine v_if_ne0 (pc := 9) (tgt := 45) dX3_isOver_9 rfl ?_
    refine v_ald0 (pc := 12) dX3_isOver_12 ?_
    refine v_getf KX3 10 (pc := 13) dX3_isOver_13 (lw_all_tbl q616) (Or.inl rfl) (Nat.le_of_ble_eq_true rfl) (sx_obj hS) rfl ?_
    refine v_ild1 (pc := 16) dX3_isOver_16 ?_
    refine v_ldS_zones hS (z := z) (pc := 17) dX3_isOver_17 ⟨(by first | omega | (simp (disch := omega) only [upi_n]; omega)), (by first | omega | (simp (disch := omega) only [upi_n]; omega))⟩ ?_
    refine v_getfN KX4 0 (pc := 18) dX3_isOver_18 q575 (Or.inl rfl) (Nat.le_of_ble_eq_true rfl) (sx_zone hS (z := z) ⟨(by first | omega | (simp (disch := omega) only [upi_n]; omega)), (by first | omega | (simp (disch := omega) only [upi_n]; omega))⟩) rfl ?_
    refine v_iconst (pc := 21) dX3_isOver_21 ?_
    refine v_iadd (pc := 22) dX3_isOver_22 ?_
    refine v_ald0 (pc := 23) dX3_isOver_23 ?_
    refine v_getf KX3 0 (pc := 24) dX3_isOver_24 (lw_all_tbl q596) (Or.inl rfl) (Nat.le_of_ble_eq_true rfl) (sx_obj hS) rfl ?_
    refine v_iconst (pc := 27) dX3_isOver_27 ?_
    refine v_ldS_set hS (pc := 28) dX3_isOver_28 ⟨(by first | omega | (simp (disch := omega) only [upi_n]; omega)), (by first | omega | (simp (disch := omega) only [upi_n]; omega))⟩ ?_
    refine v_imul (pc := 29) dX3_isOver_29 ?_
    rw [show (w (1706 + 13 * z + 0) + 1) * w 2 = w (1706 + 13 * z + 0) * w 2 + w 2 by rw [Int.add_mul, Int.one_mul]]
    refine v_iconst (pc := 30) dX3_isOver_30 ?_
    refine v_isub (pc := 31) dX3_isOver_31 ?_
    refine v_ild2 (pc := 32) dX3_isOver_32 ?_
    refine v_iadd (pc := 33) dX3_isOver_33 ?_
    refine v_ald0 (pc := 34) dX3_isOver_34 ?_
    refine v_getf KX3 3 (pc := 35) dX3_isOver_35 (lw_all_tbl q599) (Or.inl rfl) (Nat.le_of_ble_eq_true rfl) (sx_obj hS) rfl ?_
    refine v_icmp_ge (pc := 38) (tgt := 45) dX3_isOver_38 rfl (by omega) (by omega) (fun c38 => ?_) (fun c38 => ?_)
    · refine v_iconst (pc := 45) dX3_isOver_45 ?_
      refine v_ret_z0 (pc := 46) dX3_isOver_46 rfl ?_
      exact qb_0 (by omega)
    · refine v_iconst (pc := 41) dX3_isOver_41 ?_
      refine v_goto (pc := 42) (tgt := 46) dX3_isOver_42 rfl ?_
      refine v_ret_z1 (pc := 46) dX3_isOver_46 rfl ?_
      exact qb_1 (by omega)
theorem sp_X3_named {Γ : Cx} {t : Nat} {α : Int → Nat} {h0 h : AH} {w x : Int → Int} {c : Int} {n : Int} (hS : SX Γ t α h0 h w x) (hR : ROK w c) (hn : -2147483648 ≤ n ∧ n ≤ 2147483647) : Sp Γ yX3_named mX3_named 4 0 0 [.ref (α 0), vi n] h (fun v h9 => h9 = h ∧ ((fst (fun u => w (23 + 17 * u + 16) = n) (w 7) = -1 ∧ v = some .null) ∨ (0 ≤ fst (fun u => w (23 + 17 * u + 16) = n) (w 7) ∧ fst (fun u => w (23 + 17 * u + 16) = n) (w 7) < w 7 ∧ v = some (.ref (α (100 + fst (fun u => w (23 + 17 * u + 16) = n) (w 7))))))) NoX := by
  refine sp_of okX3_named (cat_all rfl) (Nat.le_of_ble_eq_true rfl) rfl ?_
  have h7 := hR.s7
  have L2 : ∀ (n9 : Nat) (u : Int), (w 7 - u).toNat = n9 → (0 ≤ u ∧ u ≤ w 7) → (fst (fun u => w (23 + 17 * u + 16) = n) u = -1) → V Γ mX3_named 4 0 0 (fun v h9 => h9 = h ∧ ((fst (fun u => w (23 + 17 * u + 16) = n) (w 7) = -1 ∧ v = some .null) ∨ (0 ≤ fst (fun u => w (23 + 17 * u + 16) = n) (w 7) ∧ fst (fun u => w (23 + 17 * u + 16) = n) (w 7) < w 7 ∧ v = some (.ref (α (100 + fst (fun u => w (23 + 17 * u + 16) = n) (w 7))))))) (NoX) h 0 0 2 [some (.ref (α 0)), some (vi n), some (vi u)] [] := by
    intro n9
    induction n9 using Nat.strongRecOn with
    | _ n9 ih =>
      intro u hn9 hu hf
      refine v_ild2 (pc := 2) dX3_named_2 ?_
      refine v_ald0 (pc := 3) dX3_named_3 ?_
      refine v_getf KX3 9 (pc := 4) dX3_named_4 (lw_all_tbl q614) (Or.inl rfl) (Nat.le_of_ble_eq_true rfl) (sx_obj hS) rfl ?_
      refine v_ce0 (pc := 7) (v_runF0 okJ2_size rfl (sp_J2_size (sx_units hS)) dX3_named_7 (lw_all_tbl q823) q772 q771 rfl (lw_all_tbl q774) (lw_all_tbl q776) q777 q775 q773 ⟨⟨by decide, by decide⟩, by decide +kernel⟩ rfl (sx_units hS) (Nat.le_of_ble_eq_true rfl) ⟨Nat.zero_le _, Nat.zero_le _⟩ (Nat.le_of_ble_eq_true rfl)) ?_
      refine v_icmp_ge (pc := 12) (tgt := 55) dX3_named_12 rfl (by omega) (by omega) (fun c12 => ?_) (fun c12 => ?_)
      · refine v_null (pc := 55) dX3_named_55 ?_
        refine v_ret_null (pc := 56) dX3_named_56 rfl ?_
        exact ⟨rfl, Or.inl ⟨by rw [← hf, show u = w 7 by omega], rfl⟩⟩
      · have hog := hR.uOg u ⟨(by first | omega | (simp (disch := omega) only [upi_n]; omega)), (by first | omega | (simp (disch := omega) only [upi_n]; omega))⟩
        refine v_ald0 (pc := 15) dX3_named_15 ?_
        refine v_getf KX3 9 (pc := 16) dX3_named_16 (lw_all_tbl q614) (Or.inl rfl) (Nat.le_of_ble_eq_true rfl) (sx_obj hS) rfl ?_
        refine v_ild2 (pc := 19) dX3_named_19 ?_
        refine v_cw0 (pc := 20) (v_runF1 okJ2_get rfl (sp_uget hS (k := u) ⟨(by first | omega | (simp (disch := omega) only [upi_n]; omega)), (by first | omega | (simp (disch := omega) only [upi_n]; omega))⟩) dX3_named_20 (lw_all_tbl q825) q782 q781 rfl (lw_all_tbl q783) (lw_all_tbl q785) q786 q784 q773 ⟨⟨by decide, by decide⟩, by decide +kernel⟩ rfl (sx_units hS) (Nat.le_of_ble_eq_true rfl) ⟨Nat.zero_le _, Nat.zero_le _⟩ (Nat.le_of_ble_eq_true rfl)) ?_
        refine v_castS (pc := 25) dX3_named_25 (lw_all_tbl q826) (sx_unit hS (u := u) ⟨(by first | omega | (simp (disch := omega) only [upi_n]; omega)), (by first | omega | (simp (disch := omega) only [upi_n]; omega))⟩) rfl ?_
        refine v_getfN KX9 0 (pc := 28) dX3_named_28 q877 (Or.inl rfl) (Nat.le_of_ble_eq_true rfl) (sx_unit hS (u := u) ⟨(by first | omega | (simp (disch := omega) only [upi_n]; omega)), (by first | omega | (simp (disch := omega) only [upi_n]; omega))⟩) rfl ?_
        refine v_ild1 (pc := 31) dX3_named_31 ?_
        refine v_icmp_ne (pc := 32) (tgt := 49) dX3_named_32 rfl (by omega) (by omega) (fun c32 => ?_) (fun c32 => ?_)
        · refine v_iinc2 (pc := 49) dX3_named_49 rfl ?_
          refine v_goto (pc := 52) (tgt := 2) dX3_named_52 rfl ?_
          exact ih _ (by omega) _ rfl (by omega) (by rw [fst_s hu.1, if_neg (fun q => by omega)]; exact hf)
        · refine v_ald0 (pc := 35) dX3_named_35 ?_
          refine v_getf KX3 9 (pc := 36) dX3_named_36 (lw_all_tbl q614) (Or.inl rfl) (Nat.le_of_ble_eq_true rfl) (sx_obj hS) rfl ?_
          refine v_ild2 (pc := 39) dX3_named_39 ?_
          refine v_cw0 (pc := 40) (v_runF1 okJ2_get rfl (sp_uget hS (k := u) ⟨(by first | omega | (simp (disch := omega) only [upi_n]; omega)), (by first | omega | (simp (disch := omega) only [upi_n]; omega))⟩) dX3_named_40 (lw_all_tbl q825) q782 q781 rfl (lw_all_tbl q783) (lw_all_tbl q785) q786 q784 q773 ⟨⟨by decide, by decide⟩, by decide +kernel⟩ rfl (sx_units hS) (Nat.le_of_ble_eq_true rfl) ⟨Nat.zero_le _, Nat.zero_le _⟩ (Nat.le_of_ble_eq_true rfl)) ?_
          refine v_castS (pc := 45) dX3_named_45 (lw_all_tbl q826) (sx_unit hS (u := u) ⟨(by first | omega | (simp (disch := omega) only [upi_n]; omega)), (by first | omega | (simp (disch := omega) only [upi_n]; omega))⟩) rfl ?_
          refine v_ret_r (pc := 48) dX3_named_48 rfl ?_
          exact ⟨rfl, Or.inr (by rw [fst_hit hf (by omega) (by omega)]; exact ⟨by omega, by omega, rfl⟩)⟩
  refine v_iconst (pc := 0) dX3_named_0 ?_
  refine v_ist2 (pc := 1) dX3_named_1 rfl ?_
  exact L2 _ _ rfl (by omega) rfl
theorem sp_X3_lay {Γ : Cx} {t : Nat} {α : Int → Nat} {h0 h : AH} {w x : Int → Int} {c : Int}  (hS : SX Γ t α h0 h w x) (hR : ROK w c) : Sp Γ yX3_lay mX3_lay 1 0 0 [.ref (α 0)] h (Qv (fun h9 => ∃ x9, (∀ j, ¬ (100 ≤ j ∧ j < 132) → x9 j = x j) ∧ Lay w w x9 ∧ SX Γ t α h0 h9 w x9)) NoX := by
  refine sp_of okX3_lay (cat_all rfl) (Nat.le_of_ble_eq_true rfl) rfl ?_
  have hs0 := hR.s0
  have L2 : ∀ (n9 : Nat) (h1 : AH) (x1 : Int → Int) (z : Int), (w 0 - z).toNat = n9 → (SX Γ t α h0 h1 w x1) → (0 ≤ z ∧ z ≤ w 0) → (∀ j, ¬ (100 ≤ j ∧ j < 132) → x1 j = x j) → (∀ k, 0 ≤ k ∧ k < z → x1 (100 + k) = w (1706 + 13 * k + 0) ∧ x1 (120 + k) = w (1706 + 13 * k + 1)) → V Γ mX3_lay 1 0 0 (Qv (fun h9 => ∃ x9, (∀ j, ¬ (100 ≤ j ∧ j < 132) → x9 j = x j) ∧ Lay w w x9 ∧ SX Γ t α h0 h9 w x9)) (NoX) h1 0 0 2 [some (.ref (α 0)), some (vi z)] [] := by
    intro n9
    induction n9 using Nat.strongRecOn with
    | _ n9 ih =>
      intro h1 x1 z hn9 hS hz hk hy
      refine v_ild1 (pc := 2) dX3_lay_2 ?_
      refine v_ald0 (pc := 3) dX3_lay_3 ?_
      refine v_getf KX3 0 (pc := 4) dX3_lay_4 (lw_all_tbl q596) (Or.inl rfl) (Nat.le_of_ble_eq_true rfl) (sx_obj hS) rfl ?_
      refine v_iconst (pc := 7) dX3_lay_7 ?_
      refine v_ldS_set hS (pc := 8) dX3_lay_8 ⟨(by first | omega | (simp (disch := omega) only [upi_n]; omega)), (by first | omega | (simp (disch := omega) only [upi_n]; omega))⟩ ?_
      refine v_icmp_ge (pc := 9) (tgt := 48) dX3_lay_9 rfl (by omega) (by omega) (fun c9 => ?_) (fun c9 => ?_)
      · refine v_ret_v (pc := 48) dX3_lay_48 rfl ?_
        exact qv_ok ⟨x1, hk, ⟨rfl, rfl, fun k hk2 => hy k (by omega)⟩, hS⟩
      · refine v_ald0 (pc := 12) dX3_lay_12 ?_
        refine v_getf KX3 20 (pc := 13) dX3_lay_13 (lw_all_tbl q630) (Or.inl rfl) (Nat.le_of_ble_eq_true rfl) (sx_obj hS) rfl ?_
        refine v_ild1 (pc := 16) dX3_lay_16 ?_
        refine v_ald0 (pc := 17) dX3_lay_17 ?_
        refine v_getf KX3 10 (pc := 18) dX3_lay_18 (lw_all_tbl q616) (Or.inl rfl) (Nat.le_of_ble_eq_true rfl) (sx_obj hS) rfl ?_
        refine v_ild1 (pc := 21) dX3_lay_21 ?_
        refine v_ldS_zones hS (z := z) (pc := 22) dX3_lay_22 ⟨(by first | omega | (simp (disch := omega) only [upi_n]; omega)), (by first | omega | (simp (disch := omega) only [upi_n]; omega))⟩ ?_
        refine v_getfN KX4 0 (pc := 23) dX3_lay_23 q575 (Or.inl rfl) (Nat.le_of_ble_eq_true rfl) (sx_zone hS (z := z) ⟨(by first | omega | (simp (disch := omega) only [upi_n]; omega)), (by first | omega | (simp (disch := omega) only [upi_n]; omega))⟩) rfl ?_
        refine v_stS_windows hS (pc := 26) dX3_lay_26 ⟨(by first | omega | (simp (disch := omega) only [upi_n]; omega)), (by first | omega | (simp (disch := omega) only [upi_n]; omega))⟩ (fun h hS => ?_)
        refine v_ald0 (pc := 27) dX3_lay_27 ?_
        refine v_getf KX3 21 (pc := 28) dX3_lay_28 (lw_all_tbl q631) (Or.inl rfl) (Nat.le_of_ble_eq_true rfl) (sx_obj hS) rfl ?_
        refine v_ild1 (pc := 31) dX3_lay_31 ?_
        refine v_ald0 (pc := 32) dX3_lay_32 ?_
        refine v_getf KX3 10 (pc := 33) dX3_lay_33 (lw_all_tbl q616) (Or.inl rfl) (Nat.le_of_ble_eq_true rfl) (sx_obj hS) rfl ?_
        refine v_ild1 (pc := 36) dX3_lay_36 ?_
        refine v_ldS_zones hS (z := z) (pc := 37) dX3_lay_37 ⟨(by first | omega | (simp (disch := omega) only [upi_n]; omega)), (by first | omega | (simp (disch := omega) only [upi_n]; omega))⟩ ?_
        refine v_getfN KX4 1 (pc := 38) dX3_lay_38 q578 (Or.inl rfl) (Nat.le_of_ble_eq_true rfl) (sx_zone hS (z := z) ⟨(by first | omega | (simp (disch := omega) only [upi_n]; omega)), (by first | omega | (simp (disch := omega) only [upi_n]; omega))⟩) rfl ?_
        refine v_stS_fills hS (pc := 41) dX3_lay_41 ⟨(by first | omega | (simp (disch := omega) only [upi_n]; omega)), (by first | omega | (simp (disch := omega) only [upi_n]; omega))⟩ (fun h hS => ?_)
        refine v_iinc1 (pc := 42) dX3_lay_42 rfl ?_
        refine v_goto (pc := 45) (tgt := 2) dX3_lay_45 rfl ?_
        exact ih _ (by omega) _ _ _ rfl hS (by omega) (fun j hj => by rw [upi_n (by omega), upi_n (by omega)]; exact hk j hj) (fun k hk2 => by by_cases q : k = z; (subst q; rw [upi_n (by omega), upi_s, upi_s]; exact ⟨rfl, rfl⟩); (rw [upi_n (by omega), upi_n (by omega), upi_n (by omega), upi_n (by omega)]; exact hy k (by omega)))
  refine v_iconst (pc := 0) dX3_lay_0 ?_
  refine v_ist1 (pc := 1) dX3_lay_1 rfl ?_
  exact L2 _ _ _ _ rfl hS (by omega) (fun j _ => rfl) (fun k hk => absurd hk.1 (by omega))
theorem sp_X3_fill {Γ : Cx} {t : Nat} {α : Int → Nat} {h0 h : AH} {w x : Int → Int} {z win sz : Int} (hS : SX Γ t α h0 h w x) (hz : 0 ≤ z ∧ z < 12) (hw : -1 ≤ x (100 + z) ∧ x (100 + z) ≤ 20000000) : Sp Γ yX3_fill mX3_fill 1 0 0 [.ref (α 0), vi z, vi win, vi sz] h (Qv (fun h9 => SX Γ t α h0 h9 w (upi (upi x (100 + z) (if x (100 + z) = -1 then win else x (100 + z))) (120 + z) (x (120 + z) + sz)))) NoX := by
  refine sp_of okX3_fill (cat_all rfl) (Nat.le_of_ble_eq_true rfl) rfl ?_
  refine v_ald0 (pc := 0) dX3_fill_0 ?_
  refine v_getf KX3 20 (pc := 1) dX3_fill_1 (lw_all_tbl q630) (Or.inl rfl) (Nat.le_of_ble_eq_true rfl) (sx_obj hS) rfl ?_
  refine v_ild1 (pc := 4) dX3_fill_4 ?_
  refine v_ald0 (pc := 5) dX3_fill_5 ?_
  refine v_getf KX3 20 (pc := 6) dX3_fill_6 (lw_all_tbl q630) (Or.inl rfl) (Nat.le_of_ble_eq_true rfl) (sx_obj hS) rfl ?_
  refine v_ild1 (pc := 9) dX3_fill_9 ?_
  refine v_ldS_windows hS (pc := 10) dX3_fill_10 ⟨(by first | omega | (simp (disch := omega) only [upi_n]; omega)), (by first | omega | (simp (disch := omega) only [upi_n]; omega))⟩ ?_
  refine v_iconst (pc := 11) dX3_fill_11 ?_
  refine v_icmp_ne (pc := 12) (tgt := 19) dX3_fill_12 rfl (by omega) (by omega) (fun c12 => ?_) (fun c12 => ?_)
  · refine v_ald0 (pc := 19) dX3_fill_19 ?_
    refine v_getf KX3 20 (pc := 20) dX3_fill_20 (lw_all_tbl q630) (Or.inl rfl) (Nat.le_of_ble_eq_true rfl) (sx_obj hS) rfl ?_
    refine v_ild1 (pc := 23) dX3_fill_23 ?_
    refine v_ldS_windows hS (pc := 24) dX3_fill_24 ⟨(by first | omega | (simp (disch := omega) only [upi_n]; omega)), (by first | omega | (simp (disch := omega) only [upi_n]; omega))⟩ ?_
    refine v_stS_windows hS (pc := 25) dX3_fill_25 ⟨(by first | omega | (simp (disch := omega) only [upi_n]; omega)), (by first | omega | (simp (disch := omega) only [upi_n]; omega))⟩ (fun h hS => ?_)
    refine v_ald0 (pc := 26) dX3_fill_26 ?_
    refine v_getf KX3 21 (pc := 27) dX3_fill_27 (lw_all_tbl q631) (Or.inl rfl) (Nat.le_of_ble_eq_true rfl) (sx_obj hS) rfl ?_
    refine v_ild1 (pc := 30) dX3_fill_30 ?_
    refine v_dup2 (pc := 31) dX3_fill_31 rfl rfl ?_
    refine v_ldS_fills hS (pc := 32) dX3_fill_32 ⟨(by first | omega | (simp (disch := omega) only [upi_n]; omega)), (by first | omega | (simp (disch := omega) only [upi_n]; omega))⟩ ?_
    rw [upi_n (by omega)]
    refine v_ild3 (pc := 33) dX3_fill_33 ?_
    refine v_iadd (pc := 34) dX3_fill_34 ?_
    refine v_stS_fills hS (pc := 35) dX3_fill_35 ⟨(by first | omega | (simp (disch := omega) only [upi_n]; omega)), (by first | omega | (simp (disch := omega) only [upi_n]; omega))⟩ (fun h hS => ?_)
    refine v_ret_v (pc := 36) dX3_fill_36 rfl ?_
    exact qv_ok (by first | (rw [if_pos (by omega)]; exact hS) | (rw [if_neg (by omega)]; exact hS))
  · refine v_ild2 (pc := 15) dX3_fill_15 ?_
    refine v_goto (pc := 16) (tgt := 25) dX3_fill_16 rfl ?_
    refine v_stS_windows hS (pc := 25) dX3_fill_25 ⟨(by first | omega | (simp (disch := omega) only [upi_n]; omega)), (by first | omega | (simp (disch := omega) only [upi_n]; omega))⟩ (fun h hS => ?_)
    refine v_ald0 (pc := 26) dX3_fill_26 ?_
    refine v_getf KX3 21 (pc := 27) dX3_fill_27 (lw_all_tbl q631) (Or.inl rfl) (Nat.le_of_ble_eq_true rfl) (sx_obj hS) rfl ?_
    refine v_ild1 (pc := 30) dX3_fill_30 ?_
    refine v_dup2 (pc := 31) dX3_fill_31 rfl rfl ?_
    refine v_ldS_fills hS (pc := 32) dX3_fill_32 ⟨(by first | omega | (simp (disch := omega) only [upi_n]; omega)), (by first | omega | (simp (disch := omega) only [upi_n]; omega))⟩ ?_
    rw [upi_n (by omega)]
    refine v_ild3 (pc := 33) dX3_fill_33 ?_
    refine v_iadd (pc := 34) dX3_fill_34 ?_
    refine v_stS_fills hS (pc := 35) dX3_fill_35 ⟨(by first | omega | (simp (disch := omega) only [upi_n]; omega)), (by first | omega | (simp (disch := omega) only [upi_n]; omega))⟩ (fun h hS => ?_)
    refine v_ret_v (pc := 36) dX3_fill_36 rfl ?_
    exact qv_ok (by first | (rw [if_pos (by omega)]; exact hS) | (rw [if_neg (by omega)]; exact hS))
