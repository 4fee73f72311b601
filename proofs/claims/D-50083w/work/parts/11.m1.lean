/-! FlashZonesModel: walks, 1 (printed by gen) -/
set_option maxRecDepth 100000
theorem sp_X5_zoneAt {Γ : Cx} {h : AH} {z : Int}  : Sp Γ yX5_zoneAt mX5_zoneAt 1 0 0 [vi z] h (Qe (1706 + 13 * z) h) NoX := by
  refine sp_of okX5_zoneAt (cat_all rfl) (Nat.le_of_ble_eq_true rfl) rfl ?_
  refine v_sipush (pc := 0) dX5_zoneAt_0 ⟨by decide, by decide⟩ ?_
  refine v_bipush (pc := 3) dX5_zoneAt_3 ⟨by decide, by decide⟩ ?_
  refine v_ild0 (pc := 5) dX5_zoneAt_5 ?_
  refine v_imul (pc := 6) dX5_zoneAt_6 ?_
  refine v_iadd (pc := 7) dX5_zoneAt_7 ?_
  refine v_ret_n (pc := 8) dX5_zoneAt_8 rfl ?_
  exact qe_ok (by first | rfl | omega)
theorem sp_X5_unitAt {Γ : Cx} {h : AH} {u : Int}  : Sp Γ yX5_unitAt mX5_unitAt 1 0 0 [vi u] h (Qe (23 + 17 * u) h) NoX := by
  refine sp_of okX5_unitAt (cat_all rfl) (Nat.le_of_ble_eq_true rfl) rfl ?_
  refine v_bipush (pc := 0) dX5_unitAt_0 ⟨by decide, by decide⟩ ?_
  refine v_bipush (pc := 2) dX5_unitAt_2 ⟨by decide, by decide⟩ ?_
  refine v_ild0 (pc := 4) dX5_unitAt_4 ?_
  refine v_imul (pc := 5) dX5_unitAt_5 ?_
  refine v_iadd (pc := 6) dX5_unitAt_6 ?_
  refine v_ret_n (pc := 7) dX5_unitAt_7 rfl ?_
  exact qe_ok (by first | rfl | omega)
theorem sp_X5_in {Γ : Cx} {h : AH} {v low high : Int} (hr_v : -2147483648 ≤ v ∧ v ≤ 2147483647) (hr_low : -2147483648 ≤ low ∧ low ≤ 2147483647) (hr_high : -2147483648 ≤ high ∧ high ≤ 2147483647) : Sp Γ yX5_in mX5_in 1 0 0 [vi v, vi low, vi high] h (Qb (low ≤ v ∧ v ≤ high) h) NoX := by
  refine sp_of okX5_in (cat_all rfl) (Nat.le_of_ble_eq_true rfl) rfl ?_
  refine v_ild0 (pc := 0) dX5_in_0 ?_
  refine v_ild1 (pc := 1) dX5_in_1 ?_
  refine v_icmp_lt (pc := 2) (tgt := 14) dX5_in_2 rfl (by omega) (by omega) (fun c2 => ?_) (fun c2 => ?_)
  · refine v_iconst (pc := 14) dX5_in_14 ?_
    refine v_ret_z0 (pc := 15) dX5_in_15 rfl ?_
    exact qb_0 (by omega)
  · refine v_ild0 (pc := 5) dX5_in_5 ?_
    refine v_ild2 (pc := 6) dX5_in_6 ?_
    refine v_icmp_gt (pc := 7) (tgt := 14) dX5_in_7 rfl (by omega) (by omega) (fun c7 => ?_) (fun c7 => ?_)
    · refine v_iconst (pc := 14) dX5_in_14 ?_
      refine v_ret_z0 (pc := 15) dX5_in_15 rfl ?_
      exact qb_0 (by omega)
    · refine v_iconst (pc := 10) dX5_in_10 ?_
      refine v_goto (pc := 11) (tgt := 15) dX5_in_11 rfl ?_
      refine v_ret_z1 (pc := 15) dX5_in_15 rfl ?_
      exact qb_1 (by omega)
theorem sp_X5_ofUnit {Γ : Cx} {t : Nat} {α : Nat → Nat} {h0 h : AH} {thrown : Int} {now : Int → Int} {aside : Int → Int} {tried : Int → Int} {undos : Int → Int} {undoMany : Int} {saved : Int → Int} {isSaved : Int → Int} {accounts : Int → Int} {way : Int} {leftOut : Int} {here : Int → Int} {text : Int → Int} {length : Int} {atp : Int} {frm : Int} {token : Int} {number : Int} {error : Int} {errorAt : Int} {commands : Int} {command : Int → Int} {out : Int → Int} {outLong : Int} {u what : Int} (hM : MW t α h0 h thrown now aside tried undos undoMany saved isSaved accounts way leftOut here text length atp frm token number error errorAt commands command out outLong) (hu : 0 ≤ u ∧ u ≤ 98) (hw : 0 ≤ what ∧ what ≤ 16) : Sp Γ yX5_ofUnit mX5_ofUnit 2 0 0 [.ref (α 0), vi u, vi what] h (Qe (now (23 + 17 * u + what)) h) NoX := by
  refine sp_of okX5_ofUnit (cat_all rfl) (Nat.le_of_ble_eq_true rfl) rfl ?_
  refine v_ald0 (pc := 0) dX5_ofUnit_0 ?_
  refine v_getf KX5 1 (pc := 1) dX5_ofUnit_1 (lw_all_tbl q1995) (Or.inl rfl) (Nat.le_of_ble_eq_true rfl) (mw_obj hM) rfl ?_
  refine v_ild1 (pc := 4) dX5_ofUnit_4 ?_
  refine v_ce0 (pc := 5) (v_runS1 okX5_unitAt rfl (sp_X5_unitAt) dX5_ofUnit_5 (lw_all_tbl q2108) (lw_all_tbl q2109) (Nat.le_of_ble_eq_true rfl) ⟨Nat.zero_le _, Nat.zero_le _⟩ (Nat.le_of_ble_eq_true rfl)) ?_
  refine v_ild2 (pc := 8) dX5_ofUnit_8 ?_
  refine v_iadd (pc := 9) dX5_ofUnit_9 ?_
  refine v_ldM_now hM (pc := 10) dX5_ofUnit_10 (by omega) ?_
  refine v_ret_n (pc := 11) dX5_ofUnit_11 rfl ?_
  exact qe_ok (by first | rfl | omega)
theorem sp_X5_windowOf {Γ : Cx} {t : Nat} {α : Nat → Nat} {h0 h : AH} {thrown : Int} {now : Int → Int} {aside : Int → Int} {tried : Int → Int} {undos : Int → Int} {undoMany : Int} {saved : Int → Int} {isSaved : Int → Int} {accounts : Int → Int} {way : Int} {leftOut : Int} {here : Int → Int} {text : Int → Int} {length : Int} {atp : Int} {frm : Int} {token : Int} {number : Int} {error : Int} {errorAt : Int} {commands : Int} {command : Int → Int} {out : Int → Int} {outLong : Int} {z : Int} (hM : MW t α h0 h thrown now aside tried undos undoMany saved isSaved accounts way leftOut here text length atp frm token number error errorAt commands command out outLong) (hz : 0 ≤ z ∧ z ≤ 11) : Sp Γ yX5_windowOf mX5_windowOf 2 0 0 [.ref (α 0), vi z] h (Qe (now (1706 + 13 * z + 0)) h) NoX := by
  refine sp_of okX5_windowOf (cat_all rfl) (Nat.le_of_ble_eq_true rfl) rfl ?_
  refine v_ald0 (pc := 0) dX5_windowOf_0 ?_
  refine v_getf KX5 1 (pc := 1) dX5_windowOf_1 (lw_all_tbl q1995) (Or.inl rfl) (Nat.le_of_ble_eq_true rfl) (mw_obj hM) rfl ?_
  refine v_ild1 (pc := 4) dX5_windowOf_4 ?_
  refine v_ce0 (pc := 5) (v_runS1 okX5_zoneAt rfl (sp_X5_zoneAt) dX5_windowOf_5 (lw_all_tbl q1991) (lw_all_tbl q1992) (Nat.le_of_ble_eq_true rfl) ⟨Nat.zero_le _, Nat.zero_le _⟩ (Nat.le_of_ble_eq_true rfl)) ?_
  refine v_iconst (pc := 8) dX5_windowOf_8 ?_
  refine v_iadd (pc := 9) dX5_windowOf_9 ?_
  refine v_ldM_now hM (pc := 10) dX5_windowOf_10 (by omega) ?_
  refine v_ret_n (pc := 11) dX5_windowOf_11 rfl ?_
  exact qe_ok (by first | rfl | omega)
theorem sp_X5_isFree {Γ : Cx} {t : Nat} {α : Nat → Nat} {h0 h : AH} {thrown : Int} {now : Int → Int} {aside : Int → Int} {tried : Int → Int} {undos : Int → Int} {undoMany : Int} {saved : Int → Int} {isSaved : Int → Int} {accounts : Int → Int} {way : Int} {leftOut : Int} {here : Int → Int} {text : Int → Int} {length : Int} {atp : Int} {frm : Int} {token : Int} {number : Int} {error : Int} {errorAt : Int} {commands : Int} {command : Int → Int} {out : Int → Int} {outLong : Int} {z : Int} (hM : MW t α h0 h thrown now aside tried undos undoMany saved isSaved accounts way leftOut here text length atp frm token number error errorAt commands command out outLong) (hz : 0 ≤ z ∧ z ≤ 11) (hv : -2147483648 ≤ now (1706 + 13 * z + 0) ∧ now (1706 + 13 * z + 0) ≤ 2147483647) : Sp Γ yX5_isFree mX5_isFree 3 0 0 [.ref (α 0), vi z] h (Qb (now (1706 + 13 * z + 0) = -1) h) NoX := by
  refine sp_of okX5_isFree (cat_all rfl) (Nat.le_of_ble_eq_true rfl) rfl ?_
  refine v_ald0 (pc := 0) dX5_isFree_0 ?_
  refine v_ild1 (pc := 1) dX5_isFree_1 ?_
  refine v_ce0 (pc := 2) (v_runV1 okX5_windowOf rfl (sp_X5_windowOf hM (by omega)) dX5_isFree_2 (lw_all_tbl q2119) (lw_all_tbl q2121) (lw_all_tbl qs54) rfl (mw_obj hM) (Nat.le_of_ble_eq_true rfl) ⟨Nat.zero_le _, Nat.zero_le _⟩ (Nat.le_of_ble_eq_true rfl)) ?_
  refine v_iconst (pc := 5) dX5_isFree_5 ?_
  refine v_icmp_ne (pc := 6) (tgt := 13) dX5_isFree_6 rfl (by omega) (by omega) (fun c6 => ?_) (fun c6 => ?_)
  · refine v_iconst (pc := 13) dX5_isFree_13 ?_
    refine v_ret_z0 (pc := 14) dX5_isFree_14 rfl ?_
    exact qb_0 (by omega)
  · refine v_iconst (pc := 9) dX5_isFree_9 ?_
    refine v_goto (pc := 10) (tgt := 14) dX5_isFree_10 rfl ?_
    refine v_ret_z1 (pc := 14) dX5_isFree_14 rfl ?_
    exact qb_1 (by omega)
theorem sp_X5_lives {Γ : Cx} {t : Nat} {α : Nat → Nat} {h0 h : AH} {thrown : Int} {now : Int → Int} {aside : Int → Int} {tried : Int → Int} {undos : Int → Int} {undoMany : Int} {saved : Int → Int} {isSaved : Int → Int} {accounts : Int → Int} {way : Int} {leftOut : Int} {here : Int → Int} {text : Int → Int} {length : Int} {atp : Int} {frm : Int} {token : Int} {number : Int} {error : Int} {errorAt : Int} {commands : Int} {command : Int → Int} {out : Int → Int} {outLong : Int} {u : Int} (hM : MW t α h0 h thrown now aside tried undos undoMany saved isSaved accounts way leftOut here text length atp frm token number error errorAt commands command out outLong) (hu : 0 ≤ u ∧ u ≤ 98) (hv : -2147483648 ≤ now (23 + 17 * u + 4) ∧ now (23 + 17 * u + 4) ≤ 2147483647) : Sp Γ yX5_lives mX5_lives 3 0 0 [.ref (α 0), vi u] h (Qb (now (23 + 17 * u + 4) = 1) h) NoX := by
  refine sp_of okX5_lives (cat_all rfl) (Nat.le_of_ble_eq_true rfl) rfl ?_
  refine v_ald0 (pc := 0) dX5_lives_0 ?_
  refine v_ild1 (pc := 1) dX5_lives_1 ?_
  refine v_iconst (pc := 2) dX5_lives_2 ?_
  refine v_ce0 (pc := 3) (v_runV2 okX5_ofUnit rfl (sp_X5_ofUnit hM (by omega) (by omega)) dX5_lives_3 (lw_all_tbl q2104) (lw_all_tbl q2106) (lw_all_tbl qs51) rfl (mw_obj hM) (Nat.le_of_ble_eq_true rfl) ⟨Nat.zero_le _, Nat.zero_le _⟩ (Nat.le_of_ble_eq_true rfl)) ?_
  refine v_iconst (pc := 6) dX5_lives_6 ?_
  refine v_icmp_ne (pc := 7) (tgt := 14) dX5_lives_7 rfl (by omega) (by omega) (fun c7 => ?_) (fun c7 => ?_)
  · refine v_iconst (pc := 14) dX5_lives_14 ?_
    refine v_ret_z0 (pc := 15) dX5_lives_15 rfl ?_
    exact qb_0 (by omega)
  · refine v_iconst (pc := 10) dX5_lives_10 ?_
    refine v_goto (pc := 11) (tgt := 15) dX5_lives_11 rfl ?_
    refine v_ret_z1 (pc := 15) dX5_lives_15 rfl ?_
    exact qb_1 (by omega)
theorem sp_X5_livingIn {Γ : Cx} {t : Nat} {α : Nat → Nat} {h0 h : AH} {thrown : Int} {now : Int → Int} {aside : Int → Int} {tried : Int → Int} {undos : Int → Int} {undoMany : Int} {saved : Int → Int} {isSaved : Int → Int} {accounts : Int → Int} {way : Int} {leftOut : Int} {here : Int → Int} {text : Int → Int} {length : Int} {atp : Int} {frm : Int} {token : Int} {number : Int} {error : Int} {errorAt : Int} {commands : Int} {command : Int → Int} {out : Int → Int} {outLong : Int} {c : Int} {z : Int} (hM : MW t α h0 h thrown now aside tried undos undoMany saved isSaved accounts way leftOut here text length atp frm token number error errorAt commands command out outLong) (hR : ROK now c) (hz : -2147483648 ≤ z ∧ z ≤ 2147483647) : Sp Γ yX5_livingIn mX5_livingIn 4 0 0 [.ref (α 0), vi z] h (Qe (mLivIn now z (now 7)) h) NoX := by
  refine sp_of okX5_livingIn (cat_all rfl) (Nat.le_of_ble_eq_true rfl) rfl ?_
  have h7 := hR.s7
  have h0 := hR.s0
  have L4 : ∀ (n9 : Nat) (n : Int) (u : Int), (now 7 - u).toNat = n9 → (0 ≤ u ∧ u ≤ now 7) → (n = mLivIn now z u) → V Γ mX5_livingIn 4 0 0 (Qe (mLivIn now z (now 7)) h) (NoX) h 0 0 4 [some (.ref (α 0)), some (vi z), some (vi n), some (vi u)] [] := by
    intro n9
    induction n9 using Nat.strongRecOn with
    | _ n9 ih =>
      intro n u hn9 hu hn
      refine v_ild3 (pc := 4) dX5_livingIn_4 ?_
      refine v_ald0 (pc := 5) dX5_livingIn_5 ?_
      refine v_getf KX5 1 (pc := 6) dX5_livingIn_6 (lw_all_tbl q1995) (Or.inl rfl) (Nat.le_of_ble_eq_true rfl) (mw_obj hM) rfl ?_
      refine v_bipush (pc := 9) dX5_livingIn_9 ⟨by decide, by decide⟩ ?_
      refine v_ldM_now hM (pc := 11) dX5_livingIn_11 (by omega) ?_
      refine v_icmp_ge (pc := 12) (tgt := 47) dX5_livingIn_12 rfl (by omega) (by omega) (fun c12 => ?_) (fun c12 => ?_)
      · refine v_ild2 (pc := 47) dX5_livingIn_47 ?_
        refine v_ret_n (pc := 48) dX5_livingIn_48 rfl ?_
        exact qe_ok (by rw [hn, show u = now 7 by omega])
      · have hl := hR.uLv u ⟨by omega, by omega⟩
        have hh := hR.uWh u ⟨by omega, by omega⟩
        refine v_ild2 (pc := 15) dX5_livingIn_15 ?_
        refine v_ald0 (pc := 16) dX5_livingIn_16 ?_
        refine v_ild3 (pc := 17) dX5_livingIn_17 ?_
        refine v_cb0 (pc := 18) (v_runV1 okX5_lives rfl (sp_X5_lives hM (by omega) (by omega)) dX5_livingIn_18 (lw_all_tbl q2100) (lw_all_tbl q2102) (lw_all_tbl qs50) rfl (mw_obj hM) (Nat.le_of_ble_eq_true rfl) ⟨Nat.zero_le _, Nat.zero_le _⟩ (Nat.le_of_ble_eq_true rfl)) (fun c18 => ?_) (fun c18 => ?_)
        · refine v_if_eq1 (pc := 21) (tgt := 38) dX5_livingIn_21 rfl ?_
          refine v_ald0 (pc := 24) dX5_livingIn_24 ?_
          refine v_ild3 (pc := 25) dX5_livingIn_25 ?_
          refine v_iconst (pc := 26) dX5_livingIn_26 ?_
          refine v_ce0 (pc := 27) (v_runV2 okX5_ofUnit rfl (sp_X5_ofUnit hM (by omega) (by omega)) dX5_livingIn_27 (lw_all_tbl q2104) (lw_all_tbl q2106) (lw_all_tbl qs51) rfl (mw_obj hM) (Nat.le_of_ble_eq_true rfl) ⟨Nat.zero_le _, Nat.zero_le _⟩ (Nat.le_of_ble_eq_true rfl)) ?_
          refine v_ild1 (pc := 30) dX5_livingIn_30 ?_
          refine v_icmp_ne (pc := 31) (tgt := 38) dX5_livingIn_31 rfl (by omega) (by omega) (fun c31 => ?_) (fun c31 => ?_)
          · refine v_iconst (pc := 38) dX5_livingIn_38 ?_
            refine v_iadd (pc := 39) dX5_livingIn_39 ?_
            refine v_ist2 (pc := 40) dX5_livingIn_40 rfl ?_
            refine v_iinc3 (pc := 41) dX5_livingIn_41 rfl ?_
            refine v_goto (pc := 44) (tgt := 4) dX5_livingIn_44 rfl ?_
            exact ih _ (by omega) _ _ rfl (by omega) (by rw [mLivIn_s (by omega), ← hn]; split <;> omega)
          · refine v_iconst (pc := 34) dX5_livingIn_34 ?_
            refine v_goto (pc := 35) (tgt := 39) dX5_livingIn_35 rfl ?_
            refine v_iadd (pc := 39) dX5_livingIn_39 ?_
            refine v_ist2 (pc := 40) dX5_livingIn_40 rfl ?_
            refine v_iinc3 (pc := 41) dX5_livingIn_41 rfl ?_
            refine v_goto (pc := 44) (tgt := 4) dX5_livingIn_44 rfl ?_
            exact ih _ (by omega) _ _ rfl (by omega) (by rw [mLivIn_s (by omega), ← hn]; split <;> omega)
        · refine v_if_eq0 (pc := 21) (tgt := 38) dX5_livingIn_21 rfl ?_
          refine v_iconst (pc := 38) dX5_livingIn_38 ?_
          refine v_iadd (pc := 39) dX5_livingIn_39 ?_
          refine v_ist2 (pc := 40) dX5_livingIn_40 rfl ?_
          refine v_iinc3 (pc := 41) dX5_livingIn_41 rfl ?_
          refine v_goto (pc := 44) (tgt := 4) dX5_livingIn_44 rfl ?_
          exact ih _ (by omega) _ _ rfl (by omega) (by rw [mLivIn_s (by omega), ← hn]; split <;> omega)
  refine v_iconst (pc := 0) dX5_livingIn_0 ?_
  refine v_ist2 (pc := 1) dX5_livingIn_1 rfl ?_
  refine v_iconst (pc := 2) dX5_livingIn_2 ?_
  refine v_ist3 (pc := 3) dX5_livingIn_3 rfl ?_
  exact L4 _ _ _ rfl (by omega) rfl
theorem sp_X5_bounded {Γ : Cx} {h : AH} {l : Int} (hr_l : -2147483648 ≤ l ∧ l ≤ 2147483647) : Sp Γ yX5_bounded mX5_bounded 1 0 0 [vi l] h (Qe (mBounded l) h) NoX := by
  refine sp_of okX5_bounded (cat_all rfl) (Nat.le_of_ble_eq_true rfl) rfl ?_
  refine v_ild0 (pc := 0) dX5_bounded_0 ?_
  refine v_iconst (pc := 1) dX5_bounded_1 ?_
  refine v_icmp_ge (pc := 2) (tgt := 9) dX5_bounded_2 rfl (by omega) (by omega) (fun c2 => ?_) (fun c2 => ?_)
  · refine v_ild0 (pc := 9) dX5_bounded_9 ?_
    refine v_bipush (pc := 10) dX5_bounded_10 ⟨by decide, by decide⟩ ?_
    refine v_icmp_le (pc := 12) (tgt := 20) dX5_bounded_12 rfl (by omega) (by omega) (fun c12 => ?_) (fun c12 => ?_)
    · refine v_ild0 (pc := 20) dX5_bounded_20 ?_
      refine v_ret_n (pc := 21) dX5_bounded_21 rfl ?_
      exact qe_ok (by unfold mBounded; split <;> first | omega | (split <;> omega))
    · refine v_bipush (pc := 15) dX5_bounded_15 ⟨by decide, by decide⟩ ?_
      refine v_goto (pc := 17) (tgt := 21) dX5_bounded_17 rfl ?_
      refine v_ret_n (pc := 21) dX5_bounded_21 rfl ?_
      exact qe_ok (by unfold mBounded; split <;> first | omega | (split <;> omega))
  · refine v_iconst (pc := 5) dX5_bounded_5 ?_
    refine v_goto (pc := 6) (tgt := 21) dX5_bounded_6 rfl ?_
    refine v_ret_n (pc := 21) dX5_bounded_21 rfl ?_
    exact qe_ok (by unfold mBounded; split <;> first | omega | (split <;> omega))
theorem sp_X5_counts {Γ : Cx} {t : Nat} {α : Nat → Nat} {h0 h : AH} {thrown : Int} {now : Int → Int} {aside : Int → Int} {tried : Int → Int} {undos : Int → Int} {undoMany : Int} {saved : Int → Int} {isSaved : Int → Int} {accounts : Int → Int} {way : Int} {leftOut : Int} {here : Int → Int} {text : Int → Int} {length : Int} {atp : Int} {frm : Int} {token : Int} {number : Int} {error : Int} {errorAt : Int} {commands : Int} {command : Int → Int} {out : Int → Int} {outLong : Int} {c : Int} {g u wr sz : Int} (hM : MW t α h0 h thrown now aside tried undos undoMany saved isSaved accounts way leftOut here text length atp frm token number error errorAt commands command out outLong) (hR : ROK now c) (hu : 0 ≤ u ∧ u < now 7) (hg : -2147483648 ≤ g ∧ g ≤ 2147483647) (hwr : -2147483648 ≤ wr ∧ wr ≤ 2147483647) (hsz : -2147483648 ≤ sz ∧ sz ≤ 2147483647) : Sp Γ yX5_counts mX5_counts 4 0 0 [.ref (α 0), vi g, vi u, vi wr, vi sz] h (Qb (mCounts now g u wr sz) h) NoX := by
  refine sp_of okX5_counts (cat_all rfl) (Nat.le_of_ble_eq_true rfl) rfl ?_
  have h7 := hR.s7
  have h0 := hR.uWr u hu
  have h1 := hR.uSz u hu
  have h4 := hR.uLv u hu
  refine v_ald0 (pc := 0) dX5_counts_0 ?_
  refine v_ild2 (pc := 1) dX5_counts_1 ?_
  refine v_iconst (pc := 2) dX5_counts_2 ?_
  refine v_ce0 (pc := 3) (v_runV2 okX5_ofUnit rfl (sp_X5_ofUnit hM (by omega) (by omega)) dX5_counts_3 (lw_all_tbl q2104) (lw_all_tbl q2106) (lw_all_tbl qs51) rfl (mw_obj hM) (Nat.le_of_ble_eq_true rfl) ⟨Nat.zero_le _, Nat.zero_le _⟩ (Nat.le_of_ble_eq_true rfl)) ?_
  refine v_ild3 (pc := 6) dX5_counts_6 ?_
  refine v_icmp_ne (pc := 7) (tgt := 14) dX5_counts_7 rfl (by omega) (by omega) (fun c7 => ?_) (fun c7 => ?_)
  · refine v_iconst (pc := 14) dX5_counts_14 ?_
    refine v_ist5 (pc := 15) dX5_counts_15 rfl ?_
    refine v_ald0 (pc := 17) dX5_counts_17 ?_
    refine v_ild2 (pc := 18) dX5_counts_18 ?_
    refine v_iconst (pc := 19) dX5_counts_19 ?_
    refine v_ce0 (pc := 20) (v_runV2 okX5_ofUnit rfl (sp_X5_ofUnit hM (by omega) (by omega)) dX5_counts_20 (lw_all_tbl q2104) (lw_all_tbl q2106) (lw_all_tbl qs51) rfl (mw_obj hM) (Nat.le_of_ble_eq_true rfl) ⟨Nat.zero_le _, Nat.zero_le _⟩ (Nat.le_of_ble_eq_true rfl)) ?_
    refine v_ild4 (pc := 23) dX5_counts_23 ?_
    refine v_icmp_ne (pc := 25) (tgt := 32) dX5_counts_25 rfl (by omega) (by omega) (fun c25 => ?_) (fun c25 => ?_)
    · refine v_iconst (pc := 32) dX5_counts_32 ?_
      refine v_ist6 (pc := 33) dX5_counts_33 rfl ?_
      refine v_ald0 (pc := 35) dX5_counts_35 ?_
      refine v_ild2 (pc := 36) dX5_counts_36 ?_
      refine v_cb0 (pc := 37) (v_runV1 okX5_lives rfl (sp_X5_lives hM (by omega) (by omega)) dX5_counts_37 (lw_all_tbl q2100) (lw_all_tbl q2102) (lw_all_tbl qs50) rfl (mw_obj hM) (Nat.le_of_ble_eq_true rfl) ⟨Nat.zero_le _, Nat.zero_le _⟩ (Nat.le_of_ble_eq_true rfl)) (fun c37 => ?_) (fun c37 => ?_)
      · refine v_if_ne1 (pc := 40) (tgt := 83) dX5_counts_40 rfl ?_
        refine v_iconst (pc := 83) dX5_counts_83 ?_
        refine v_ret_z0 (pc := 84) dX5_counts_84 rfl ?_
        first | exact qb_1 (by unfold mCounts; omega) | exact qb_0 (by unfold mCounts; omega)
      · refine v_if_ne0 (pc := 40) (tgt := 83) dX5_counts_40 rfl ?_
        refine v_ild1 (pc := 43) dX5_counts_43 ?_
        refine v_iconst (pc := 44) dX5_counts_44 ?_
        refine v_icmp_ne (pc := 45) (tgt := 56) dX5_counts_45 rfl (by omega) (by omega) (fun c45 => ?_) (fun c45 => ?_)
        · refine v_ild1 (pc := 56) dX5_counts_56 ?_
          refine v_iconst (pc := 57) dX5_counts_57 ?_
          refine v_icmp_ne (pc := 58) (tgt := 74) dX5_counts_58 rfl (by omega) (by omega) (fun c58 => ?_) (fun c58 => ?_)
          · refine v_ild5 (pc := 74) dX5_counts_74 ?_
            refine v_if_eq0 (pc := 76) (tgt := 83) dX5_counts_76 rfl ?_
            refine v_iconst (pc := 83) dX5_counts_83 ?_
            refine v_ret_z0 (pc := 84) dX5_counts_84 rfl ?_
            first | exact qb_1 (by unfold mCounts; omega) | exact qb_0 (by unfold mCounts; omega)
          · refine v_ild5 (pc := 61) dX5_counts_61 ?_
            refine v_if_eq0 (pc := 63) (tgt := 83) dX5_counts_63 rfl ?_
            refine v_iconst (pc := 83) dX5_counts_83 ?_
            refine v_ret_z0 (pc := 84) dX5_counts_84 rfl ?_
            first | exact qb_1 (by unfold mCounts; omega) | exact qb_0 (by unfold mCounts; omega)
        · refine v_ild6 (pc := 48) dX5_counts_48 ?_
          refine v_if_eq0 (pc := 50) (tgt := 83) dX5_counts_50 rfl ?_
          refine v_iconst (pc := 83) dX5_counts_83 ?_
          refine v_ret_z0 (pc := 84) dX5_counts_84 rfl ?_
          first | exact qb_1 (by unfold mCounts; omega) | exact qb_0 (by unfold mCounts; omega)
    · refine v_iconst (pc := 28) dX5_counts_28 ?_
      refine v_goto (pc := 29) (tgt := 33) dX5_counts_29 rfl ?_
      refine v_ist6 (pc := 33) dX5_counts_33 rfl ?_
      refine v_ald0 (pc := 35) dX5_counts_35 ?_
      refine v_ild2 (pc := 36) dX5_counts_36 ?_
      refine v_cb0 (pc := 37) (v_runV1 okX5_lives rfl (sp_X5_lives hM (by omega) (by omega)) dX5_counts_37 (lw_all_tbl q2100) (lw_all_tbl q2102) (lw_all_tbl qs50) rfl (mw_obj hM) (Nat.le_of_ble_eq_true rfl) ⟨Nat.zero_le _, Nat.zero_le _⟩ (Nat.le_of_ble_eq_true rfl)) (fun c37 => ?_) (fun c37 => ?_)
      · refine v_if_ne1 (pc := 40) (tgt := 83) dX5_counts_40 rfl ?_
        refine v_iconst (pc := 83) dX5_counts_83 ?_
        refine v_ret_z0 (pc := 84) dX5_counts_84 rfl ?_
        first | exact qb_1 (by unfold mCounts; omega) | exact qb_0 (by unfold mCounts; omega)
      · refine v_if_ne0 (pc := 40) (tgt := 83) dX5_counts_40 rfl ?_
        refine v_ild1 (pc := 43) dX5_counts_43 ?_
        refine v_iconst (pc := 44) dX5_counts_44 ?_
        refine v_icmp_ne (pc := 45) (tgt := 56) dX5_counts_45 rfl (by omega) (by omega) (fun c45 => ?_) (fun c45 => ?_)
        · refine v_ild1 (pc := 56) dX5_counts_56 ?_
          refine v_iconst (pc := 57) dX5_counts_57 ?_
          refine v_icmp_ne (pc := 58) (tgt := 74) dX5_counts_58 rfl (by omega) (by omega) (fun c58 => ?_) (fun c58 => ?_)
          · refine v_ild5 (pc := 74) dX5_counts_74 ?_
            refine v_if_eq0 (pc := 76) (tgt := 83) dX5_counts_76 rfl ?_
            refine v_iconst (pc := 83) dX5_counts_83 ?_
            refine v_ret_z0 (pc := 84) dX5_counts_84 rfl ?_
            first | exact qb_1 (by unfold mCounts; omega) | exact qb_0 (by unfold mCounts; omega)
          · refine v_ild5 (pc := 61) dX5_counts_61 ?_
            refine v_if_eq0 (pc := 63) (tgt := 83) dX5_counts_63 rfl ?_
            refine v_iconst (pc := 83) dX5_counts_83 ?_
            refine v_ret_z0 (pc := 84) dX5_counts_84 rfl ?_
            first | exact qb_1 (by unfold mCounts; omega) | exact qb_0 (by unfold mCounts; omega)
        · refine v_ild6 (pc := 48) dX5_counts_48 ?_
          refine v_if_eq1 (pc := 50) (tgt := 83) dX5_counts_50 rfl ?_
          refine v_goto (pc := 53) (tgt := 79) dX5_counts_53 rfl ?_
          refine v_iconst (pc := 79) dX5_counts_79 ?_
          refine v_goto (pc := 80) (tgt := 84) dX5_counts_80 rfl ?_
          refine v_ret_z1 (pc := 84) dX5_counts_84 rfl ?_
          first | exact qb_1 (by unfold mCounts; omega) | exact qb_0 (by unfold mCounts; omega)
  · refine v_iconst (pc := 10) dX5_counts_10 ?_
    refine v_goto (pc := 11) (tgt := 15) dX5_counts_11 rfl ?_
    refine v_ist5 (pc := 15) dX5_counts_15 rfl ?_
    refine v_ald0 (pc := 17) dX5_counts_17 ?_
    refine v_ild2 (pc := 18) dX5_counts_18 ?_
    refine v_iconst (pc := 19) dX5_counts_19 ?_
    refine v_ce0 (pc := 20) (v_runV2 okX5_ofUnit rfl (sp_X5_ofUnit hM (by omega) (by omega)) dX5_counts_20 (lw_all_tbl q2104) (lw_all_tbl q2106) (lw_all_tbl qs51) rfl (mw_obj hM) (Nat.le_of_ble_eq_true rfl) ⟨Nat.zero_le _, Nat.zero_le _⟩ (Nat.le_of_ble_eq_true rfl)) ?_
    refine v_ild4 (pc := 23) dX5_counts_23 ?_
    refine v_icmp_ne (pc := 25) (tgt := 32) dX5_counts_25 rfl (by omega) (by omega) (fun c25 => ?_) (fun c25 => ?_)
    · refine v_iconst (pc := 32) dX5_counts_32 ?_
      refine v_ist6 (pc := 33) dX5_counts_33 rfl ?_
      refine v_ald0 (pc := 35) dX5_counts_35 ?_
      refine v_ild2 (pc := 36) dX5_counts_36 ?_
      refine v_cb0 (pc := 37) (v_runV1 okX5_lives rfl (sp_X5_lives hM (by omega) (by omega)) dX5_counts_37 (lw_all_tbl q2100) (lw_all_tbl q2102) (lw_all_tbl qs50) rfl (mw_obj hM) (Nat.le_of_ble_eq_true rfl) ⟨Nat.zero_le _, Nat.zero_le _⟩ (Nat.le_of_ble_eq_true rfl)) (fun c37 => ?_) (fun c37 => ?_)
      · refine v_if_ne1 (pc := 40) (tgt := 83) dX5_counts_40 rfl ?_
        refine v_iconst (pc := 83) dX5_counts_83 ?_
        refine v_ret_z0 (pc := 84) dX5_counts_84 rfl ?_
        first | exact qb_1 (by unfold mCounts; omega) | exact qb_0 (by unfold mCounts; omega)
      · refine v_if_ne0 (pc := 40) (tgt := 83) dX5_counts_40 rfl ?_
        refine v_ild1 (pc := 43) dX5_counts_43 ?_
        refine v_iconst (pc := 44) dX5_counts_44 ?_
        refine v_icmp_ne (pc := 45) (tgt := 56) dX5_counts_45 rfl (by omega) (by omega) (fun c45 => ?_) (fun c45 => ?_)
        · refine v_ild1 (pc := 56) dX5_counts_56 ?_
          refine v_iconst (pc := 57) dX5_counts_57 ?_
          refine v_icmp_ne (pc := 58) (tgt := 74) dX5_counts_58 rfl (by omega) (by omega) (fun c58 => ?_) (fun c58 => ?_)
          · refine v_ild5 (pc := 74) dX5_counts_74 ?_
            refine v_if_eq1 (pc := 76) (tgt := 83) dX5_counts_76 rfl ?_
            refine v_iconst (pc := 79) dX5_counts_79 ?_
            refine v_goto (pc := 80) (tgt := 84) dX5_counts_80 rfl ?_
            refine v_ret_z1 (pc := 84) dX5_counts_84 rfl ?_
            first | exact qb_1 (by unfold mCounts; omega) | exact qb_0 (by unfold mCounts; omega)
          · refine v_ild5 (pc := 61) dX5_counts_61 ?_
            refine v_if_eq1 (pc := 63) (tgt := 83) dX5_counts_63 rfl ?_
            refine v_ild6 (pc := 66) dX5_counts_66 ?_
            refine v_if_eq0 (pc := 68) (tgt := 83) dX5_counts_68 rfl ?_
            refine v_iconst (pc := 83) dX5_counts_83 ?_
            refine v_ret_z0 (pc := 84) dX5_counts_84 rfl ?_
            first | exact qb_1 (by unfold mCounts; omega) | exact qb_0 (by unfold mCounts; omega)
        · refine v_ild6 (pc := 48) dX5_counts_48 ?_
          refine v_if_eq0 (pc := 50) (tgt := 83) dX5_counts_50 rfl ?_
          refine v_iconst (pc := 83) dX5_counts_83 ?_
          refine v_ret_z0 (pc := 84) dX5_counts_84 rfl ?_
          first | exact qb_1 (by unfold mCounts; omega) | exact qb_0 (by unfold mCounts; omega)
    · refine v_iconst (pc := 28) dX5_counts_28 ?_
      refine v_goto (pc := 29) (tgt := 33) dX5_counts_29 rfl ?_
      refine v_ist6 (pc := 33) dX5_counts_33 rfl ?_
      refine v_ald0 (pc := 35) dX5_counts_35 ?_
      refine v_ild2 (pc := 36) dX5_counts_36 ?_
      refine v_cb0 (pc := 37) (v_runV1 okX5_lives rfl (sp_X5_lives hM (by omega) (by omega)) dX5_counts_37 (lw_all_tbl q2100) (lw_all_tbl q2102) (lw_all_tbl qs50) rfl (mw_obj hM) (Nat.le_of_ble_eq_true rfl) ⟨Nat.zero_le _, Nat.zero_le _⟩ (Nat.le_of_ble_eq_true rfl)) (fun c37 => ?_) (fun c37 => ?_)
      · refine v_if_ne1 (pc := 40) (tgt := 83) dX5_counts_40 rfl ?_
        refine v_iconst (pc := 83) dX5_counts_83 ?_
        refine v_ret_z0 (pc := 84) dX5_counts_84 rfl ?_
        first | exact qb_1 (by unfold mCounts; omega) | exact qb_0 (by unfold mCounts; omega)
      · refine v_if_ne0 (pc := 40) (tgt := 83) dX5_counts_40 rfl ?_
        refine v_ild1 (pc := 43) dX5_counts_43 ?_
        refine v_iconst (pc := 44) dX5_counts_44 ?_
        refine v_icmp_ne (pc := 45) (tgt := 56) dX5_counts_45 rfl (by omega) (by omega) (fun c45 => ?_) (fun c45 => ?_)
        · refine v_ild1 (pc := 56) dX5_counts_56 ?_
          refine v_iconst (pc := 57) dX5_counts_57 ?_
          refine v_icmp_ne (pc := 58) (tgt := 74) dX5_counts_58 rfl (by omega) (by omega) (fun c58 => ?_) (fun c58 => ?_)
          · refine v_ild5 (pc := 74) dX5_counts_74 ?_
            refine v_if_eq1 (pc := 76) (tgt := 83) dX5_counts_76 rfl ?_
            refine v_iconst (pc := 79) dX5_counts_79 ?_
            refine v_goto (pc := 80) (tgt := 84) dX5_counts_80 rfl ?_
            refine v_ret_z1 (pc := 84) dX5_counts_84 rfl ?_
            first | exact qb_1 (by unfold mCounts; omega) | exact qb_0 (by unfold mCounts; omega)
          · refine v_ild5 (pc := 61) dX5_counts_61 ?_
            refine v_if_eq1 (pc := 63) (tgt := 83) dX5_counts_63 rfl ?_
            refine v_ild6 (pc := 66) dX5_counts_66 ?_
            refine v_if_eq1 (pc := 68) (tgt := 83) dX5_counts_68 rfl ?_
            refine v_goto (pc := 71) (tgt := 79) dX5_counts_71 rfl ?_
            refine v_iconst (pc := 79) dX5_counts_79 ?_
            refine v_goto (pc := 80) (tgt := 84) dX5_counts_80 rfl ?_
            refine v_ret_z1 (pc := 84) dX5_counts_84 rfl ?_
            first | exact qb_1 (by unfold mCounts; omega) | exact qb_0 (by unfold mCounts; omega)
        · refine v_ild6 (pc := 48) dX5_counts_48 ?_
          refine v_if_eq1 (pc := 50) (tgt := 83) dX5_counts_50 rfl ?_
          refine v_goto (pc := 53) (tgt := 79) dX5_counts_53 rfl ?_
          refine v_iconst (pc := 79) dX5_counts_79 ?_
          refine v_goto (pc := 80) (tgt := 84) dX5_counts_80 rfl ?_
          refine v_ret_z1 (pc := 84) dX5_counts_84 rfl ?_
          first | exact qb_1 (by unfold mCounts; omega) | exact qb_0 (by unfold mCounts; omega)
theorem sp_X5_tells {Γ : Cx} {t : Nat} {α : Nat → Nat} {h0 h : AH} {thrown : Int} {now : Int → Int} {aside : Int → Int} {tried : Int → Int} {undos : Int → Int} {undoMany : Int} {saved : Int → Int} {isSaved : Int → Int} {accounts : Int → Int} {way : Int} {leftOut : Int} {here : Int → Int} {text : Int → Int} {length : Int} {atp : Int} {frm : Int} {token : Int} {number : Int} {error : Int} {errorAt : Int} {commands : Int} {command : Int → Int} {out : Int → Int} {outLong : Int} {c : Int} {g wr sz : Int} (hM : MW t α h0 h thrown now aside tried undos undoMany saved isSaved accounts way leftOut here text length atp frm token number error errorAt commands command out outLong) (hR : ROK now c) (hg : -2147483648 ≤ g ∧ g ≤ 2147483647) (hwr : -2147483648 ≤ wr ∧ wr ≤ 2147483647) (hsz : -2147483648 ≤ sz ∧ sz ≤ 2147483647) : Sp Γ yX5_tells mX5_tells 5 0 0 [.ref (α 0), vi g, vi wr, vi sz] h (Qe (mTells now g wr sz) h) NoX := by
  refine sp_of okX5_tells (cat_all rfl) (Nat.le_of_ble_eq_true rfl) rfl ?_
  have h7 := hR.s7
  have h4 := hR.s4
  have hc := hR.c0
  have L15 : ∀ (n9 : Nat) (many : Int) (sum : Int) (most : Int) (late : Int) (u : Int), (now 7 - u).toNat = n9 → (0 ≤ u ∧ u ≤ now 7) → (g ≤ 0 → u = 0) → (0 ≤ many ∧ many ≤ u ∧ 0 ≤ sum ∧ sum ≤ 14000000 * u ∧ 0 ≤ most ∧ most ≤ 14000000 ∧ -1 ≤ late ∧ late < u ∧ (many = 0 ∨ 0 ≤ late)) → (many = tMany now g wr sz u) → (sum = tSum now g wr sz u) → (most = tMost now g wr sz u) → (late = tLate now g wr sz u) → V Γ mX5_tells 5 0 0 (Qe (mTells now g wr sz) h) (NoX) h 0 0 15 [some (.ref (α 0)), some (vi g), some (vi wr), some (vi sz), some (vi many), some (vi sum), some (vi most), some (vi late), some (vi u)] [] := by
    intro n9
    induction n9 using Nat.strongRecOn with
    | _ n9 ih =>
      intro many sum most late u hn9 hu hg0 hmr hma hsu hmo hla
      refine v_ild8 (pc := 15) dX5_tells_15 ?_
      refine v_ald0 (pc := 17) dX5_tells_17 ?_
      refine v_getf KX5 1 (pc := 18) dX5_tells_18 (lw_all_tbl q1995) (Or.inl rfl) (Nat.le_of_ble_eq_true rfl) (mw_obj hM) rfl ?_
      refine v_bipush (pc := 21) dX5_tells_21 ⟨by decide, by decide⟩ ?_
      refine v_ldM_now hM (pc := 23) dX5_tells_23 (by omega) ?_
      refine v_icmp_ge (pc := 24) (tgt := 130) dX5_tells_24 rfl (by omega) (by omega) (fun c24 => ?_) (fun c24 => ?_)
      · have hx : u = now 7 := by omega
        subst hx
        refine v_ild4 (pc := 130) dX5_tells_130 ?_
        refine v_if_ne (pc := 132) (tgt := 145) dX5_tells_132 rfl (by omega) (fun c132 => ?_) (fun c132 => ?_)
        · refine v_ild1 (pc := 145) dX5_tells_145 ?_
          refine v_iconst (pc := 146) dX5_tells_146 ?_
          refine v_icmp_ne (pc := 147) (tgt := 161) dX5_tells_147 rfl (by omega) (by omega) (fun c147 => ?_) (fun c147 => ?_)
          · refine v_ild1 (pc := 161) dX5_tells_161 ?_
            refine v_iconst (pc := 162) dX5_tells_162 ?_
            refine v_icmp_ne (pc := 163) (tgt := 171) dX5_tells_163 rfl (by omega) (by omega) (fun c163 => ?_) (fun c163 => ?_)
            · refine v_ild5 (pc := 171) dX5_tells_171 ?_
              refine v_ild4 (pc := 173) dX5_tells_173 ?_
              refine v_idiv (pc := 175) dX5_tells_175 (by omega) (by omega) (by omega) ?_
              have hq := tdiv_rng (a := sum) (b := many) (by omega) (by omega)
              refine v_ce0 (pc := 176) (v_runS1 okX5_bounded rfl (sp_X5_bounded (by omega)) dX5_tells_176 (lw_all_tbl q2185) (lw_all_tbl q2186) (Nat.le_of_ble_eq_true rfl) ⟨Nat.zero_le _, Nat.zero_le _⟩ (Nat.le_of_ble_eq_true rfl)) ?_
              refine v_ret_n (pc := 179) dX5_tells_179 rfl ?_
              first | exact absurd hm0 c132 | exact qe_ok (by rw [mTells, if_neg (by omega)]; first | rw [if_pos (by omega), ← hla] | rw [if_neg (by omega), if_pos (by omega), ← hmo] | rw [if_neg (by omega), if_neg (by omega), ← hsu, ← hma])
            · refine v_ild6 (pc := 166) dX5_tells_166 ?_
              refine v_goto (pc := 168) (tgt := 176) dX5_tells_168 rfl ?_
              have hq := tdiv_rng (a := sum) (b := many) (by omega) (by omega)
              refine v_ce0 (pc := 176) (v_runS1 okX5_bounded rfl (sp_X5_bounded (by omega)) dX5_tells_176 (lw_all_tbl q2185) (lw_all_tbl q2186) (Nat.le_of_ble_eq_true rfl) ⟨Nat.zero_le _, Nat.zero_le _⟩ (Nat.le_of_ble_eq_true rfl)) ?_
              refine v_ret_n (pc := 179) dX5_tells_179 rfl ?_
              first | exact absurd hm0 c132 | exact qe_ok (by rw [mTells, if_neg (by omega)]; first | rw [if_pos (by omega), ← hla] | rw [if_neg (by omega), if_pos (by omega), ← hmo] | rw [if_neg (by omega), if_neg (by omega), ← hsu, ← hma])
          · have hli := hR.uLi late ⟨by omega, by omega⟩
            refine v_ald0 (pc := 150) dX5_tells_150 ?_
            refine v_ild7 (pc := 151) dX5_tells_151 ?_
            refine v_bipush (pc := 153) dX5_tells_153 ⟨by decide, by decide⟩ ?_
            refine v_ce0 (pc := 155) (v_runV2 okX5_ofUnit rfl (sp_X5_ofUnit hM (by omega) (by omega)) dX5_tells_155 (lw_all_tbl q2104) (lw_all_tbl q2106) (lw_all_tbl qs51) rfl (mw_obj hM) (Nat.le_of_ble_eq_true rfl) ⟨Nat.zero_le _, Nat.zero_le _⟩ (Nat.le_of_ble_eq_true rfl)) ?_
            refine v_goto (pc := 158) (tgt := 176) dX5_tells_158 rfl ?_
            have hq := tdiv_rng (a := sum) (b := many) (by omega) (by omega)
            refine v_ce0 (pc := 176) (v_runS1 okX5_bounded rfl (sp_X5_bounded (by omega)) dX5_tells_176 (lw_all_tbl q2185) (lw_all_tbl q2186) (Nat.le_of_ble_eq_true rfl) ⟨Nat.zero_le _, Nat.zero_le _⟩ (Nat.le_of_ble_eq_true rfl)) ?_
            refine v_ret_n (pc := 179) dX5_tells_179 rfl ?_
            first | exact absurd hm0 c132 | exact qe_ok (by rw [mTells, if_neg (by omega)]; first | rw [if_pos (by omega), ← hla] | rw [if_neg (by omega), if_pos (by omega), ← hmo] | rw [if_neg (by omega), if_neg (by omega), ← hsu, ← hma])
        · refine v_ald0 (pc := 135) dX5_tells_135 ?_
          refine v_getf KX5 1 (pc := 136) dX5_tells_136 (lw_all_tbl q1995) (Or.inl rfl) (Nat.le_of_ble_eq_true rfl) (mw_obj hM) rfl ?_
          refine v_iconst (pc := 139) dX5_tells_139 ?_
          refine v_ldM_now hM (pc := 140) dX5_tells_140 (by omega) ?_
          refine v_ce0 (pc := 141) (v_runS1 okX5_bounded rfl (sp_X5_bounded (by omega)) dX5_tells_141 (lw_all_tbl q2185) (lw_all_tbl q2186) (Nat.le_of_ble_eq_true rfl) ⟨Nat.zero_le _, Nat.zero_le _⟩ (Nat.le_of_ble_eq_true rfl)) ?_
          refine v_ret_n (pc := 144) dX5_tells_144 rfl ?_
          exact qe_ok (by rw [mTells, if_pos (by omega)])
      · refine v_ild1 (pc := 27) dX5_tells_27 ?_
        refine v_if_le (pc := 28) (tgt := 130) dX5_tells_28 rfl (by omega) (fun c28 => ?_) (fun c28 => ?_)
        · have hx : u = 0 := by omega
          subst hx
          have hm0 : many = 0 := hma
          refine v_ild4 (pc := 130) dX5_tells_130 ?_
          refine v_if_ne (pc := 132) (tgt := 145) dX5_tells_132 rfl (by omega) (fun c132 => ?_) (fun c132 => ?_)
          · refine v_ild1 (pc := 145) dX5_tells_145 ?_
            refine v_iconst (pc := 146) dX5_tells_146 ?_
            refine v_icmp_ne (pc := 147) (tgt := 161) dX5_tells_147 rfl (by omega) (by omega) (fun c147 => ?_) (fun c147 => ?_)
            · refine v_ild1 (pc := 161) dX5_tells_161 ?_
              refine v_iconst (pc := 162) dX5_tells_162 ?_
              refine v_icmp_ne (pc := 163) (tgt := 171) dX5_tells_163 rfl (by omega) (by omega) (fun c163 => ?_) (fun c163 => ?_)
              · refine v_ild5 (pc := 171) dX5_tells_171 ?_
                refine v_ild4 (pc := 173) dX5_tells_173 ?_
                refine v_idiv (pc := 175) dX5_tells_175 (by omega) (by omega) (by omega) ?_
                have hq := tdiv_rng (a := sum) (b := many) (by omega) (by omega)
                refine v_ce0 (pc := 176) (v_runS1 okX5_bounded rfl (sp_X5_bounded (by omega)) dX5_tells_176 (lw_all_tbl q2185) (lw_all_tbl q2186) (Nat.le_of_ble_eq_true rfl) ⟨Nat.zero_le _, Nat.zero_le _⟩ (Nat.le_of_ble_eq_true rfl)) ?_
                refine v_ret_n (pc := 179) dX5_tells_179 rfl ?_
                first | exact absurd hm0 c132 | exact qe_ok (by rw [mTells, if_neg (by omega)]; first | rw [if_pos (by omega), ← hla] | rw [if_neg (by omega), if_pos (by omega), ← hmo] | rw [if_neg (by omega), if_neg (by omega), ← hsu, ← hma])
              · refine v_ild6 (pc := 166) dX5_tells_166 ?_
                refine v_goto (pc := 168) (tgt := 176) dX5_tells_168 rfl ?_
                have hq := tdiv_rng (a := sum) (b := many) (by omega) (by omega)
                refine v_ce0 (pc := 176) (v_runS1 okX5_bounded rfl (sp_X5_bounded (by omega)) dX5_tells_176 (lw_all_tbl q2185) (lw_all_tbl q2186) (Nat.le_of_ble_eq_true rfl) ⟨Nat.zero_le _, Nat.zero_le _⟩ (Nat.le_of_ble_eq_true rfl)) ?_
                refine v_ret_n (pc := 179) dX5_tells_179 rfl ?_
                first | exact absurd hm0 c132 | exact qe_ok (by rw [mTells, if_neg (by omega)]; first | rw [if_pos (by omega), ← hla] | rw [if_neg (by omega), if_pos (by omega), ← hmo] | rw [if_neg (by omega), if_neg (by omega), ← hsu, ← hma])
            · have hli := hR.uLi late ⟨by omega, by omega⟩
              refine v_ald0 (pc := 150) dX5_tells_150 ?_
              refine v_ild7 (pc := 151) dX5_tells_151 ?_
              refine v_bipush (pc := 153) dX5_tells_153 ⟨by decide, by decide⟩ ?_
              refine v_ce0 (pc := 155) (v_runV2 okX5_ofUnit rfl (sp_X5_ofUnit hM (by omega) (by omega)) dX5_tells_155 (lw_all_tbl q2104) (lw_all_tbl q2106) (lw_all_tbl qs51) rfl (mw_obj hM) (Nat.le_of_ble_eq_true rfl) ⟨Nat.zero_le _, Nat.zero_le _⟩ (Nat.le_of_ble_eq_true rfl)) ?_
              refine v_goto (pc := 158) (tgt := 176) dX5_tells_158 rfl ?_
              have hq := tdiv_rng (a := sum) (b := many) (by omega) (by omega)
              refine v_ce0 (pc := 176) (v_runS1 okX5_bounded rfl (sp_X5_bounded (by omega)) dX5_tells_176 (lw_all_tbl q2185) (lw_all_tbl q2186) (Nat.le_of_ble_eq_true rfl) ⟨Nat.zero_le _, Nat.zero_le _⟩ (Nat.le_of_ble_eq_true rfl)) ?_
              refine v_ret_n (pc := 179) dX5_tells_179 rfl ?_
              first | exact absurd hm0 c132 | exact qe_ok (by rw [mTells, if_neg (by omega)]; first | rw [if_pos (by omega), ← hla] | rw [if_neg (by omega), if_pos (by omega), ← hmo] | rw [if_neg (by omega), if_neg (by omega), ← hsu, ← hma])
          · refine v_ald0 (pc := 135) dX5_tells_135 ?_
            refine v_getf KX5 1 (pc := 136) dX5_tells_136 (lw_all_tbl q1995) (Or.inl rfl) (Nat.le_of_ble_eq_true rfl) (mw_obj hM) rfl ?_
            refine v_iconst (pc := 139) dX5_tells_139 ?_
            refine v_ldM_now hM (pc := 140) dX5_tells_140 (by omega) ?_
            refine v_ce0 (pc := 141) (v_runS1 okX5_bounded rfl (sp_X5_bounded (by omega)) dX5_tells_141 (lw_all_tbl q2185) (lw_all_tbl q2186) (Nat.le_of_ble_eq_true rfl) ⟨Nat.zero_le _, Nat.zero_le _⟩ (Nat.le_of_ble_eq_true rfl)) ?_
            refine v_ret_n (pc := 144) dX5_tells_144 rfl ?_
            exact qe_ok (by rw [mTells, if_pos (by omega)])
        · have hli := hR.uLi u ⟨by omega, by omega⟩
          have hor := hR.uOr u ⟨by omega, by omega⟩
          have hdd := hR.uDd u ⟨by omega, by omega⟩
          have hlv := hR.uLv u ⟨by omega, by omega⟩
          refine v_ald0 (pc := 31) dX5_tells_31 ?_
          refine v_ild1 (pc := 32) dX5_tells_32 ?_
          refine v_ild8 (pc := 33) dX5_tells_33 ?_
          refine v_ild2 (pc := 35) dX5_tells_35 ?_
          refine v_ild3 (pc := 36) dX5_tells_36 ?_
          refine v_cb0 (pc := 37) (v_runV4 okX5_counts rfl (sp_X5_counts hM (by omega) (by omega) (by omega) (by omega) (by omega)) dX5_tells_37 (lw_all_tbl q2181) (lw_all_tbl q2183) (lw_all_tbl qs64) rfl (mw_obj hM) (Nat.le_of_ble_eq_true rfl) ⟨Nat.zero_le _, Nat.zero_le _⟩ (Nat.le_of_ble_eq_true rfl)) (fun c37 => ?_) (fun c37 => ?_)
          · refine v_if_ne1 (pc := 40) (tgt := 46) dX5_tells_40 rfl ?_
            refine v_iinc4 (pc := 46) dX5_tells_46 rfl ?_
            refine v_ild5 (pc := 49) dX5_tells_49 ?_
            refine v_ald0 (pc := 51) dX5_tells_51 ?_
            refine v_ild8 (pc := 52) dX5_tells_52 ?_
            refine v_bipush (pc := 54) dX5_tells_54 ⟨by decide, by decide⟩ ?_
            refine v_ce0 (pc := 56) (v_runV2 okX5_ofUnit rfl (sp_X5_ofUnit hM (by omega) (by omega)) dX5_tells_56 (lw_all_tbl q2104) (lw_all_tbl q2106) (lw_all_tbl qs51) rfl (mw_obj hM) (Nat.le_of_ble_eq_true rfl) ⟨Nat.zero_le _, Nat.zero_le _⟩ (Nat.le_of_ble_eq_true rfl)) ?_
            refine v_iadd (pc := 59) dX5_tells_59 ?_
            refine v_ist5 (pc := 60) dX5_tells_60 rfl ?_
            refine v_ald0 (pc := 62) dX5_tells_62 ?_
            refine v_ild8 (pc := 63) dX5_tells_63 ?_
            refine v_bipush (pc := 65) dX5_tells_65 ⟨by decide, by decide⟩ ?_
            refine v_ce0 (pc := 67) (v_runV2 okX5_ofUnit rfl (sp_X5_ofUnit hM (by omega) (by omega)) dX5_tells_67 (lw_all_tbl q2104) (lw_all_tbl q2106) (lw_all_tbl qs51) rfl (mw_obj hM) (Nat.le_of_ble_eq_true rfl) ⟨Nat.zero_le _, Nat.zero_le _⟩ (Nat.le_of_ble_eq_true rfl)) ?_
            refine v_ild6 (pc := 70) dX5_tells_70 ?_
            refine v_icmp_le (pc := 72) (tgt := 86) dX5_tells_72 rfl (by omega) (by omega) (fun c72 => ?_) (fun c72 => ?_)
            · refine v_ild6 (pc := 86) dX5_tells_86 ?_
              refine v_ist6 (pc := 88) dX5_tells_88 rfl ?_
              refine v_ild7 (pc := 90) dX5_tells_90 ?_
              refine v_iconst (pc := 92) dX5_tells_92 ?_
              refine v_icmp_eq (pc := 93) (tgt := 115) dX5_tells_93 rfl (by omega) (by omega) (fun c93 => ?_) (fun c93 => ?_)
              · refine v_ild8 (pc := 115) dX5_tells_115 ?_
                refine v_goto (pc := 117) (tgt := 122) dX5_tells_117 rfl ?_
                refine v_ist7 (pc := 122) dX5_tells_122 rfl ?_
                refine v_iinc8 (pc := 124) dX5_tells_124 rfl ?_
                refine v_goto (pc := 127) (tgt := 15) dX5_tells_127 rfl ?_
                exact ih _ (by omega) _ _ _ _ _ rfl (by omega) (by omega) (by omega) (by rw [tMany_s (by omega), ← hma]; first | rw [if_pos c37] | rw [if_neg c37]) (by rw [tSum_s (by omega), ← hsu]; first | rw [if_pos c37] | rw [if_neg c37]) (by rw [tMost_s (by omega), ← hmo]; first | rw [if_neg c37] | (rw [if_pos c37]; split <;> omega)) (by rw [tLate_s (by omega), ← hla]; first | rw [if_neg c37] | (rw [if_pos c37]; split <;> omega))
              · have hoq := hR.uOr late ⟨by omega, by omega⟩
                refine v_ald0 (pc := 96) dX5_tells_96 ?_
                refine v_ild8 (pc := 97) dX5_tells_97 ?_
                refine v_bipush (pc := 99) dX5_tells_99 ⟨by decide, by decide⟩ ?_
                refine v_ce0 (pc := 101) (v_runV2 okX5_ofUnit rfl (sp_X5_ofUnit hM (by omega) (by omega)) dX5_tells_101 (lw_all_tbl q2104) (lw_all_tbl q2106) (lw_all_tbl qs51) rfl (mw_obj hM) (Nat.le_of_ble_eq_true rfl) ⟨Nat.zero_le _, Nat.zero_le _⟩ (Nat.le_of_ble_eq_true rfl)) ?_
                refine v_ald0 (pc := 104) dX5_tells_104 ?_
                refine v_ild7 (pc := 105) dX5_tells_105 ?_
                refine v_bipush (pc := 107) dX5_tells_107 ⟨by decide, by decide⟩ ?_
                refine v_ce0 (pc := 109) (v_runV2 okX5_ofUnit rfl (sp_X5_ofUnit hM (by omega) (by omega)) dX5_tells_109 (lw_all_tbl q2104) (lw_all_tbl q2106) (lw_all_tbl qs51) rfl (mw_obj hM) (Nat.le_of_ble_eq_true rfl) ⟨Nat.zero_le _, Nat.zero_le _⟩ (Nat.le_of_ble_eq_true rfl)) ?_
                refine v_icmp_le (pc := 112) (tgt := 120) dX5_tells_112 rfl (by omega) (by omega) (fun c112 => ?_) (fun c112 => ?_)
                · refine v_ild7 (pc := 120) dX5_tells_120 ?_
                  refine v_ist7 (pc := 122) dX5_tells_122 rfl ?_
                  refine v_iinc8 (pc := 124) dX5_tells_124 rfl ?_
                  refine v_goto (pc := 127) (tgt := 15) dX5_tells_127 rfl ?_
                  exact ih _ (by omega) _ _ _ _ _ rfl (by omega) (by omega) (by omega) (by rw [tMany_s (by omega), ← hma]; first | rw [if_pos c37] | rw [if_neg c37]) (by rw [tSum_s (by omega), ← hsu]; first | rw [if_pos c37] | rw [if_neg c37]) (by rw [tMost_s (by omega), ← hmo]; first | rw [if_neg c37] | (rw [if_pos c37]; split <;> omega)) (by rw [tLate_s (by omega), ← hla]; first | rw [if_neg c37] | (rw [if_pos c37]; split <;> omega))
                · refine v_ild8 (pc := 115) dX5_tells_115 ?_
                  refine v_goto (pc := 117) (tgt := 122) dX5_tells_117 rfl ?_
                  refine v_ist7 (pc := 122) dX5_tells_122 rfl ?_
                  refine v_iinc8 (pc := 124) dX5_tells_124 rfl ?_
                  refine v_goto (pc := 127) (tgt := 15) dX5_tells_127 rfl ?_
                  exact ih _ (by omega) _ _ _ _ _ rfl (by omega) (by omega) (by omega) (by rw [tMany_s (by omega), ← hma]; first | rw [if_pos c37] | rw [if_neg c37]) (by rw [tSum_s (by omega), ← hsu]; first | rw [if_pos c37] | rw [if_neg c37]) (by rw [tMost_s (by omega), ← hmo]; first | rw [if_neg c37] | (rw [if_pos c37]; split <;> omega)) (by rw [tLate_s (by omega), ← hla]; first | rw [if_neg c37] | (rw [if_pos c37]; split <;> omega))
            · refine v_ald0 (pc := 75) dX5_tells_75 ?_
              refine v_ild8 (pc := 76) dX5_tells_76 ?_
              refine v_bipush (pc := 78) dX5_tells_78 ⟨by decide, by decide⟩ ?_
              refine v_ce0 (pc := 80) (v_runV2 okX5_ofUnit rfl (sp_X5_ofUnit hM (by omega) (by omega)) dX5_tells_80 (lw_all_tbl q2104) (lw_all_tbl q2106) (lw_all_tbl qs51) rfl (mw_obj hM) (Nat.le_of_ble_eq_true rfl) ⟨Nat.zero_le _, Nat.zero_le _⟩ (Nat.le_of_ble_eq_true rfl)) ?_
              refine v_goto (pc := 83) (tgt := 88) dX5_tells_83 rfl ?_
              refine v_ist6 (pc := 88) dX5_tells_88 rfl ?_
              refine v_ild7 (pc := 90) dX5_tells_90 ?_
              refine v_iconst (pc := 92) dX5_tells_92 ?_
              refine v_icmp_eq (pc := 93) (tgt := 115) dX5_tells_93 rfl (by omega) (by omega) (fun c93 => ?_) (fun c93 => ?_)
              · refine v_ild8 (pc := 115) dX5_tells_115 ?_
                refine v_goto (pc := 117) (tgt := 122) dX5_tells_117 rfl ?_
                refine v_ist7 (pc := 122) dX5_tells_122 rfl ?_
                refine v_iinc8 (pc := 124) dX5_tells_124 rfl ?_
                refine v_goto (pc := 127) (tgt := 15) dX5_tells_127 rfl ?_
                exact ih _ (by omega) _ _ _ _ _ rfl (by omega) (by omega) (by omega) (by rw [tMany_s (by omega), ← hma]; first | rw [if_pos c37] | rw [if_neg c37]) (by rw [tSum_s (by omega), ← hsu]; first | rw [if_pos c37] | rw [if_neg c37]) (by rw [tMost_s (by omega), ← hmo]; first | rw [if_neg c37] | (rw [if_pos c37]; split <;> omega)) (by rw [tLate_s (by omega), ← hla]; first | rw [if_neg c37] | (rw [if_pos c37]; split <;> omega))
              · have hoq := hR.uOr late ⟨by omega, by omega⟩
                refine v_ald0 (pc := 96) dX5_tells_96 ?_
                refine v_ild8 (pc := 97) dX5_tells_97 ?_
                refine v_bipush (pc := 99) dX5_tells_99 ⟨by decide, by decide⟩ ?_
                refine v_ce0 (pc := 101) (v_runV2 okX5_ofUnit rfl (sp_X5_ofUnit hM (by omega) (by omega)) dX5_tells_101 (lw_all_tbl q2104) (lw_all_tbl q2106) (lw_all_tbl qs51) rfl (mw_obj hM) (Nat.le_of_ble_eq_true rfl) ⟨Nat.zero_le _, Nat.zero_le _⟩ (Nat.le_of_ble_eq_true rfl)) ?_
                refine v_ald0 (pc := 104) dX5_tells_104 ?_
                refine v_ild7 (pc := 105) dX5_tells_105 ?_
                refine v_bipush (pc := 107) dX5_tells_107 ⟨by decide, by decide⟩ ?_
                refine v_ce0 (pc := 109) (v_runV2 okX5_ofUnit rfl (sp_X5_ofUnit hM (by omega) (by omega)) dX5_tells_109 (lw_all_tbl q2104) (lw_all_tbl q2106) (lw_all_tbl qs51) rfl (mw_obj hM) (Nat.le_of_ble_eq_true rfl) ⟨Nat.zero_le _, Nat.zero_le _⟩ (Nat.le_of_ble_eq_true rfl)) ?_
                refine v_icmp_le (pc := 112) (tgt := 120) dX5_tells_112 rfl (by omega) (by omega) (fun c112 => ?_) (fun c112 => ?_)
                · refine v_ild7 (pc := 120) dX5_tells_120 ?_
                  refine v_ist7 (pc := 122) dX5_tells_122 rfl ?_
                  refine v_iinc8 (pc := 124) dX5_tells_124 rfl ?_
                  refine v_goto (pc := 127) (tgt := 15) dX5_tells_127 rfl ?_
                  exact ih _ (by omega) _ _ _ _ _ rfl (by omega) (by omega) (by omega) (by rw [tMany_s (by omega), ← hma]; first | rw [if_pos c37] | rw [if_neg c37]) (by rw [tSum_s (by omega), ← hsu]; first | rw [if_pos c37] | rw [if_neg c37]) (by rw [tMost_s (by omega), ← hmo]; first | rw [if_neg c37] | (rw [if_pos c37]; split <;> omega)) (by rw [tLate_s (by omega), ← hla]; first | rw [if_neg c37] | (rw [if_pos c37]; split <;> omega))
                · refine v_ild8 (pc := 115) dX5_tells_115 ?_
                  refine v_goto (pc := 117) (tgt := 122) dX5_tells_117 rfl ?_
                  refine v_ist7 (pc := 122) dX5_tells_122 rfl ?_
                  refine v_iinc8 (pc := 124) dX5_tells_124 rfl ?_
                  refine v_goto (pc := 127) (tgt := 15) dX5_tells_127 rfl ?_
                  exact ih _ (by omega) _ _ _ _ _ rfl (by omega) (by omega) (by omega) (by rw [tMany_s (by omega), ← hma]; first | rw [if_pos c37] | rw [if_neg c37]) (by rw [tSum_s (by omega), ← hsu]; first | rw [if_pos c37] | rw [if_neg c37]) (by rw [tMost_s (by omega), ← hmo]; first | rw [if_neg c37] | (rw [if_pos c37]; split <;> omega)) (by rw [tLate_s (by omega), ← hla]; first | rw [if_neg c37] | (rw [if_pos c37]; split <;> omega))
          · refine v_if_ne0 (pc := 40) (tgt := 46) dX5_tells_40 rfl ?_
            refine v_goto (pc := 43) (tgt := 124) dX5_tells_43 rfl ?_
            refine v_iinc8 (pc := 124) dX5_tells_124 rfl ?_
            refine v_goto (pc := 127) (tgt := 15) dX5_tells_127 rfl ?_
            exact ih _ (by omega) _ _ _ _ _ rfl (by omega) (by omega) (by omega) (by rw [tMany_s (by omega), ← hma]; first | rw [if_pos c37] | rw [if_neg c37]) (by rw [tSum_s (by omega), ← hsu]; first | rw [if_pos c37] | rw [if_neg c37]) (by rw [tMost_s (by omega), ← hmo]; first | rw [if_neg c37] | (rw [if_pos c37]; split <;> omega)) (by rw [tLate_s (by omega), ← hla]; first | rw [if_neg c37] | (rw [if_pos c37]; split <;> omega))
  refine v_iconst (pc := 0) dX5_tells_0 ?_
  refine v_ist4 (pc := 1) dX5_tells_1 rfl ?_
  refine v_iconst (pc := 3) dX5_tells_3 ?_
  refine v_ist5 (pc := 4) dX5_tells_4 rfl ?_
  refine v_iconst (pc := 6) dX5_tells_6 ?_
  refine v_ist6 (pc := 7) dX5_tells_7 rfl ?_
  refine v_iconst (pc := 9) dX5_tells_9 ?_
  refine v_ist7 (pc := 10) dX5_tells_10 rfl ?_
  refine v_iconst (pc := 12) dX5_tells_12 ?_
  refine v_ist8 (pc := 13) dX5_tells_13 rfl ?_
  exact L15 _ _ _ _ _ _ rfl (by omega) (by omega) (by omega) rfl rfl rfl rfl
theorem sp_X5_leader {Γ : Cx} {t : Nat} {α : Nat → Nat} {h0 h : AH} {thrown : Int} {now : Int → Int} {aside : Int → Int} {tried : Int → Int} {undos : Int → Int} {undoMany : Int} {saved : Int → Int} {isSaved : Int → Int} {accounts : Int → Int} {way : Int} {leftOut : Int} {here : Int → Int} {text : Int → Int} {length : Int} {atp : Int} {frm : Int} {token : Int} {number : Int} {error : Int} {errorAt : Int} {commands : Int} {command : Int → Int} {out : Int → Int} {outLong : Int} {c : Int}  (hM : MW t α h0 h thrown now aside tried undos undoMany saved isSaved accounts way leftOut here text length atp frm token number error errorAt commands command out outLong) (hR : ROK now c) (hw : -2147483648 ≤ way ∧ way ≤ 2147483647) : Sp Γ yX5_leader mX5_leader 1 0 0 [.ref (α 0)] h (Qe (mLeader now way) h) NoX := by
  refine sp_of okX5_leader (cat_all rfl) (Nat.le_of_ble_eq_true rfl) rfl ?_
  have L17 : ∀ (n9 : Nat) (best : Int) (g : Int), (5 - g).toNat = n9 → (1 ≤ g ∧ g ≤ 5) → (0 ≤ best ∧ best ≤ 4) → (way = 5) → (best = mBest now g) → V Γ mX5_leader 1 0 0 (Qe (mLeader now way) h) (NoX) h 0 0 17 [some (.ref (α 0)), some (vi best), some (vi g)] [] := by
    intro n9
    induction n9 using Nat.strongRecOn with
    | _ n9 ih =>
      intro best g hn9 hg hbr hw5 hb
      refine v_ild2 (pc := 17) dX5_leader_17 ?_
      refine v_iconst (pc := 18) dX5_leader_18 ?_
      refine v_icmp_ge (pc := 19) (tgt := 55) dX5_leader_19 rfl (by omega) (by omega) (fun c19 => ?_) (fun c19 => ?_)
      · refine v_ild1 (pc := 55) dX5_leader_55 ?_
        refine v_ret_n (pc := 56) dX5_leader_56 rfl ?_
        exact qe_ok (by rw [mLeader, if_neg (by omega), hb, show g = 5 by omega])
      · have hw1 := hR.gW g ⟨by omega, by omega⟩
        have hw2 := hR.gW best ⟨by omega, by omega⟩
        refine v_ald0 (pc := 22) dX5_leader_22 ?_
        refine v_getf KX5 1 (pc := 23) dX5_leader_23 (lw_all_tbl q1995) (Or.inl rfl) (Nat.le_of_ble_eq_true rfl) (mw_obj hM) rfl ?_
        refine v_bipush (pc := 26) dX5_leader_26 ⟨by decide, by decide⟩ ?_
        refine v_ild2 (pc := 28) dX5_leader_28 ?_
        refine v_iadd (pc := 29) dX5_leader_29 ?_
        refine v_ldM_now hM (pc := 30) dX5_leader_30 (by omega) ?_
        refine v_ald0 (pc := 31) dX5_leader_31 ?_
        refine v_getf KX5 1 (pc := 32) dX5_leader_32 (lw_all_tbl q1995) (Or.inl rfl) (Nat.le_of_ble_eq_true rfl) (mw_obj hM) rfl ?_
        refine v_bipush (pc := 35) dX5_leader_35 ⟨by decide, by decide⟩ ?_
        refine v_ild1 (pc := 37) dX5_leader_37 ?_
        refine v_iadd (pc := 38) dX5_leader_38 ?_
        refine v_ldM_now hM (pc := 39) dX5_leader_39 (by omega) ?_
        refine v_icmp_le (pc := 40) (tgt := 47) dX5_leader_40 rfl (by omega) (by omega) (fun c40 => ?_) (fun c40 => ?_)
        · refine v_ild1 (pc := 47) dX5_leader_47 ?_
          refine v_ist1 (pc := 48) dX5_leader_48 rfl ?_
          refine v_iinc2 (pc := 49) dX5_leader_49 rfl ?_
          refine v_goto (pc := 52) (tgt := 17) dX5_leader_52 rfl ?_
          exact ih _ (by omega) _ _ rfl (by omega) (by omega) (by omega) (by rw [mBest_s (by omega), ← hb]; split <;> omega)
        · refine v_ild2 (pc := 43) dX5_leader_43 ?_
          refine v_goto (pc := 44) (tgt := 48) dX5_leader_44 rfl ?_
          refine v_ist1 (pc := 48) dX5_leader_48 rfl ?_
          refine v_iinc2 (pc := 49) dX5_leader_49 rfl ?_
          refine v_goto (pc := 52) (tgt := 17) dX5_leader_52 rfl ?_
          exact ih _ (by omega) _ _ rfl (by omega) (by omega) (by omega) (by rw [mBest_s (by omega), ← hb]; split <;> omega)
  refine v_ald0 (pc := 0) dX5_leader_0 ?_
  refine v_getf KX5 9 (pc := 1) dX5_leader_1 (lw_all_tbl q2003) (Or.inl rfl) (Nat.le_of_ble_eq_true rfl) (mw_obj hM) rfl ?_
  refine v_iconst (pc := 4) dX5_leader_4 ?_
  refine v_icmp_eq (pc := 5) (tgt := 13) dX5_leader_5 rfl (by omega) (by omega) (fun c5 => ?_) (fun c5 => ?_)
  · refine v_iconst (pc := 13) dX5_leader_13 ?_
    refine v_ist1 (pc := 14) dX5_leader_14 rfl ?_
    refine v_iconst (pc := 15) dX5_leader_15 ?_
    refine v_ist2 (pc := 16) dX5_leader_16 rfl ?_
    exact L17 _ _ _ rfl (by omega) (by omega) (by omega) (mBest_1 now).symm
  · refine v_ald0 (pc := 8) dX5_leader_8 ?_
    refine v_getf KX5 9 (pc := 9) dX5_leader_9 (lw_all_tbl q2003) (Or.inl rfl) (Nat.le_of_ble_eq_true rfl) (mw_obj hM) rfl ?_
    refine v_ret_n (pc := 12) dX5_leader_12 rfl ?_
    exact qe_ok (by rw [mLeader, if_pos (by omega)])
theorem sp_X5_knownOf {Γ : Cx} {t : Nat} {α : Nat → Nat} {h0 h : AH} {thrown : Int} {now : Int → Int} {aside : Int → Int} {tried : Int → Int} {undos : Int → Int} {undoMany : Int} {saved : Int → Int} {isSaved : Int → Int} {accounts : Int → Int} {way : Int} {leftOut : Int} {here : Int → Int} {text : Int → Int} {length : Int} {atp : Int} {frm : Int} {token : Int} {number : Int} {error : Int} {errorAt : Int} {commands : Int} {command : Int → Int} {out : Int → Int} {outLong : Int} {ca : Int} {o : Int} (hM : MW t α h0 h thrown now aside tried undos undoMany saved isSaved accounts way leftOut here text length atp frm token number error errorAt commands command out outLong) (hA : ROK aside ca) (ho : 0 ≤ o ∧ o < aside 7) : Sp Γ yX5_knownOf mX5_knownOf 2 0 0 [.ref (α 0), vi o] h (Qe (mKnown aside o) h) NoX := by
  refine sp_of okX5_knownOf (cat_all rfl) (Nat.le_of_ble_eq_true rfl) rfl ?_
  have h7 := hA.s7
  have hc := hA.c0
  have h1 := hA.uLv o ho
  have h2 := hA.uLi o ho
  have h3 := hA.uFa o ho
  refine v_ild1 (pc := 0) dX5_knownOf_0 ?_
  refine v_ce0 (pc := 1) (v_runS1 okX5_unitAt rfl (sp_X5_unitAt) dX5_knownOf_1 (lw_all_tbl q2108) (lw_all_tbl q2109) (Nat.le_of_ble_eq_true rfl) ⟨Nat.zero_le _, Nat.zero_le _⟩ (Nat.le_of_ble_eq_true rfl)) ?_
  refine v_ist2 (pc := 4) dX5_knownOf_4 rfl ?_
  refine v_ald0 (pc := 5) dX5_knownOf_5 ?_
  refine v_getf KX5 2 (pc := 6) dX5_knownOf_6 (lw_all_tbl q1996) (Or.inl rfl) (Nat.le_of_ble_eq_true rfl) (mw_obj hM) rfl ?_
  refine v_ild2 (pc := 9) dX5_knownOf_9 ?_
  refine v_iconst (pc := 10) dX5_knownOf_10 ?_
  refine v_iadd (pc := 11) dX5_knownOf_11 ?_
  refine v_ldM_aside hM (pc := 12) dX5_knownOf_12 (by omega) ?_
  refine v_ist3 (pc := 13) dX5_knownOf_13 rfl ?_
  refine v_ald0 (pc := 14) dX5_knownOf_14 ?_
  refine v_getf KX5 2 (pc := 15) dX5_knownOf_15 (lw_all_tbl q1996) (Or.inl rfl) (Nat.le_of_ble_eq_true rfl) (mw_obj hM) rfl ?_
  refine v_ild2 (pc := 18) dX5_knownOf_18 ?_
  refine v_iconst (pc := 19) dX5_knownOf_19 ?_
  refine v_iadd (pc := 20) dX5_knownOf_20 ?_
  refine v_ldM_aside hM (pc := 21) dX5_knownOf_21 (by omega) ?_
  refine v_if_ne (pc := 22) (tgt := 37) dX5_knownOf_22 rfl (by omega) (fun c22 => ?_) (fun c22 => ?_)
  · refine v_ild3 (pc := 37) dX5_knownOf_37 ?_
    refine v_if_ne (pc := 38) (tgt := 46) dX5_knownOf_38 rfl (by omega) (fun c38 => ?_) (fun c38 => ?_)
    · refine v_ild3 (pc := 46) dX5_knownOf_46 ?_
      refine v_ce0 (pc := 47) (v_runS1 okX5_bounded rfl (sp_X5_bounded (by omega)) dX5_knownOf_47 (lw_all_tbl q2185) (lw_all_tbl q2186) (Nat.le_of_ble_eq_true rfl) ⟨Nat.zero_le _, Nat.zero_le _⟩ (Nat.le_of_ble_eq_true rfl)) ?_
      refine v_ret_n (pc := 50) dX5_knownOf_50 rfl ?_
      exact qe_ok (by rw [mKnown]; first | rw [if_pos (by omega)] | rw [if_neg (by omega), if_pos (by omega)] | rw [if_neg (by omega), if_neg (by omega)])
    · refine v_bipush (pc := 41) dX5_knownOf_41 ⟨by decide, by decide⟩ ?_
      refine v_goto (pc := 43) (tgt := 47) dX5_knownOf_43 rfl ?_
      refine v_ce0 (pc := 47) (v_runS1 okX5_bounded rfl (sp_X5_bounded (by omega)) dX5_knownOf_47 (lw_all_tbl q2185) (lw_all_tbl q2186) (Nat.le_of_ble_eq_true rfl) ⟨Nat.zero_le _, Nat.zero_le _⟩ (Nat.le_of_ble_eq_true rfl)) ?_
      refine v_ret_n (pc := 50) dX5_knownOf_50 rfl ?_
      exact qe_ok (by rw [mKnown]; first | rw [if_pos (by omega)] | rw [if_neg (by omega), if_pos (by omega)] | rw [if_neg (by omega), if_neg (by omega)])
  · refine v_ald0 (pc := 25) dX5_knownOf_25 ?_
    refine v_getf KX5 2 (pc := 26) dX5_knownOf_26 (lw_all_tbl q1996) (Or.inl rfl) (Nat.le_of_ble_eq_true rfl) (mw_obj hM) rfl ?_
    refine v_ild2 (pc := 29) dX5_knownOf_29 ?_
    refine v_bipush (pc := 30) dX5_knownOf_30 ⟨by decide, by decide⟩ ?_
    refine v_iadd (pc := 32) dX5_knownOf_32 ?_
    refine v_ldM_aside hM (pc := 33) dX5_knownOf_33 (by omega) ?_
    refine v_goto (pc := 34) (tgt := 47) dX5_knownOf_34 rfl ?_
    refine v_ce0 (pc := 47) (v_runS1 okX5_bounded rfl (sp_X5_bounded (by omega)) dX5_knownOf_47 (lw_all_tbl q2185) (lw_all_tbl q2186) (Nat.le_of_ble_eq_true rfl) ⟨Nat.zero_le _, Nat.zero_le _⟩ (Nat.le_of_ble_eq_true rfl)) ?_
    refine v_ret_n (pc := 50) dX5_knownOf_50 rfl ?_
    exact qe_ok (by rw [mKnown]; first | rw [if_pos (by omega)] | rw [if_neg (by omega), if_pos (by omega)] | rw [if_neg (by omega), if_neg (by omega)])
theorem sp_X5_ledBy {Γ : Cx} {t : Nat} {α : Nat → Nat} {h0 h : AH} {thrown : Int} {now : Int → Int} {aside : Int → Int} {tried : Int → Int} {undos : Int → Int} {undoMany : Int} {saved : Int → Int} {isSaved : Int → Int} {accounts : Int → Int} {way : Int} {leftOut : Int} {here : Int → Int} {text : Int → Int} {length : Int} {atp : Int} {frm : Int} {token : Int} {number : Int} {error : Int} {errorAt : Int} {commands : Int} {command : Int → Int} {out : Int → Int} {outLong : Int} {c : Int} {ca : Int} {ld wr sz o : Int} (hM : MW t α h0 h thrown now aside tried undos undoMany saved isSaved accounts way leftOut here text length atp frm token number error errorAt commands command out outLong) (hR : ROK now c) (hka : ld = 6 → ROK aside ca ∧ 0 ≤ o ∧ o < aside 7) (hld : -2147483648 ≤ ld ∧ ld ≤ 2147483647) (hwr : -2147483648 ≤ wr ∧ wr ≤ 2147483647) (hsz : -2147483648 ≤ sz ∧ sz ≤ 2147483647) : Sp Γ yX5_ledBy mX5_ledBy 6 0 0 [.ref (α 0), vi ld, vi wr, vi sz, vi o] h (Qe (mLed now aside ld wr sz o) h) NoX := by
  refine sp_of okX5_ledBy (cat_all rfl) (Nat.le_of_ble_eq_true rfl) rfl ?_
  refine v_ild1 (pc := 0) dX5_ledBy_0 ?_
  refine v_bipush (pc := 1) dX5_ledBy_1 ⟨by decide, by decide⟩ ?_
  refine v_icmp_ne (pc := 3) (tgt := 15) dX5_ledBy_3 rfl (by omega) (by omega) (fun c3 => ?_) (fun c3 => ?_)
  · refine v_ald0 (pc := 15) dX5_ledBy_15 ?_
    refine v_ild1 (pc := 16) dX5_ledBy_16 ?_
    refine v_ild2 (pc := 17) dX5_ledBy_17 ?_
    refine v_ild3 (pc := 18) dX5_ledBy_18 ?_
    refine v_ce0 (pc := 19) (v_runV3 okX5_tells rfl (sp_X5_tells hM (by omega) (by omega) (by omega) (by omega)) dX5_ledBy_19 (lw_all_tbl q2177) (lw_all_tbl q2179) (lw_all_tbl qs63) rfl (mw_obj hM) (Nat.le_of_ble_eq_true rfl) ⟨Nat.zero_le _, Nat.zero_le _⟩ (Nat.le_of_ble_eq_true rfl)) ?_
    refine v_ret_n (pc := 22) dX5_ledBy_22 rfl ?_
    exact qe_ok (by rw [mLed]; first | rw [if_pos (by omega)] | rw [if_neg (by omega)])
  · obtain ⟨hA, ho⟩ := hka (by omega)
    refine v_ald0 (pc := 6) dX5_ledBy_6 ?_
    refine v_ild4 (pc := 7) dX5_ledBy_7 ?_
    refine v_ce0 (pc := 9) (v_runV1 okX5_knownOf rfl (sp_X5_knownOf hM (by omega) (by omega)) dX5_ledBy_9 (lw_all_tbl q2268) (lw_all_tbl q2270) (lw_all_tbl qs72) rfl (mw_obj hM) (Nat.le_of_ble_eq_true rfl) ⟨Nat.zero_le _, Nat.zero_le _⟩ (Nat.le_of_ble_eq_true rfl)) ?_
    refine v_goto (pc := 12) (tgt := 22) dX5_ledBy_12 rfl ?_
    refine v_ret_n (pc := 22) dX5_ledBy_22 rfl ?_
    exact qe_ok (by rw [mLed]; first | rw [if_pos (by omega)] | rw [if_neg (by omega)])
theorem sp_X5_lossOf {Γ : Cx} {t : Nat} {α : Nat → Nat} {h0 h : AH} {thrown : Int} {now : Int → Int} {aside : Int → Int} {tried : Int → Int} {undos : Int → Int} {undoMany : Int} {saved : Int → Int} {isSaved : Int → Int} {accounts : Int → Int} {way : Int} {leftOut : Int} {here : Int → Int} {text : Int → Int} {length : Int} {atp : Int} {frm : Int} {token : Int} {number : Int} {error : Int} {errorAt : Int} {commands : Int} {command : Int → Int} {out : Int → Int} {outLong : Int} {u g : Int} (hM : MW t α h0 h thrown now aside tried undos undoMany saved isSaved accounts way leftOut here text length atp frm token number error errorAt commands command out outLong) (hu : 0 ≤ u ∧ u ≤ 98) (hg : 0 ≤ g ∧ g ≤ 4) (hl : -1 ≤ now (23 + 17 * u + 9) ∧ now (23 + 17 * u + 9) ≤ 14000000) (ht : 0 ≤ now (23 + 17 * u + (10 + g)) ∧ now (23 + 17 * u + (10 + g)) ≤ 1000) : Sp Γ yX5_lossOf mX5_lossOf 3 0 0 [.ref (α 0), vi u, vi g] h (Qe (mLoss now u g) h) NoX := by
  refine sp_of okX5_lossOf (cat_all rfl) (Nat.le_of_ble_eq_true rfl) rfl ?_
  refine v_ald0 (pc := 0) dX5_lossOf_0 ?_
  refine v_ild1 (pc := 1) dX5_lossOf_1 ?_
  refine v_bipush (pc := 2) dX5_lossOf_2 ⟨by decide, by decide⟩ ?_
  refine v_ce0 (pc := 4) (v_runV2 okX5_ofUnit rfl (sp_X5_ofUnit hM (by omega) (by omega)) dX5_lossOf_4 (lw_all_tbl q2104) (lw_all_tbl q2106) (lw_all_tbl qs51) rfl (mw_obj hM) (Nat.le_of_ble_eq_true rfl) ⟨Nat.zero_le _, Nat.zero_le _⟩ (Nat.le_of_ble_eq_true rfl)) ?_
  refine v_ald0 (pc := 7) dX5_lossOf_7 ?_
  refine v_ild1 (pc := 8) dX5_lossOf_8 ?_
  refine v_bipush (pc := 9) dX5_lossOf_9 ⟨by decide, by decide⟩ ?_
  refine v_ild2 (pc := 11) dX5_lossOf_11 ?_
  refine v_iadd (pc := 12) dX5_lossOf_12 ?_
  refine v_ce0 (pc := 13) (v_runV2 okX5_ofUnit rfl (sp_X5_ofUnit hM (by omega) (by omega)) dX5_lossOf_13 (lw_all_tbl q2104) (lw_all_tbl q2106) (lw_all_tbl qs51) rfl (mw_obj hM) (Nat.le_of_ble_eq_true rfl) ⟨Nat.zero_le _, Nat.zero_le _⟩ (Nat.le_of_ble_eq_true rfl)) ?_
  refine v_isub (pc := 16) dX5_lossOf_16 ?_
  refine v_ist3 (pc := 17) dX5_lossOf_17 rfl ?_
  refine v_ild3 (pc := 18) dX5_lossOf_18 ?_
  refine v_if_ge (pc := 19) (tgt := 27) dX5_lossOf_19 rfl (by omega) (fun c19 => ?_) (fun c19 => ?_)
  · refine v_ild3 (pc := 27) dX5_lossOf_27 ?_
    refine v_ist4 (pc := 28) dX5_lossOf_28 rfl ?_
    refine v_ild4 (pc := 30) dX5_lossOf_30 ?_
    refine v_bipush (pc := 32) dX5_lossOf_32 ⟨by decide, by decide⟩ ?_
    refine v_icmp_le (pc := 34) (tgt := 42) dX5_lossOf_34 rfl (by omega) (by omega) (fun c34 => ?_) (fun c34 => ?_)
    · refine v_ild4 (pc := 42) dX5_lossOf_42 ?_
      refine v_ret_n (pc := 44) dX5_lossOf_44 rfl ?_
      exact qe_ok (by rw [mLoss, mLossI]; (repeat (any_goals split)) <;> omega)
    · refine v_bipush (pc := 37) dX5_lossOf_37 ⟨by decide, by decide⟩ ?_
      refine v_goto (pc := 39) (tgt := 44) dX5_lossOf_39 rfl ?_
      refine v_ret_n (pc := 44) dX5_lossOf_44 rfl ?_
      exact qe_ok (by rw [mLoss, mLossI]; (repeat (any_goals split)) <;> omega)
  · refine v_ild3 (pc := 22) dX5_lossOf_22 ?_
    refine v_ineg (pc := 23) dX5_lossOf_23 ?_
    refine v_goto (pc := 24) (tgt := 28) dX5_lossOf_24 rfl ?_
    refine v_ist4 (pc := 28) dX5_lossOf_28 rfl ?_
    refine v_ild4 (pc := 30) dX5_lossOf_30 ?_
    refine v_bipush (pc := 32) dX5_lossOf_32 ⟨by decide, by decide⟩ ?_
    refine v_icmp_le (pc := 34) (tgt := 42) dX5_lossOf_34 rfl (by omega) (by omega) (fun c34 => ?_) (fun c34 => ?_)
    · refine v_ild4 (pc := 42) dX5_lossOf_42 ?_
      refine v_ret_n (pc := 44) dX5_lossOf_44 rfl ?_
      exact qe_ok (by rw [mLoss, mLossI]; (repeat (any_goals split)) <;> omega)
    · refine v_bipush (pc := 37) dX5_lossOf_37 ⟨by decide, by decide⟩ ?_
      refine v_goto (pc := 39) (tgt := 44) dX5_lossOf_39 rfl ?_
      refine v_ret_n (pc := 44) dX5_lossOf_44 rfl ?_
      exact qe_ok (by rw [mLoss, mLossI]; (repeat (any_goals split)) <;> omega)
