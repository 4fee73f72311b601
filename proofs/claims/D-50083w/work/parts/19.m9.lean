/-! FlashZonesModel: walks, 9 (printed by gen) -/
set_option maxRecDepth 100000
theorem sp_X5_account {Γ : Cx} {t : Nat} {α : Nat → Nat} {h0 h : AH} {thrown : Int} {now : Int → Int} {aside : Int → Int} {tried : Int → Int} {undos : Int → Int} {undoMany : Int} {saved : Int → Int} {isSaved : Int → Int} {accounts : Int → Int} {way : Int} {leftOut : Int} {here : Int → Int} {text : Int → Int} {length : Int} {atp : Int} {frm : Int} {token : Int} {number : Int} {error : Int} {errorAt : Int} {commands : Int} {command : Int → Int} {out : Int → Int} {outLong : Int} {k : Int} (hM : MW t α h0 h thrown now aside tried undos undoMany saved isSaved accounts way leftOut here text length atp frm token number error errorAt commands command out outLong) (hk : -2147483648 ≤ k ∧ k ≤ 2147483647) : Sp Γ yX5_account mX5_account 2 0 0 [.ref (α 0), vi k] h (Qi (fun x h' => x = (if 0 ≤ k ∧ k ≤ 7 then accounts k else 0) ∧ MW t α h0 h' ((if 0 ≤ k ∧ k ≤ 7 then 0 else 1)) now aside tried undos undoMany saved isSaved accounts way leftOut here text length atp frm token number error errorAt commands command out outLong)) NoX := by
  refine sp_of okX5_account (cat_all rfl) (Nat.le_of_ble_eq_true rfl) rfl ?_
  refine v_ald0 (pc := 0) dX5_account_0 ?_
  refine v_ild1 (pc := 1) dX5_account_1 ?_
  refine v_iconst (pc := 2) dX5_account_2 ?_
  refine v_bipush (pc := 3) dX5_account_3 ⟨by decide, by decide⟩ ?_
  refine v_cb0 (pc := 5) (v_runS3 okX5_in rfl (sp_X5_in (by omega) (by omega) (by omega)) dX5_account_5 (lw_all_tbl q2079) (lw_all_tbl q2080) (Nat.le_of_ble_eq_true rfl) ⟨Nat.zero_le _, Nat.zero_le _⟩ (Nat.le_of_ble_eq_true rfl)) (fun c5 => ?_) (fun c5 => ?_)
  · refine v_if_eq1 (pc := 8) (tgt := 15) dX5_account_8 rfl ?_
    refine v_iconst (pc := 11) dX5_account_11 ?_
    refine v_goto (pc := 12) (tgt := 16) dX5_account_12 rfl ?_
    refine v_ptM_thrown hM (pc := 16) dX5_account_16 (lw_all_tbl q1994) (fun h hM => ?_)
    refine v_ald0 (pc := 19) dX5_account_19 ?_
    refine v_getf KX5 0 (pc := 20) dX5_account_20 (lw_all_tbl q1994) (Or.inl rfl) (Nat.le_of_ble_eq_true rfl) (mw_obj hM) rfl ?_
    refine v_if_le (pc := 23) (tgt := 30) dX5_account_23 rfl (by omega) (fun _ => ?_) (fun c => absurd c (by decide))
    refine v_ald0 (pc := 30) dX5_account_30 ?_
    refine v_getf KX5 8 (pc := 31) dX5_account_31 (lw_all_tbl q2002) (Or.inl rfl) (Nat.le_of_ble_eq_true rfl) (mw_obj hM) rfl ?_
    refine v_ild1 (pc := 34) dX5_account_34 ?_
    refine v_ldM_accounts hM (pc := 35) dX5_account_35 (by omega) ?_
    refine v_ret_n (pc := 36) dX5_account_36 rfl ?_
    first | (exfalso; omega) | exact qi_ok ⟨by rw [if_pos (by omega)] <;> (first | rfl | (show (_ : Int) = (if _ then 1 else 0); first | rw [if_pos (by omega)] | rw [if_neg (by omega)])), mw_thr hM (by rw [if_pos (by omega)])⟩ | exact qi_ok ⟨by rw [if_neg (by omega)], mw_thr hM (by rw [if_neg (by omega)] <;> (first | rw [if_pos (by omega)] | rw [if_neg (by omega)]))⟩ | exact qi_ok ⟨by rw [if_neg (by omega)], mw_thr hM (by rw [if_neg (by omega)])⟩
  · refine v_if_eq0 (pc := 8) (tgt := 15) dX5_account_8 rfl ?_
    refine v_iconst (pc := 15) dX5_account_15 ?_
    refine v_ptM_thrown hM (pc := 16) dX5_account_16 (lw_all_tbl q1994) (fun h hM => ?_)
    refine v_ald0 (pc := 19) dX5_account_19 ?_
    refine v_getf KX5 0 (pc := 20) dX5_account_20 (lw_all_tbl q1994) (Or.inl rfl) (Nat.le_of_ble_eq_true rfl) (mw_obj hM) rfl ?_
    refine v_if_le (pc := 23) (tgt := 30) dX5_account_23 rfl (by omega) (fun c => absurd c (by decide)) (fun _ => ?_)
    refine v_iconst (pc := 26) dX5_account_26 ?_
    refine v_goto (pc := 27) (tgt := 36) dX5_account_27 rfl ?_
    refine v_ret_n (pc := 36) dX5_account_36 rfl ?_
    first | (exfalso; omega) | exact qi_ok ⟨by rw [if_pos (by omega)] <;> (first | rfl | (show (_ : Int) = (if _ then 1 else 0); first | rw [if_pos (by omega)] | rw [if_neg (by omega)])), mw_thr hM (by rw [if_pos (by omega)])⟩ | exact qi_ok ⟨by rw [if_neg (by omega)], mw_thr hM (by rw [if_neg (by omega)] <;> (first | rw [if_pos (by omega)] | rw [if_neg (by omega)]))⟩ | exact qi_ok ⟨by rw [if_neg (by omega)], mw_thr hM (by rw [if_neg (by omega)])⟩
theorem sp_X5_guesser {Γ : Cx} {t : Nat} {α : Nat → Nat} {h0 h : AH} {thrown : Int} {now : Int → Int} {aside : Int → Int} {tried : Int → Int} {undos : Int → Int} {undoMany : Int} {saved : Int → Int} {isSaved : Int → Int} {accounts : Int → Int} {way : Int} {leftOut : Int} {here : Int → Int} {text : Int → Int} {length : Int} {atp : Int} {frm : Int} {token : Int} {number : Int} {error : Int} {errorAt : Int} {commands : Int} {command : Int → Int} {out : Int → Int} {outLong : Int} {g k : Int} (hM : MW t α h0 h thrown now aside tried undos undoMany saved isSaved accounts way leftOut here text length atp frm token number error errorAt commands command out outLong) (hg : -2147483648 ≤ g ∧ g ≤ 2147483647) (hk : -2147483648 ≤ k ∧ k ≤ 2147483647) : Sp Γ yX5_guesser mX5_guesser 3 0 0 [.ref (α 0), vi g, vi k] h (Qi (fun x h' => x = (if (0 ≤ g ∧ g ≤ 4) ∧ 0 ≤ k ∧ k ≤ 1 then now ((if k = 0 then 13 else 18) + g) else 0) ∧ MW t α h0 h' ((if (0 ≤ g ∧ g ≤ 4) ∧ 0 ≤ k ∧ k ≤ 1 then 0 else (if 0 ≤ g ∧ g ≤ 4 then 2 else 1))) now aside tried undos undoMany saved isSaved accounts way leftOut here text length atp frm token number error errorAt commands command out outLong)) NoX := by
  refine sp_of okX5_guesser (cat_all rfl) (Nat.le_of_ble_eq_true rfl) rfl ?_
  refine v_ald0 (pc := 0) dX5_guesser_0 ?_
  refine v_ild1 (pc := 1) dX5_guesser_1 ?_
  refine v_cb0 (pc := 2) (v_runS1 okX5_isGuesser rfl (sp_X5_isGuesser (by omega)) dX5_guesser_2 (lw_all_tbl q2167) (lw_all_tbl q2168) (Nat.le_of_ble_eq_true rfl) ⟨Nat.zero_le _, Nat.zero_le _⟩ (Nat.le_of_ble_eq_true rfl)) (fun c2 => ?_) (fun c2 => ?_)
  · refine v_if_ne1 (pc := 5) (tgt := 12) dX5_guesser_5 rfl ?_
    refine v_ild2 (pc := 12) dX5_guesser_12 ?_
    refine v_iconst (pc := 13) dX5_guesser_13 ?_
    refine v_iconst (pc := 14) dX5_guesser_14 ?_
    refine v_cb0 (pc := 15) (v_runS3 okX5_in rfl (sp_X5_in (by omega) (by omega) (by omega)) dX5_guesser_15 (lw_all_tbl q2079) (lw_all_tbl q2080) (Nat.le_of_ble_eq_true rfl) ⟨Nat.zero_le _, Nat.zero_le _⟩ (Nat.le_of_ble_eq_true rfl)) (fun c15 => ?_) (fun c15 => ?_)
    · refine v_if_eq1 (pc := 18) (tgt := 25) dX5_guesser_18 rfl ?_
      refine v_iconst (pc := 21) dX5_guesser_21 ?_
      refine v_goto (pc := 22) (tgt := 26) dX5_guesser_22 rfl ?_
      refine v_ptM_thrown hM (pc := 26) dX5_guesser_26 (lw_all_tbl q1994) (fun h hM => ?_)
      refine v_ald0 (pc := 29) dX5_guesser_29 ?_
      refine v_getf KX5 0 (pc := 30) dX5_guesser_30 (lw_all_tbl q1994) (Or.inl rfl) (Nat.le_of_ble_eq_true rfl) (mw_obj hM) rfl ?_
      refine v_if_le (pc := 33) (tgt := 40) dX5_guesser_33 rfl (by omega) (fun _ => ?_) (fun c => absurd c (by decide))
      refine v_ald0 (pc := 40) dX5_guesser_40 ?_
      refine v_getf KX5 1 (pc := 41) dX5_guesser_41 (lw_all_tbl q1995) (Or.inl rfl) (Nat.le_of_ble_eq_true rfl) (mw_obj hM) rfl ?_
      refine v_ild2 (pc := 44) dX5_guesser_44 ?_
      refine v_if_ne (pc := 45) (tgt := 53) dX5_guesser_45 rfl (by omega) (fun c45 => ?_) (fun c45 => ?_)
      · refine v_bipush (pc := 53) dX5_guesser_53 ⟨by decide, by decide⟩ ?_
        refine v_ild1 (pc := 55) dX5_guesser_55 ?_
        refine v_iadd (pc := 56) dX5_guesser_56 ?_
        refine v_ldM_now hM (pc := 57) dX5_guesser_57 (by omega) ?_
        refine v_ret_n (pc := 58) dX5_guesser_58 rfl ?_
        first | (exfalso; omega) | exact qi_ok ⟨by rw [if_pos (by omega)]; (first | rw [if_pos (by omega)] | rw [if_neg (by omega)]), mw_thr hM (by rw [if_pos (by omega)])⟩ | first | (exfalso; omega) | exact qi_ok ⟨by rw [if_pos (by omega)] <;> (first | rfl | (show (_ : Int) = (if _ then 1 else 0); first | rw [if_pos (by omega)] | rw [if_neg (by omega)])), mw_thr hM (by rw [if_pos (by omega)])⟩ | exact qi_ok ⟨by rw [if_neg (by omega)], mw_thr hM (by rw [if_neg (by omega)] <;> (first | rw [if_pos (by omega)] | rw [if_neg (by omega)]))⟩ | exact qi_ok ⟨by rw [if_neg (by omega)], mw_thr hM (by rw [if_neg (by omega)])⟩
      · refine v_bipush (pc := 48) dX5_guesser_48 ⟨by decide, by decide⟩ ?_
        refine v_goto (pc := 50) (tgt := 55) dX5_guesser_50 rfl ?_
        refine v_ild1 (pc := 55) dX5_guesser_55 ?_
        refine v_iadd (pc := 56) dX5_guesser_56 ?_
        refine v_ldM_now hM (pc := 57) dX5_guesser_57 (by omega) ?_
        refine v_ret_n (pc := 58) dX5_guesser_58 rfl ?_
        first | (exfalso; omega) | exact qi_ok ⟨by rw [if_pos (by omega)]; (first | rw [if_pos (by omega)] | rw [if_neg (by omega)]), mw_thr hM (by rw [if_pos (by omega)])⟩ | first | (exfalso; omega) | exact qi_ok ⟨by rw [if_pos (by omega)] <;> (first | rfl | (show (_ : Int) = (if _ then 1 else 0); first | rw [if_pos (by omega)] | rw [if_neg (by omega)])), mw_thr hM (by rw [if_pos (by omega)])⟩ | exact qi_ok ⟨by rw [if_neg (by omega)], mw_thr hM (by rw [if_neg (by omega)] <;> (first | rw [if_pos (by omega)] | rw [if_neg (by omega)]))⟩ | exact qi_ok ⟨by rw [if_neg (by omega)], mw_thr hM (by rw [if_neg (by omega)])⟩
    · refine v_if_eq0 (pc := 18) (tgt := 25) dX5_guesser_18 rfl ?_
      refine v_iconst (pc := 25) dX5_guesser_25 ?_
      refine v_ptM_thrown hM (pc := 26) dX5_guesser_26 (lw_all_tbl q1994) (fun h hM => ?_)
      refine v_ald0 (pc := 29) dX5_guesser_29 ?_
      refine v_getf KX5 0 (pc := 30) dX5_guesser_30 (lw_all_tbl q1994) (Or.inl rfl) (Nat.le_of_ble_eq_true rfl) (mw_obj hM) rfl ?_
      refine v_if_le (pc := 33) (tgt := 40) dX5_guesser_33 rfl (by omega) (fun c => absurd c (by decide)) (fun _ => ?_)
      refine v_iconst (pc := 36) dX5_guesser_36 ?_
      refine v_goto (pc := 37) (tgt := 58) dX5_guesser_37 rfl ?_
      refine v_ret_n (pc := 58) dX5_guesser_58 rfl ?_
      first | (exfalso; omega) | exact qi_ok ⟨by rw [if_pos (by omega)]; (first | rw [if_pos (by omega)] | rw [if_neg (by omega)]), mw_thr hM (by rw [if_pos (by omega)])⟩ | first | (exfalso; omega) | exact qi_ok ⟨by rw [if_pos (by omega)] <;> (first | rfl | (show (_ : Int) = (if _ then 1 else 0); first | rw [if_pos (by omega)] | rw [if_neg (by omega)])), mw_thr hM (by rw [if_pos (by omega)])⟩ | exact qi_ok ⟨by rw [if_neg (by omega)], mw_thr hM (by rw [if_neg (by omega)] <;> (first | rw [if_pos (by omega)] | rw [if_neg (by omega)]))⟩ | exact qi_ok ⟨by rw [if_neg (by omega)], mw_thr hM (by rw [if_neg (by omega)])⟩
  · refine v_if_ne0 (pc := 5) (tgt := 12) dX5_guesser_5 rfl ?_
    refine v_iconst (pc := 8) dX5_guesser_8 ?_
    refine v_goto (pc := 9) (tgt := 26) dX5_guesser_9 rfl ?_
    refine v_ptM_thrown hM (pc := 26) dX5_guesser_26 (lw_all_tbl q1994) (fun h hM => ?_)
    refine v_ald0 (pc := 29) dX5_guesser_29 ?_
    refine v_getf KX5 0 (pc := 30) dX5_guesser_30 (lw_all_tbl q1994) (Or.inl rfl) (Nat.le_of_ble_eq_true rfl) (mw_obj hM) rfl ?_
    refine v_if_le (pc := 33) (tgt := 40) dX5_guesser_33 rfl (by omega) (fun c => absurd c (by decide)) (fun _ => ?_)
    refine v_iconst (pc := 36) dX5_guesser_36 ?_
    refine v_goto (pc := 37) (tgt := 58) dX5_guesser_37 rfl ?_
    refine v_ret_n (pc := 58) dX5_guesser_58 rfl ?_
    first | (exfalso; omega) | exact qi_ok ⟨by rw [if_pos (by omega)]; (first | rw [if_pos (by omega)] | rw [if_neg (by omega)]), mw_thr hM (by rw [if_pos (by omega)])⟩ | first | (exfalso; omega) | exact qi_ok ⟨by rw [if_pos (by omega)] <;> (first | rfl | (show (_ : Int) = (if _ then 1 else 0); first | rw [if_pos (by omega)] | rw [if_neg (by omega)])), mw_thr hM (by rw [if_pos (by omega)])⟩ | exact qi_ok ⟨by rw [if_neg (by omega)], mw_thr hM (by rw [if_neg (by omega)] <;> (first | rw [if_pos (by omega)] | rw [if_neg (by omega)]))⟩ | exact qi_ok ⟨by rw [if_neg (by omega)], mw_thr hM (by rw [if_neg (by omega)])⟩
theorem sp_X5_inZone {Γ : Cx} {t : Nat} {α : Nat → Nat} {h0 h : AH} {thrown : Int} {now : Int → Int} {aside : Int → Int} {tried : Int → Int} {undos : Int → Int} {undoMany : Int} {saved : Int → Int} {isSaved : Int → Int} {accounts : Int → Int} {way : Int} {leftOut : Int} {here : Int → Int} {text : Int → Int} {length : Int} {atp : Int} {frm : Int} {token : Int} {number : Int} {error : Int} {errorAt : Int} {commands : Int} {command : Int → Int} {out : Int → Int} {outLong : Int} {c : Int} {z k : Int} (hM : MW t α h0 h thrown now aside tried undos undoMany saved isSaved accounts way leftOut here text length atp frm token number error errorAt commands command out outLong) (hR : ROK now c) (hz : -2147483648 ≤ z ∧ z ≤ 2147483647) (hk : -2147483648 ≤ k ∧ k ≤ 2147483647) : Sp Γ yX5_inZone mX5_inZone 3 0 0 [.ref (α 0), vi z, vi k] h (Qi (fun x h' => x = (if (0 ≤ z ∧ z < now 0) ∧ 0 ≤ k then (if k < now (1706 + 13 * z + 3) then now (1706 + 13 * z + 4 + k) else -1) else 0) ∧ MW t α h0 h' ((if (0 ≤ z ∧ z < now 0) ∧ 0 ≤ k then 0 else 1)) now aside tried undos undoMany saved isSaved accounts way leftOut here text length atp frm token number error errorAt commands command out outLong)) NoX := by
  refine sp_of okX5_inZone (cat_all rfl) (Nat.le_of_ble_eq_true rfl) rfl ?_
  have hs0 := hR.s0
  have hs1 := hR.s1
  refine v_ald0 (pc := 0) dX5_inZone_0 ?_
  refine v_ald0 (pc := 1) dX5_inZone_1 ?_
  refine v_ild1 (pc := 2) dX5_inZone_2 ?_
  refine v_cb0 (pc := 3) (v_runV1 okX5_isZone rfl (sp_X5_isZone hM (by omega) (by omega)) dX5_inZone_3 (lw_all_tbl q2139) (lw_all_tbl q2141) (lw_all_tbl qs58) rfl (mw_obj hM) (Nat.le_of_ble_eq_true rfl) ⟨Nat.zero_le _, Nat.zero_le _⟩ (Nat.le_of_ble_eq_true rfl)) (fun c3 => ?_) (fun c3 => ?_)
  · have hzm := hR.zM z ⟨by omega, by omega⟩
    have hzf := hR.zF z ⟨by omega, by omega⟩
    refine v_if_eq1 (pc := 6) (tgt := 17) dX5_inZone_6 rfl ?_
    refine v_ild2 (pc := 9) dX5_inZone_9 ?_
    refine v_if_lt (pc := 10) (tgt := 17) dX5_inZone_10 rfl (by omega) (fun c10 => ?_) (fun c10 => ?_)
    · refine v_iconst (pc := 17) dX5_inZone_17 ?_
      refine v_ptM_thrown hM (pc := 18) dX5_inZone_18 (lw_all_tbl q1994) (fun h hM => ?_)
      refine v_ald0 (pc := 21) dX5_inZone_21 ?_
      refine v_getf KX5 0 (pc := 22) dX5_inZone_22 (lw_all_tbl q1994) (Or.inl rfl) (Nat.le_of_ble_eq_true rfl) (mw_obj hM) rfl ?_
      refine v_if_le (pc := 25) (tgt := 30) dX5_inZone_25 rfl (by omega) (fun c => absurd c (by decide)) (fun _ => ?_)
      refine v_iconst (pc := 28) dX5_inZone_28 ?_
      refine v_ret_n (pc := 29) dX5_inZone_29 rfl ?_
      first | (exfalso; omega) | exact qi_ok ⟨by rw [if_pos (by omega)]; (first | rw [if_pos (by omega)] | rw [if_neg (by omega)]), mw_thr hM (by rw [if_pos (by omega)])⟩ | first | (exfalso; omega) | exact qi_ok ⟨by rw [if_pos (by omega)] <;> (first | rfl | (show (_ : Int) = (if _ then 1 else 0); first | rw [if_pos (by omega)] | rw [if_neg (by omega)])), mw_thr hM (by rw [if_pos (by omega)])⟩ | exact qi_ok ⟨by rw [if_neg (by omega)], mw_thr hM (by rw [if_neg (by omega)] <;> (first | rw [if_pos (by omega)] | rw [if_neg (by omega)]))⟩ | exact qi_ok ⟨by rw [if_neg (by omega)], mw_thr hM (by rw [if_neg (by omega)])⟩
    · refine v_iconst (pc := 13) dX5_inZone_13 ?_
      refine v_goto (pc := 14) (tgt := 18) dX5_inZone_14 rfl ?_
      refine v_ptM_thrown hM (pc := 18) dX5_inZone_18 (lw_all_tbl q1994) (fun h hM => ?_)
      refine v_ald0 (pc := 21) dX5_inZone_21 ?_
      refine v_getf KX5 0 (pc := 22) dX5_inZone_22 (lw_all_tbl q1994) (Or.inl rfl) (Nat.le_of_ble_eq_true rfl) (mw_obj hM) rfl ?_
      refine v_if_le (pc := 25) (tgt := 30) dX5_inZone_25 rfl (by omega) (fun _ => ?_) (fun c => absurd c (by decide))
      refine v_ild2 (pc := 30) dX5_inZone_30 ?_
      refine v_ald0 (pc := 31) dX5_inZone_31 ?_
      refine v_getf KX5 1 (pc := 32) dX5_inZone_32 (lw_all_tbl q1995) (Or.inl rfl) (Nat.le_of_ble_eq_true rfl) (mw_obj hM) rfl ?_
      refine v_ild1 (pc := 35) dX5_inZone_35 ?_
      refine v_ce0 (pc := 36) (v_runS1 okX5_zoneAt rfl (sp_X5_zoneAt) dX5_inZone_36 (lw_all_tbl q1991) (lw_all_tbl q1992) (Nat.le_of_ble_eq_true rfl) ⟨Nat.zero_le _, Nat.zero_le _⟩ (Nat.le_of_ble_eq_true rfl)) ?_
      refine v_iconst (pc := 39) dX5_inZone_39 ?_
      refine v_iadd (pc := 40) dX5_inZone_40 ?_
      refine v_ldM_now hM (pc := 41) dX5_inZone_41 (by omega) ?_
      refine v_icmp_ge (pc := 42) (tgt := 61) dX5_inZone_42 rfl (by omega) (by omega) (fun c42 => ?_) (fun c42 => ?_)
      · refine v_iconst (pc := 61) dX5_inZone_61 ?_
        refine v_ret_n (pc := 62) dX5_inZone_62 rfl ?_
        first | (exfalso; omega) | exact qi_ok ⟨by rw [if_pos (by omega)]; (first | rw [if_pos (by omega)] | rw [if_neg (by omega)]), mw_thr hM (by rw [if_pos (by omega)])⟩ | first | (exfalso; omega) | exact qi_ok ⟨by rw [if_pos (by omega)] <;> (first | rfl | (show (_ : Int) = (if _ then 1 else 0); first | rw [if_pos (by omega)] | rw [if_neg (by omega)])), mw_thr hM (by rw [if_pos (by omega)])⟩ | exact qi_ok ⟨by rw [if_neg (by omega)], mw_thr hM (by rw [if_neg (by omega)] <;> (first | rw [if_pos (by omega)] | rw [if_neg (by omega)]))⟩ | exact qi_ok ⟨by rw [if_neg (by omega)], mw_thr hM (by rw [if_neg (by omega)])⟩
      · refine v_ald0 (pc := 45) dX5_inZone_45 ?_
        refine v_getf KX5 1 (pc := 46) dX5_inZone_46 (lw_all_tbl q1995) (Or.inl rfl) (Nat.le_of_ble_eq_true rfl) (mw_obj hM) rfl ?_
        refine v_ild1 (pc := 49) dX5_inZone_49 ?_
        refine v_ce0 (pc := 50) (v_runS1 okX5_zoneAt rfl (sp_X5_zoneAt) dX5_inZone_50 (lw_all_tbl q1991) (lw_all_tbl q1992) (Nat.le_of_ble_eq_true rfl) ⟨Nat.zero_le _, Nat.zero_le _⟩ (Nat.le_of_ble_eq_true rfl)) ?_
        refine v_iconst (pc := 53) dX5_inZone_53 ?_
        refine v_iadd (pc := 54) dX5_inZone_54 ?_
        refine v_ild2 (pc := 55) dX5_inZone_55 ?_
        refine v_iadd (pc := 56) dX5_inZone_56 ?_
        refine v_ldM_now hM (pc := 57) dX5_inZone_57 (by omega) ?_
        refine v_goto (pc := 58) (tgt := 62) dX5_inZone_58 rfl ?_
        refine v_ret_n (pc := 62) dX5_inZone_62 rfl ?_
        first | (exfalso; omega) | exact qi_ok ⟨by rw [if_pos (by omega)]; (first | rw [if_pos (by omega)] | rw [if_neg (by omega)]), mw_thr hM (by rw [if_pos (by omega)])⟩ | first | (exfalso; omega) | exact qi_ok ⟨by rw [if_pos (by omega)] <;> (first | rfl | (show (_ : Int) = (if _ then 1 else 0); first | rw [if_pos (by omega)] | rw [if_neg (by omega)])), mw_thr hM (by rw [if_pos (by omega)])⟩ | exact qi_ok ⟨by rw [if_neg (by omega)], mw_thr hM (by rw [if_neg (by omega)] <;> (first | rw [if_pos (by omega)] | rw [if_neg (by omega)]))⟩ | exact qi_ok ⟨by rw [if_neg (by omega)], mw_thr hM (by rw [if_neg (by omega)])⟩
  · refine v_if_eq0 (pc := 6) (tgt := 17) dX5_inZone_6 rfl ?_
    refine v_iconst (pc := 17) dX5_inZone_17 ?_
    refine v_ptM_thrown hM (pc := 18) dX5_inZone_18 (lw_all_tbl q1994) (fun h hM => ?_)
    refine v_ald0 (pc := 21) dX5_inZone_21 ?_
    refine v_getf KX5 0 (pc := 22) dX5_inZone_22 (lw_all_tbl q1994) (Or.inl rfl) (Nat.le_of_ble_eq_true rfl) (mw_obj hM) rfl ?_
    refine v_if_le (pc := 25) (tgt := 30) dX5_inZone_25 rfl (by omega) (fun c => absurd c (by decide)) (fun _ => ?_)
    refine v_iconst (pc := 28) dX5_inZone_28 ?_
    refine v_ret_n (pc := 29) dX5_inZone_29 rfl ?_
    first | (exfalso; omega) | exact qi_ok ⟨by rw [if_pos (by omega)]; (first | rw [if_pos (by omega)] | rw [if_neg (by omega)]), mw_thr hM (by rw [if_pos (by omega)])⟩ | first | (exfalso; omega) | exact qi_ok ⟨by rw [if_pos (by omega)] <;> (first | rfl | (show (_ : Int) = (if _ then 1 else 0); first | rw [if_pos (by omega)] | rw [if_neg (by omega)])), mw_thr hM (by rw [if_pos (by omega)])⟩ | exact qi_ok ⟨by rw [if_neg (by omega)], mw_thr hM (by rw [if_neg (by omega)] <;> (first | rw [if_pos (by omega)] | rw [if_neg (by omega)]))⟩ | exact qi_ok ⟨by rw [if_neg (by omega)], mw_thr hM (by rw [if_neg (by omega)])⟩
theorem sp_X5_due {Γ : Cx} {t : Nat} {α : Nat → Nat} {h0 h : AH} {thrown : Int} {now : Int → Int} {aside : Int → Int} {tried : Int → Int} {undos : Int → Int} {undoMany : Int} {saved : Int → Int} {isSaved : Int → Int} {accounts : Int → Int} {way : Int} {leftOut : Int} {here : Int → Int} {text : Int → Int} {length : Int} {atp : Int} {frm : Int} {token : Int} {number : Int} {error : Int} {errorAt : Int} {commands : Int} {command : Int → Int} {out : Int → Int} {outLong : Int} {c : Int} {z : Int} (hM : MW t α h0 h thrown now aside tried undos undoMany saved isSaved accounts way leftOut here text length atp frm token number error errorAt commands command out outLong) (hR : ROK now c) (hz : -2147483648 ≤ z ∧ z ≤ 2147483647) : Sp Γ yX5_due mX5_due 4 0 0 [.ref (α 0), vi z] h (Qi (fun x h' => x = (if 0 ≤ z ∧ z < now 0 then (if now (1706 + 13 * z + 0) = -1 then -1 else now (1706 + 13 * z + 0) * now 2 + now 2 - 1 + now 3 + 1) else 0) ∧ MW t α h0 h' ((if 0 ≤ z ∧ z < now 0 then 0 else 1)) now aside tried undos undoMany saved isSaved accounts way leftOut here text length atp frm token number error errorAt commands command out outLong)) NoX := by
  refine sp_of okX5_due (cat_all rfl) (Nat.le_of_ble_eq_true rfl) rfl ?_
  have hs0 := hR.s0
  have hc0 := hR.c0
  refine v_ald0 (pc := 0) dX5_due_0 ?_
  refine v_ald0 (pc := 1) dX5_due_1 ?_
  refine v_ild1 (pc := 2) dX5_due_2 ?_
  refine v_cb0 (pc := 3) (v_runV1 okX5_isZone rfl (sp_X5_isZone hM (by omega) (by omega)) dX5_due_3 (lw_all_tbl q2139) (lw_all_tbl q2141) (lw_all_tbl qs58) rfl (mw_obj hM) (Nat.le_of_ble_eq_true rfl) ⟨Nat.zero_le _, Nat.zero_le _⟩ (Nat.le_of_ble_eq_true rfl)) (fun c3 => ?_) (fun c3 => ?_)
  · have hzw := hR.zW z ⟨by omega, by omega⟩
    refine v_if_eq1 (pc := 6) (tgt := 13) dX5_due_6 rfl ?_
    refine v_iconst (pc := 9) dX5_due_9 ?_
    refine v_goto (pc := 10) (tgt := 14) dX5_due_10 rfl ?_
    refine v_ptM_thrown hM (pc := 14) dX5_due_14 (lw_all_tbl q1994) (fun h hM => ?_)
    refine v_ald0 (pc := 17) dX5_due_17 ?_
    refine v_getf KX5 0 (pc := 18) dX5_due_18 (lw_all_tbl q1994) (Or.inl rfl) (Nat.le_of_ble_eq_true rfl) (mw_obj hM) rfl ?_
    refine v_if_le (pc := 21) (tgt := 28) dX5_due_21 rfl (by omega) (fun _ => ?_) (fun c => absurd c (by decide))
    refine v_ald0 (pc := 28) dX5_due_28 ?_
    refine v_ild1 (pc := 29) dX5_due_29 ?_
    refine v_cb0 (pc := 30) (v_runV1 okX5_isFree rfl (sp_X5_isFree hM (by omega) (by omega)) dX5_due_30 (lw_all_tbl q2115) (lw_all_tbl q2117) (lw_all_tbl qs53) rfl (mw_obj hM) (Nat.le_of_ble_eq_true rfl) ⟨Nat.zero_le _, Nat.zero_le _⟩ (Nat.le_of_ble_eq_true rfl)) (fun c30 => ?_) (fun c30 => ?_)
    · refine v_if_eq1 (pc := 33) (tgt := 40) dX5_due_33 rfl ?_
      refine v_iconst (pc := 36) dX5_due_36 ?_
      refine v_goto (pc := 37) (tgt := 54) dX5_due_37 rfl ?_
      refine v_ret_n (pc := 54) dX5_due_54 rfl ?_
      first | (exfalso; omega) | exact qi_ok ⟨by rw [if_pos (by omega)]; (first | rw [if_pos (by omega)] | rw [if_neg (by omega)]), mw_thr hM (by rw [if_pos (by omega)])⟩ | first | (exfalso; omega) | exact qi_ok ⟨by rw [if_pos (by omega)] <;> (first | rfl | (show (_ : Int) = (if _ then 1 else 0); first | rw [if_pos (by omega)] | rw [if_neg (by omega)])), mw_thr hM (by rw [if_pos (by omega)])⟩ | exact qi_ok ⟨by rw [if_neg (by omega)], mw_thr hM (by rw [if_neg (by omega)] <;> (first | rw [if_pos (by omega)] | rw [if_neg (by omega)]))⟩ | exact qi_ok ⟨by rw [if_neg (by omega)], mw_thr hM (by rw [if_neg (by omega)])⟩
    · refine v_if_eq0 (pc := 33) (tgt := 40) dX5_due_33 rfl ?_
      refine v_ald0 (pc := 40) dX5_due_40 ?_
      refine v_ild1 (pc := 41) dX5_due_41 ?_
      refine v_ce0 (pc := 42) (v_runV1 okX5_lastDay rfl (sp_X5_lastDay hM (by omega)) dX5_due_42 (lw_all_tbl q2147) (lw_all_tbl q2149) (lw_all_tbl qs60) rfl (mw_obj hM) (Nat.le_of_ble_eq_true rfl) ⟨Nat.zero_le _, Nat.zero_le _⟩ (Nat.le_of_ble_eq_true rfl)) ?_
      refine v_ald0 (pc := 45) dX5_due_45 ?_
      refine v_getf KX5 1 (pc := 46) dX5_due_46 (lw_all_tbl q1995) (Or.inl rfl) (Nat.le_of_ble_eq_true rfl) (mw_obj hM) rfl ?_
      refine v_iconst (pc := 49) dX5_due_49 ?_
      refine v_ldM_now hM (pc := 50) dX5_due_50 (by omega) ?_
      refine v_iadd (pc := 51) dX5_due_51 ?_
      refine v_iconst (pc := 52) dX5_due_52 ?_
      refine v_iadd (pc := 53) dX5_due_53 ?_
      refine v_ret_n (pc := 54) dX5_due_54 rfl ?_
      first | (exfalso; omega) | exact qi_ok ⟨by rw [if_pos (by omega)]; (first | rw [if_pos (by omega)] | rw [if_neg (by omega)]), mw_thr hM (by rw [if_pos (by omega)])⟩ | first | (exfalso; omega) | exact qi_ok ⟨by rw [if_pos (by omega)] <;> (first | rfl | (show (_ : Int) = (if _ then 1 else 0); first | rw [if_pos (by omega)] | rw [if_neg (by omega)])), mw_thr hM (by rw [if_pos (by omega)])⟩ | exact qi_ok ⟨by rw [if_neg (by omega)], mw_thr hM (by rw [if_neg (by omega)] <;> (first | rw [if_pos (by omega)] | rw [if_neg (by omega)]))⟩ | exact qi_ok ⟨by rw [if_neg (by omega)], mw_thr hM (by rw [if_neg (by omega)])⟩
  · refine v_if_eq0 (pc := 6) (tgt := 13) dX5_due_6 rfl ?_
    refine v_iconst (pc := 13) dX5_due_13 ?_
    refine v_ptM_thrown hM (pc := 14) dX5_due_14 (lw_all_tbl q1994) (fun h hM => ?_)
    refine v_ald0 (pc := 17) dX5_due_17 ?_
    refine v_getf KX5 0 (pc := 18) dX5_due_18 (lw_all_tbl q1994) (Or.inl rfl) (Nat.le_of_ble_eq_true rfl) (mw_obj hM) rfl ?_
    refine v_if_le (pc := 21) (tgt := 28) dX5_due_21 rfl (by omega) (fun c => absurd c (by decide)) (fun _ => ?_)
    refine v_iconst (pc := 24) dX5_due_24 ?_
    refine v_goto (pc := 25) (tgt := 54) dX5_due_25 rfl ?_
    refine v_ret_n (pc := 54) dX5_due_54 rfl ?_
    first | (exfalso; omega) | exact qi_ok ⟨by rw [if_pos (by omega)]; (first | rw [if_pos (by omega)] | rw [if_neg (by omega)]), mw_thr hM (by rw [if_pos (by omega)])⟩ | first | (exfalso; omega) | exact qi_ok ⟨by rw [if_pos (by omega)] <;> (first | rfl | (show (_ : Int) = (if _ then 1 else 0); first | rw [if_pos (by omega)] | rw [if_neg (by omega)])), mw_thr hM (by rw [if_pos (by omega)])⟩ | exact qi_ok ⟨by rw [if_neg (by omega)], mw_thr hM (by rw [if_neg (by omega)] <;> (first | rw [if_pos (by omega)] | rw [if_neg (by omega)]))⟩ | exact qi_ok ⟨by rw [if_neg (by omega)], mw_thr hM (by rw [if_neg (by omega)])⟩
theorem sp_X5_place {Γ : Cx} {t : Nat} {α : Nat → Nat} {h0 h : AH} {thrown : Int} {now : Int → Int} {aside : Int → Int} {tried : Int → Int} {undos : Int → Int} {undoMany : Int} {saved : Int → Int} {isSaved : Int → Int} {accounts : Int → Int} {way : Int} {leftOut : Int} {here : Int → Int} {text : Int → Int} {length : Int} {atp : Int} {frm : Int} {token : Int} {number : Int} {error : Int} {errorAt : Int} {commands : Int} {command : Int → Int} {out : Int → Int} {outLong : Int} {c : Int} {wr sz : Int} (hM : MW t α h0 h thrown now aside tried undos undoMany saved isSaved accounts way leftOut here text length atp frm token number error errorAt commands command out outLong) (hR : ROK now c) (hway : 0 ≤ way ∧ way ≤ 6) (hw5 : way = 5) (hwr : -2147483648 ≤ wr ∧ wr ≤ 2147483647) (hsz : -2147483648 ≤ sz ∧ sz ≤ 2147483647) : Sp Γ yX5_place mX5_place 6 0 0 [.ref (α 0), vi wr, vi sz] h (Qi (fun x h' => x = (if (0 ≤ wr ∧ wr ≤ 7) ∧ 1 ≤ sz ∧ sz ≤ 3 then mZoneFor now ((now 6 + mTells now (mLeader now way) wr sz).tdiv (now 2)) sz (-1) else 0) ∧ MW t α h0 h' ((if (0 ≤ wr ∧ wr ≤ 7) ∧ 1 ≤ sz ∧ sz ≤ 3 then 0 else 1)) now aside tried undos undoMany saved isSaved accounts way leftOut here text length atp frm token number error errorAt commands command out outLong)) NoX := by
  refine sp_of okX5_place (cat_all rfl) (Nat.le_of_ble_eq_true rfl) rfl ?_
  have hlr := mLeader_r (w := now) hway
  have htr := mTells_r now (mLeader now way) wr sz
  have h6 := hR.s6
  have h2 := hR.s2
  have hc0 := hR.c0
  have hq := tdiv_rng (a := now 6 + mTells now (mLeader now way) wr sz) (b := now 2) (by omega) (by omega)
  refine v_ald0 (pc := 0) dX5_place_0 ?_
  refine v_ild1 (pc := 1) dX5_place_1 ?_
  refine v_ild2 (pc := 2) dX5_place_2 ?_
  refine v_cb0 (pc := 3) (v_runS2 okX5_isKind rfl (sp_X5_isKind (by omega) (by omega)) dX5_place_3 (lw_all_tbl q2174) (lw_all_tbl q2175) (Nat.le_of_ble_eq_true rfl) ⟨Nat.zero_le _, Nat.zero_le _⟩ (Nat.le_of_ble_eq_true rfl)) (fun c3 => ?_) (fun c3 => ?_)
  · refine v_if_eq1 (pc := 6) (tgt := 13) dX5_place_6 rfl ?_
    refine v_iconst (pc := 9) dX5_place_9 ?_
    refine v_goto (pc := 10) (tgt := 14) dX5_place_10 rfl ?_
    refine v_ptM_thrown hM (pc := 14) dX5_place_14 (lw_all_tbl q1994) (fun h hM => ?_)
    refine v_ald0 (pc := 17) dX5_place_17 ?_
    refine v_getf KX5 0 (pc := 18) dX5_place_18 (lw_all_tbl q1994) (Or.inl rfl) (Nat.le_of_ble_eq_true rfl) (mw_obj hM) rfl ?_
    refine v_if_le (pc := 21) (tgt := 26) dX5_place_21 rfl (by omega) (fun _ => ?_) (fun c => absurd c (by decide))
    refine v_ald0 (pc := 26) dX5_place_26 ?_
    refine v_ald0 (pc := 27) dX5_place_27 ?_
    refine v_getf KX5 1 (pc := 28) dX5_place_28 (lw_all_tbl q1995) (Or.inl rfl) (Nat.le_of_ble_eq_true rfl) (mw_obj hM) rfl ?_
    refine v_bipush (pc := 31) dX5_place_31 ⟨by decide, by decide⟩ ?_
    refine v_ldM_now hM (pc := 33) dX5_place_33 (by omega) ?_
    refine v_ald0 (pc := 34) dX5_place_34 ?_
    refine v_ald0 (pc := 35) dX5_place_35 ?_
    refine v_ce0 (pc := 36) (v_runV0 okX5_leader rfl (sp_X5_leader hM (by omega) (by omega)) dX5_place_36 (lw_all_tbl q2123) (lw_all_tbl q2125) (lw_all_tbl qs55) rfl (mw_obj hM) (Nat.le_of_ble_eq_true rfl) ⟨Nat.zero_le _, Nat.zero_le _⟩ (Nat.le_of_ble_eq_true rfl)) ?_
    refine v_ild1 (pc := 39) dX5_place_39 ?_
    refine v_ild2 (pc := 40) dX5_place_40 ?_
    refine v_ce0 (pc := 41) (v_runV3 okX5_tells rfl (sp_X5_tells hM (by omega) (by omega) (by omega) (by omega)) dX5_place_41 (lw_all_tbl q2177) (lw_all_tbl q2179) (lw_all_tbl qs63) rfl (mw_obj hM) (Nat.le_of_ble_eq_true rfl) ⟨Nat.zero_le _, Nat.zero_le _⟩ (Nat.le_of_ble_eq_true rfl)) ?_
    refine v_iadd (pc := 44) dX5_place_44 ?_
    refine v_ald0 (pc := 45) dX5_place_45 ?_
    refine v_getf KX5 1 (pc := 46) dX5_place_46 (lw_all_tbl q1995) (Or.inl rfl) (Nat.le_of_ble_eq_true rfl) (mw_obj hM) rfl ?_
    refine v_iconst (pc := 49) dX5_place_49 ?_
    refine v_ldM_now hM (pc := 50) dX5_place_50 (by omega) ?_
    refine v_idiv (pc := 51) dX5_place_51 (by omega) (by omega) (by omega) ?_
    refine v_ild2 (pc := 52) dX5_place_52 ?_
    refine v_iconst (pc := 53) dX5_place_53 ?_
    refine v_ce0 (pc := 54) (v_runV3 okX5_zoneFor rfl (sp_X5_zoneFor hM (by omega) (by omega) (by omega) (by omega)) dX5_place_54 (lw_all_tbl q2272) (lw_all_tbl q2274) (lw_all_tbl qs73) rfl (mw_obj hM) (Nat.le_of_ble_eq_true rfl) ⟨Nat.zero_le _, Nat.zero_le _⟩ (Nat.le_of_ble_eq_true rfl)) ?_
    refine v_ret_n (pc := 57) dX5_place_57 rfl ?_
    first | (exfalso; omega) | exact qi_ok ⟨by rw [if_pos (by omega)] <;> (first | rfl | (show (_ : Int) = (if _ then 1 else 0); first | rw [if_pos (by omega)] | rw [if_neg (by omega)])), mw_thr hM (by rw [if_pos (by omega)])⟩ | exact qi_ok ⟨by rw [if_neg (by omega)], mw_thr hM (by rw [if_neg (by omega)] <;> (first | rw [if_pos (by omega)] | rw [if_neg (by omega)]))⟩ | exact qi_ok ⟨by rw [if_neg (by omega)], mw_thr hM (by rw [if_neg (by omega)])⟩
  · refine v_if_eq0 (pc := 6) (tgt := 13) dX5_place_6 rfl ?_
    refine v_iconst (pc := 13) dX5_place_13 ?_
    refine v_ptM_thrown hM (pc := 14) dX5_place_14 (lw_all_tbl q1994) (fun h hM => ?_)
    refine v_ald0 (pc := 17) dX5_place_17 ?_
    refine v_getf KX5 0 (pc := 18) dX5_place_18 (lw_all_tbl q1994) (Or.inl rfl) (Nat.le_of_ble_eq_true rfl) (mw_obj hM) rfl ?_
    refine v_if_le (pc := 21) (tgt := 26) dX5_place_21 rfl (by omega) (fun c => absurd c (by decide)) (fun _ => ?_)
    refine v_iconst (pc := 24) dX5_place_24 ?_
    refine v_ret_n (pc := 25) dX5_place_25 rfl ?_
    first | (exfalso; omega) | exact qi_ok ⟨by rw [if_pos (by omega)] <;> (first | rfl | (show (_ : Int) = (if _ then 1 else 0); first | rw [if_pos (by omega)] | rw [if_neg (by omega)])), mw_thr hM (by rw [if_pos (by omega)])⟩ | exact qi_ok ⟨by rw [if_neg (by omega)], mw_thr hM (by rw [if_neg (by omega)] <;> (first | rw [if_pos (by omega)] | rw [if_neg (by omega)]))⟩ | exact qi_ok ⟨by rw [if_neg (by omega)], mw_thr hM (by rw [if_neg (by omega)])⟩
theorem sp_X5_leaderIf {Γ : Cx} {t : Nat} {α : Nat → Nat} {h0 h : AH} {thrown : Int} {now : Int → Int} {aside : Int → Int} {tried : Int → Int} {undos : Int → Int} {undoMany : Int} {saved : Int → Int} {isSaved : Int → Int} {accounts : Int → Int} {way : Int} {leftOut : Int} {here : Int → Int} {text : Int → Int} {length : Int} {atp : Int} {frm : Int} {token : Int} {number : Int} {error : Int} {errorAt : Int} {commands : Int} {command : Int → Int} {out : Int → Int} {outLong : Int} {c : Int} {u : Int} (hM : MW t α h0 h thrown now aside tried undos undoMany saved isSaved accounts way leftOut here text length atp frm token number error errorAt commands command out outLong) (hR : ROK now c) (hway : 0 ≤ way ∧ way ≤ 6) (hu : -2147483648 ≤ u ∧ u ≤ 2147483647) (hc : c + 1 ≤ 14000000) : Sp Γ yX5_leaderIf mX5_leaderIf 6 0 0 [.ref (α 0), vi u] h (Qi (fun x h' => x = (if 0 ≤ u ∧ u < now 7 then (if now (23 + 17 * u + 4) = 1 then mLeader (mDies now u) way else -1) else 0) ∧ ∃ tr, MW t α h0 h' ((if 0 ≤ u ∧ u < now 7 then 0 else 1)) now aside tr undos undoMany saved isSaved accounts way leftOut here text length atp frm token number error errorAt commands command out outLong)) NoX := by
  refine sp_of okX5_leaderIf (cat_all rfl) (Nat.le_of_ble_eq_true rfl) rfl ?_
  have h7 := hR.s7
  refine v_ald0 (pc := 0) dX5_leaderIf_0 ?_
  refine v_ald0 (pc := 1) dX5_leaderIf_1 ?_
  refine v_ild1 (pc := 2) dX5_leaderIf_2 ?_
  refine v_cb0 (pc := 3) (v_runV1 okX5_isUnit rfl (sp_X5_isUnit hM (by omega) (by omega)) dX5_leaderIf_3 (lw_all_tbl q2159) (lw_all_tbl q2161) (lw_all_tbl qs62) rfl (mw_obj hM) (Nat.le_of_ble_eq_true rfl) ⟨Nat.zero_le _, Nat.zero_le _⟩ (Nat.le_of_ble_eq_true rfl)) (fun c3 => ?_) (fun c3 => ?_)
  · have hlv := hR.uLv u ⟨by omega, by omega⟩
    refine v_if_eq1 (pc := 6) (tgt := 13) dX5_leaderIf_6 rfl ?_
    refine v_iconst (pc := 9) dX5_leaderIf_9 ?_
    refine v_goto (pc := 10) (tgt := 14) dX5_leaderIf_10 rfl ?_
    refine v_ptM_thrown hM (pc := 14) dX5_leaderIf_14 (lw_all_tbl q1994) (fun h hM => ?_)
    refine v_ald0 (pc := 17) dX5_leaderIf_17 ?_
    refine v_getf KX5 0 (pc := 18) dX5_leaderIf_18 (lw_all_tbl q1994) (Or.inl rfl) (Nat.le_of_ble_eq_true rfl) (mw_obj hM) rfl ?_
    refine v_if_gt (pc := 21) (tgt := 32) dX5_leaderIf_21 rfl (by omega) (fun c => absurd c (by decide)) (fun _ => ?_)
    refine v_ald0 (pc := 24) dX5_leaderIf_24 ?_
    refine v_ild1 (pc := 25) dX5_leaderIf_25 ?_
    refine v_cb0 (pc := 26) (v_runV1 okX5_lives rfl (sp_X5_lives hM (by omega) (by omega)) dX5_leaderIf_26 (lw_all_tbl q2100) (lw_all_tbl q2102) (lw_all_tbl qs50) rfl (mw_obj hM) (Nat.le_of_ble_eq_true rfl) ⟨Nat.zero_le _, Nat.zero_le _⟩ (Nat.le_of_ble_eq_true rfl)) (fun c26 => ?_) (fun c26 => ?_)
    · refine v_if_ne1 (pc := 29) (tgt := 45) dX5_leaderIf_29 rfl ?_
      refine v_ald0 (pc := 45) dX5_leaderIf_45 ?_
      refine v_getf KX5 1 (pc := 46) dX5_leaderIf_46 (lw_all_tbl q1995) (Or.inl rfl) (Nat.le_of_ble_eq_true rfl) (mw_obj hM) rfl ?_
      refine v_iconst (pc := 49) dX5_leaderIf_49 ?_
      refine v_ald0 (pc := 50) dX5_leaderIf_50 ?_
      refine v_getf KX5 3 (pc := 51) dX5_leaderIf_51 (lw_all_tbl q1997) (Or.inl rfl) (Nat.le_of_ble_eq_true rfl) (mw_obj hM) rfl ?_
      refine v_iconst (pc := 54) dX5_leaderIf_54 ?_
      refine v_cv0 (pc := 55) (v_runS4 okX5_copies rfl (sp_cp_now_tried hM) dX5_leaderIf_55 (lw_all_tbl q2253) (lw_all_tbl q2254) (Nat.le_of_ble_eq_true rfl) ⟨Nat.zero_le _, Nat.zero_le _⟩ (Nat.le_of_ble_eq_true rfl)) (fun h hM => ?_)
      refine v_ald0 (pc := 58) dX5_leaderIf_58 ?_
      refine v_ild1 (pc := 59) dX5_leaderIf_59 ?_
      refine v_cv0 (pc := 60) (v_runV1 okX5_dies rfl (sp_X5_dies hM (by omega) (by omega)) dX5_leaderIf_60 (lw_all_tbl q2296) (lw_all_tbl q2298) (lw_all_tbl qs79) rfl (mw_obj hM) (Nat.le_of_ble_eq_true rfl) ⟨Nat.zero_le _, Nat.zero_le _⟩ (Nat.le_of_ble_eq_true rfl)) (fun h hM => ?_)
      refine v_ald0 (pc := 63) dX5_leaderIf_63 ?_
      refine v_ce0 (pc := 64) (v_runV0 okX5_leader rfl (sp_X5_leader hM (mDies_ok hR (by omega) hc) (by omega)) dX5_leaderIf_64 (lw_all_tbl q2123) (lw_all_tbl q2125) (lw_all_tbl qs55) rfl (mw_obj hM) (Nat.le_of_ble_eq_true rfl) ⟨Nat.zero_le _, Nat.zero_le _⟩ (Nat.le_of_ble_eq_true rfl)) ?_
      refine v_ist2 (pc := 67) dX5_leaderIf_67 rfl ?_
      refine v_ald0 (pc := 68) dX5_leaderIf_68 ?_
      refine v_getf KX5 3 (pc := 69) dX5_leaderIf_69 (lw_all_tbl q1997) (Or.inl rfl) (Nat.le_of_ble_eq_true rfl) (mw_obj hM) rfl ?_
      refine v_iconst (pc := 72) dX5_leaderIf_72 ?_
      refine v_ald0 (pc := 73) dX5_leaderIf_73 ?_
      refine v_getf KX5 1 (pc := 74) dX5_leaderIf_74 (lw_all_tbl q1995) (Or.inl rfl) (Nat.le_of_ble_eq_true rfl) (mw_obj hM) rfl ?_
      refine v_iconst (pc := 77) dX5_leaderIf_77 ?_
      refine v_cv0 (pc := 78) (v_runS4 okX5_copies rfl (sp_cp_tried_now hM) dX5_leaderIf_78 (lw_all_tbl q2253) (lw_all_tbl q2254) (Nat.le_of_ble_eq_true rfl) ⟨Nat.zero_le _, Nat.zero_le _⟩ (Nat.le_of_ble_eq_true rfl)) (fun h hM => ?_)
      refine v_ild2 (pc := 81) dX5_leaderIf_81 ?_
      refine v_ret_n (pc := 82) dX5_leaderIf_82 rfl ?_
      rw [dies_back hR (by omega) hc] at hM
      exact qi_ok ⟨by rw [if_pos (by omega), if_pos (by omega)], _, mw_thr hM (by rw [if_pos (by omega)])⟩
    · refine v_if_ne0 (pc := 29) (tgt := 45) dX5_leaderIf_29 rfl ?_
      refine v_ald0 (pc := 32) dX5_leaderIf_32 ?_
      refine v_getf KX5 0 (pc := 33) dX5_leaderIf_33 (lw_all_tbl q1994) (Or.inl rfl) (Nat.le_of_ble_eq_true rfl) (mw_obj hM) rfl ?_
      refine v_if_le (pc := 36) (tgt := 43) dX5_leaderIf_36 rfl (by omega) (fun _ => ?_) (fun c => absurd c (by decide))
      refine v_iconst (pc := 43) dX5_leaderIf_43 ?_
      refine v_ret_n (pc := 44) dX5_leaderIf_44 rfl ?_
      first | exact qi_ok ⟨by rw [if_pos (by omega), if_neg (by omega)], _, mw_thr hM (by rw [if_pos (by omega)])⟩ | exact qi_ok ⟨by rw [if_neg (by omega)], _, mw_thr hM (by rw [if_neg (by omega)])⟩
  · refine v_if_eq0 (pc := 6) (tgt := 13) dX5_leaderIf_6 rfl ?_
    refine v_iconst (pc := 13) dX5_leaderIf_13 ?_
    refine v_ptM_thrown hM (pc := 14) dX5_leaderIf_14 (lw_all_tbl q1994) (fun h hM => ?_)
    refine v_ald0 (pc := 17) dX5_leaderIf_17 ?_
    refine v_getf KX5 0 (pc := 18) dX5_leaderIf_18 (lw_all_tbl q1994) (Or.inl rfl) (Nat.le_of_ble_eq_true rfl) (mw_obj hM) rfl ?_
    refine v_if_gt (pc := 21) (tgt := 32) dX5_leaderIf_21 rfl (by omega) (fun _ => ?_) (fun c => absurd c (by decide))
    refine v_ald0 (pc := 32) dX5_leaderIf_32 ?_
    refine v_getf KX5 0 (pc := 33) dX5_leaderIf_33 (lw_all_tbl q1994) (Or.inl rfl) (Nat.le_of_ble_eq_true rfl) (mw_obj hM) rfl ?_
    refine v_if_le (pc := 36) (tgt := 43) dX5_leaderIf_36 rfl (by omega) (fun c => absurd c (by decide)) (fun _ => ?_)
    refine v_iconst (pc := 39) dX5_leaderIf_39 ?_
    refine v_goto (pc := 40) (tgt := 44) dX5_leaderIf_40 rfl ?_
    refine v_ret_n (pc := 44) dX5_leaderIf_44 rfl ?_
    first | exact qi_ok ⟨by rw [if_pos (by omega), if_neg (by omega)], _, mw_thr hM (by rw [if_pos (by omega)])⟩ | exact qi_ok ⟨by rw [if_neg (by omega)], _, mw_thr hM (by rw [if_neg (by omega)])⟩
theorem sp_X5_set {Γ : Cx} {t : Nat} {α : Nat → Nat} {h0 h : AH} {thrown : Int} {now : Int → Int} {aside : Int → Int} {tried : Int → Int} {undos : Int → Int} {undoMany : Int} {saved : Int → Int} {isSaved : Int → Int} {accounts : Int → Int} {way : Int} {leftOut : Int} {here : Int → Int} {text : Int → Int} {length : Int} {atp : Int} {frm : Int} {token : Int} {number : Int} {error : Int} {errorAt : Int} {commands : Int} {command : Int → Int} {out : Int → Int} {outLong : Int} {c : Int} {k v : Int} (hM : MW t α h0 h thrown now aside tried undos undoMany saved isSaved accounts way leftOut here text length atp frm token number error errorAt commands command out outLong) (hR : ROK now c) (hk : -2147483648 ≤ k ∧ k ≤ 2147483647) (hv : -2147483648 ≤ v ∧ v ≤ 2147483647) : Sp Γ yX5_set mX5_set 2 0 0 [.ref (α 0), vi k, vi v] h (Qi (fun x h' => x = (if ((0 ≤ k ∧ k ≤ 5) ∧ mLow k ≤ v ∧ v ≤ mHigh k) ∧ now 11 = 0 then now k else 0) ∧ MW t α h0 h' ((if (0 ≤ k ∧ k ≤ 5) ∧ mLow k ≤ v ∧ v ≤ mHigh k then (if now 11 = 0 then 0 else 2) else 1)) ((if ((0 ≤ k ∧ k ≤ 5) ∧ mLow k ≤ v ∧ v ≤ mHigh k) ∧ now 11 = 0 then upi now k v else now)) aside tried undos undoMany saved isSaved accounts way leftOut here text length atp frm token number error errorAt commands command out outLong)) NoX := by
  refine sp_of okX5_set (cat_all rfl) (Nat.le_of_ble_eq_true rfl) rfl ?_
  have h11 := hR.s11
  have hlo : 0 ≤ mLow k ∧ mLow k ≤ 3 := by unfold mLow; (repeat (any_goals split)) <;> omega
  have hhi : 0 ≤ mHigh k ∧ mHigh k ≤ 99 := by unfold mHigh; (repeat (any_goals split)) <;> omega
  refine v_ald0 (pc := 0) dX5_set_0 ?_
  refine v_ild1 (pc := 1) dX5_set_1 ?_
  refine v_iconst (pc := 2) dX5_set_2 ?_
  refine v_iconst (pc := 3) dX5_set_3 ?_
  refine v_cb0 (pc := 4) (v_runS3 okX5_in rfl (sp_X5_in (by omega) (by omega) (by omega)) dX5_set_4 (lw_all_tbl q2079) (lw_all_tbl q2080) (Nat.le_of_ble_eq_true rfl) ⟨Nat.zero_le _, Nat.zero_le _⟩ (Nat.le_of_ble_eq_true rfl)) (fun c4 => ?_) (fun c4 => ?_)
  · refine v_if_eq1 (pc := 7) (tgt := 25) dX5_set_7 rfl ?_
    refine v_ild2 (pc := 10) dX5_set_10 ?_
    refine v_ild1 (pc := 11) dX5_set_11 ?_
    refine v_ce0 (pc := 12) (v_runS1 okX5_lowOf rfl (sp_X5_lowOf (by omega)) dX5_set_12 (lw_all_tbl q2082) (lw_all_tbl q2083) (Nat.le_of_ble_eq_true rfl) ⟨Nat.zero_le _, Nat.zero_le _⟩ (Nat.le_of_ble_eq_true rfl)) ?_
    refine v_ild1 (pc := 15) dX5_set_15 ?_
    refine v_ce0 (pc := 16) (v_runS1 okX5_highOf rfl (sp_X5_highOf (by omega)) dX5_set_16 (lw_all_tbl q2085) (lw_all_tbl q2086) (Nat.le_of_ble_eq_true rfl) ⟨Nat.zero_le _, Nat.zero_le _⟩ (Nat.le_of_ble_eq_true rfl)) ?_
    refine v_cb0 (pc := 19) (v_runS3 okX5_in rfl (sp_X5_in (by omega) (by omega) (by omega)) dX5_set_19 (lw_all_tbl q2079) (lw_all_tbl q2080) (Nat.le_of_ble_eq_true rfl) ⟨Nat.zero_le _, Nat.zero_le _⟩ (Nat.le_of_ble_eq_true rfl)) (fun c19 => ?_) (fun c19 => ?_)
    · refine v_if_ne1 (pc := 22) (tgt := 29) dX5_set_22 rfl ?_
      refine v_ald0 (pc := 29) dX5_set_29 ?_
      refine v_getf KX5 1 (pc := 30) dX5_set_30 (lw_all_tbl q1995) (Or.inl rfl) (Nat.le_of_ble_eq_true rfl) (mw_obj hM) rfl ?_
      refine v_bipush (pc := 33) dX5_set_33 ⟨by decide, by decide⟩ ?_
      refine v_ldM_now hM (pc := 35) dX5_set_35 (by omega) ?_
      refine v_if_le (pc := 36) (tgt := 43) dX5_set_36 rfl (by omega) (fun c36 => ?_) (fun c36 => ?_)
      · refine v_iconst (pc := 43) dX5_set_43 ?_
        refine v_ptM_thrown hM (pc := 44) dX5_set_44 (lw_all_tbl q1994) (fun h hM => ?_)
        refine v_ald0 (pc := 47) dX5_set_47 ?_
        refine v_getf KX5 0 (pc := 48) dX5_set_48 (lw_all_tbl q1994) (Or.inl rfl) (Nat.le_of_ble_eq_true rfl) (mw_obj hM) rfl ?_
        refine v_if_le (pc := 51) (tgt := 56) dX5_set_51 rfl (by omega) (fun _ => ?_) (fun c => absurd c (by decide))
        refine v_ald0 (pc := 56) dX5_set_56 ?_
        refine v_getf KX5 1 (pc := 57) dX5_set_57 (lw_all_tbl q1995) (Or.inl rfl) (Nat.le_of_ble_eq_true rfl) (mw_obj hM) rfl ?_
        refine v_ild1 (pc := 60) dX5_set_60 ?_
        refine v_ldM_now hM (pc := 61) dX5_set_61 (by omega) ?_
        refine v_ist3 (pc := 62) dX5_set_62 rfl ?_
        refine v_ald0 (pc := 63) dX5_set_63 ?_
        refine v_getf KX5 1 (pc := 64) dX5_set_64 (lw_all_tbl q1995) (Or.inl rfl) (Nat.le_of_ble_eq_true rfl) (mw_obj hM) rfl ?_
        refine v_ild1 (pc := 67) dX5_set_67 ?_
        refine v_ild2 (pc := 68) dX5_set_68 ?_
        refine v_stM_now hM (pc := 69) dX5_set_69 (by omega) (fun h hM => ?_)
        refine v_ild3 (pc := 70) dX5_set_70 ?_
        refine v_ret_n (pc := 71) dX5_set_71 rfl ?_
        first | (have hC : ((0 ≤ k ∧ k ≤ 5) ∧ mLow k ≤ v ∧ v ≤ mHigh k) ∧ now 11 = 0 := (by omega); exact qi_ok ⟨by rw [if_pos hC], by rw [if_pos hC, if_pos hC.1, if_pos hC.2]; exact hM⟩) | (have hV : (0 ≤ k ∧ k ≤ 5) ∧ mLow k ≤ v ∧ v ≤ mHigh k := (by omega); have hN : ¬ now 11 = 0 := (by omega); have hC : ¬ (((0 ≤ k ∧ k ≤ 5) ∧ mLow k ≤ v ∧ v ≤ mHigh k) ∧ now 11 = 0) := fun q => hN q.2; exact qi_ok ⟨by rw [if_neg hC], by rw [if_neg hC, if_pos hV, if_neg hN]; exact hM⟩) | (have hV : ¬ ((0 ≤ k ∧ k ≤ 5) ∧ mLow k ≤ v ∧ v ≤ mHigh k) := (by omega); have hC : ¬ (((0 ≤ k ∧ k ≤ 5) ∧ mLow k ≤ v ∧ v ≤ mHigh k) ∧ now 11 = 0) := fun q => hV q.1; exact qi_ok ⟨by rw [if_neg hC], by rw [if_neg hC, if_neg hV]; exact hM⟩)
      · refine v_iconst (pc := 39) dX5_set_39 ?_
        refine v_goto (pc := 40) (tgt := 44) dX5_set_40 rfl ?_
        refine v_ptM_thrown hM (pc := 44) dX5_set_44 (lw_all_tbl q1994) (fun h hM => ?_)
        refine v_ald0 (pc := 47) dX5_set_47 ?_
        refine v_getf KX5 0 (pc := 48) dX5_set_48 (lw_all_tbl q1994) (Or.inl rfl) (Nat.le_of_ble_eq_true rfl) (mw_obj hM) rfl ?_
        refine v_if_le (pc := 51) (tgt := 56) dX5_set_51 rfl (by omega) (fun c => absurd c (by decide)) (fun _ => ?_)
        refine v_iconst (pc := 54) dX5_set_54 ?_
        refine v_ret_n (pc := 55) dX5_set_55 rfl ?_
        first | (have hC : ((0 ≤ k ∧ k ≤ 5) ∧ mLow k ≤ v ∧ v ≤ mHigh k) ∧ now 11 = 0 := (by omega); exact qi_ok ⟨by rw [if_pos hC], by rw [if_pos hC, if_pos hC.1, if_pos hC.2]; exact hM⟩) | (have hV : (0 ≤ k ∧ k ≤ 5) ∧ mLow k ≤ v ∧ v ≤ mHigh k := (by omega); have hN : ¬ now 11 = 0 := (by omega); have hC : ¬ (((0 ≤ k ∧ k ≤ 5) ∧ mLow k ≤ v ∧ v ≤ mHigh k) ∧ now 11 = 0) := fun q => hN q.2; exact qi_ok ⟨by rw [if_neg hC], by rw [if_neg hC, if_pos hV, if_neg hN]; exact hM⟩) | (have hV : ¬ ((0 ≤ k ∧ k ≤ 5) ∧ mLow k ≤ v ∧ v ≤ mHigh k) := (by omega); have hC : ¬ (((0 ≤ k ∧ k ≤ 5) ∧ mLow k ≤ v ∧ v ≤ mHigh k) ∧ now 11 = 0) := fun q => hV q.1; exact qi_ok ⟨by rw [if_neg hC], by rw [if_neg hC, if_neg hV]; exact hM⟩)
    · refine v_if_ne0 (pc := 22) (tgt := 29) dX5_set_22 rfl ?_
      refine v_iconst (pc := 25) dX5_set_25 ?_
      refine v_goto (pc := 26) (tgt := 44) dX5_set_26 rfl ?_
      refine v_ptM_thrown hM (pc := 44) dX5_set_44 (lw_all_tbl q1994) (fun h hM => ?_)
      refine v_ald0 (pc := 47) dX5_set_47 ?_
      refine v_getf KX5 0 (pc := 48) dX5_set_48 (lw_all_tbl q1994) (Or.inl rfl) (Nat.le_of_ble_eq_true rfl) (mw_obj hM) rfl ?_
      refine v_if_le (pc := 51) (tgt := 56) dX5_set_51 rfl (by omega) (fun c => absurd c (by decide)) (fun _ => ?_)
      refine v_iconst (pc := 54) dX5_set_54 ?_
      refine v_ret_n (pc := 55) dX5_set_55 rfl ?_
      first | (have hC : ((0 ≤ k ∧ k ≤ 5) ∧ mLow k ≤ v ∧ v ≤ mHigh k) ∧ now 11 = 0 := (by omega); exact qi_ok ⟨by rw [if_pos hC], by rw [if_pos hC, if_pos hC.1, if_pos hC.2]; exact hM⟩) | (have hV : (0 ≤ k ∧ k ≤ 5) ∧ mLow k ≤ v ∧ v ≤ mHigh k := (by omega); have hN : ¬ now 11 = 0 := (by omega); have hC : ¬ (((0 ≤ k ∧ k ≤ 5) ∧ mLow k ≤ v ∧ v ≤ mHigh k) ∧ now 11 = 0) := fun q => hN q.2; exact qi_ok ⟨by rw [if_neg hC], by rw [if_neg hC, if_pos hV, if_neg hN]; exact hM⟩) | (have hV : ¬ ((0 ≤ k ∧ k ≤ 5) ∧ mLow k ≤ v ∧ v ≤ mHigh k) := (by omega); have hC : ¬ (((0 ≤ k ∧ k ≤ 5) ∧ mLow k ≤ v ∧ v ≤ mHigh k) ∧ now 11 = 0) := fun q => hV q.1; exact qi_ok ⟨by rw [if_neg hC], by rw [if_neg hC, if_neg hV]; exact hM⟩)
  · refine v_if_eq0 (pc := 7) (tgt := 25) dX5_set_7 rfl ?_
    refine v_iconst (pc := 25) dX5_set_25 ?_
    refine v_goto (pc := 26) (tgt := 44) dX5_set_26 rfl ?_
    refine v_ptM_thrown hM (pc := 44) dX5_set_44 (lw_all_tbl q1994) (fun h hM => ?_)
    refine v_ald0 (pc := 47) dX5_set_47 ?_
    refine v_getf KX5 0 (pc := 48) dX5_set_48 (lw_all_tbl q1994) (Or.inl rfl) (Nat.le_of_ble_eq_true rfl) (mw_obj hM) rfl ?_
    refine v_if_le (pc := 51) (tgt := 56) dX5_set_51 rfl (by omega) (fun c => absurd c (by decide)) (fun _ => ?_)
    refine v_iconst (pc := 54) dX5_set_54 ?_
    refine v_ret_n (pc := 55) dX5_set_55 rfl ?_
    first | (have hC : ((0 ≤ k ∧ k ≤ 5) ∧ mLow k ≤ v ∧ v ≤ mHigh k) ∧ now 11 = 0 := (by omega); exact qi_ok ⟨by rw [if_pos hC], by rw [if_pos hC, if_pos hC.1, if_pos hC.2]; exact hM⟩) | (have hV : (0 ≤ k ∧ k ≤ 5) ∧ mLow k ≤ v ∧ v ≤ mHigh k := (by omega); have hN : ¬ now 11 = 0 := (by omega); have hC : ¬ (((0 ≤ k ∧ k ≤ 5) ∧ mLow k ≤ v ∧ v ≤ mHigh k) ∧ now 11 = 0) := fun q => hN q.2; exact qi_ok ⟨by rw [if_neg hC], by rw [if_neg hC, if_pos hV, if_neg hN]; exact hM⟩) | (have hV : ¬ ((0 ≤ k ∧ k ≤ 5) ∧ mLow k ≤ v ∧ v ≤ mHigh k) := (by omega); have hC : ¬ (((0 ≤ k ∧ k ≤ 5) ∧ mLow k ≤ v ∧ v ≤ mHigh k) ∧ now 11 = 0) := fun q => hV q.1; exact qi_ok ⟨by rw [if_neg hC], by rw [if_neg hC, if_neg hV]; exact hM⟩)
theorem sp_X5_clear {Γ : Cx} {t : Nat} {α : Nat → Nat} {h0 h : AH} {thrown : Int} {now : Int → Int} {aside : Int → Int} {tried : Int → Int} {undos : Int → Int} {undoMany : Int} {saved : Int → Int} {isSaved : Int → Int} {accounts : Int → Int} {way : Int} {leftOut : Int} {here : Int → Int} {text : Int → Int} {length : Int} {atp : Int} {frm : Int} {token : Int} {number : Int} {error : Int} {errorAt : Int} {commands : Int} {command : Int → Int} {out : Int → Int} {outLong : Int} {c : Int}  (hM : MW t α h0 h thrown now aside tried undos undoMany saved isSaved accounts way leftOut here text length atp frm token number error errorAt commands command out outLong) (hR : ROK now c) : Sp Γ yX5_clear mX5_clear 3 0 0 [.ref (α 0)] h (Qi (fun x h' => x = now 11 ∧ MW t α h0 h' 0 ((mBegin now)) aside tried undos 0 saved isSaved accounts way leftOut here text length atp frm token number error errorAt commands command out outLong)) NoX := by
  refine sp_of okX5_clear (cat_all rfl) (Nat.le_of_ble_eq_true rfl) rfl ?_
  refine v_ald0 (pc := 0) dX5_clear_0 ?_
  refine v_iconst (pc := 1) dX5_clear_1 ?_
  refine v_ptM_thrown hM (pc := 2) dX5_clear_2 (lw_all_tbl q1994) (fun h hM => ?_)
  refine v_ald0 (pc := 5) dX5_clear_5 ?_
  refine v_getf KX5 1 (pc := 6) dX5_clear_6 (lw_all_tbl q1995) (Or.inl rfl) (Nat.le_of_ble_eq_true rfl) (mw_obj hM) rfl ?_
  refine v_bipush (pc := 9) dX5_clear_9 ⟨by decide, by decide⟩ ?_
  refine v_ldM_now hM (pc := 11) dX5_clear_11 (by omega) ?_
  refine v_ist1 (pc := 12) dX5_clear_12 rfl ?_
  refine v_ald0 (pc := 13) dX5_clear_13 ?_
  refine v_cv0 (pc := 14) (v_runV0 okX5_begins rfl (sp_X5_begins hM) dX5_clear_14 (lw_all_tbl q1987) (lw_all_tbl q1989) (lw_all_tbl qs48) rfl (mw_obj hM) (Nat.le_of_ble_eq_true rfl) ⟨Nat.zero_le _, Nat.zero_le _⟩ (Nat.le_of_ble_eq_true rfl)) (fun h hM => ?_)
  refine v_ald0 (pc := 17) dX5_clear_17 ?_
  refine v_iconst (pc := 18) dX5_clear_18 ?_
  refine v_ptM_undoMany hM (pc := 19) dX5_clear_19 (lw_all_tbl q1999) (fun h hM => ?_)
  refine v_ild1 (pc := 22) dX5_clear_22 ?_
  refine v_ret_n (pc := 23) dX5_clear_23 rfl ?_
  exact qi_ok ⟨rfl, hM⟩
theorem sp_X5_undo {Γ : Cx} {t : Nat} {α : Nat → Nat} {h0 h : AH} {thrown : Int} {now : Int → Int} {aside : Int → Int} {tried : Int → Int} {undos : Int → Int} {undoMany : Int} {saved : Int → Int} {isSaved : Int → Int} {accounts : Int → Int} {way : Int} {leftOut : Int} {here : Int → Int} {text : Int → Int} {length : Int} {atp : Int} {frm : Int} {token : Int} {number : Int} {error : Int} {errorAt : Int} {commands : Int} {command : Int → Int} {out : Int → Int} {outLong : Int}  (hM : MW t α h0 h thrown now aside tried undos undoMany saved isSaved accounts way leftOut here text length atp frm token number error errorAt commands command out outLong) (hum : 0 ≤ undoMany ∧ undoMany ≤ 8) : Sp Γ yX5_undo mX5_undo 2 0 0 [.ref (α 0)] h (Qi (fun x h' => x = (if undoMany = 0 then -1 else undoMany - 1) ∧ MW t α h0 h' 0 ((if undoMany = 0 then now else cpy undos (2462 * (undoMany - 1)) now 0)) aside tried undos ((if undoMany = 0 then 0 else undoMany - 1)) saved isSaved accounts way leftOut here text length atp frm token number error errorAt commands command out outLong)) NoX := by
  refine sp_of okX5_undo (cat_all rfl) (Nat.le_of_ble_eq_true rfl) rfl ?_
  refine v_ald0 (pc := 0) dX5_undo_0 ?_
  refine v_iconst (pc := 1) dX5_undo_1 ?_
  refine v_ptM_thrown hM (pc := 2) dX5_undo_2 (lw_all_tbl q1994) (fun h hM => ?_)
  refine v_ald0 (pc := 5) dX5_undo_5 ?_
  refine v_getf KX5 5 (pc := 6) dX5_undo_6 (lw_all_tbl q1999) (Or.inl rfl) (Nat.le_of_ble_eq_true rfl) (mw_obj hM) rfl ?_
  refine v_if_ne (pc := 9) (tgt := 14) dX5_undo_9 rfl (by omega) (fun c9 => ?_) (fun c9 => ?_)
  · refine v_ald0 (pc := 14) dX5_undo_14 ?_
    refine v_dup (pc := 15) dX5_undo_15 rfl ?_
    refine v_getf KX5 5 (pc := 16) dX5_undo_16 (lw_all_tbl q1999) (Or.inl rfl) (Nat.le_of_ble_eq_true rfl) (mw_obj hM) rfl ?_
    refine v_iconst (pc := 19) dX5_undo_19 ?_
    refine v_isub (pc := 20) dX5_undo_20 ?_
    refine v_ptM_undoMany hM (pc := 21) dX5_undo_21 (lw_all_tbl q1999) (fun h hM => ?_)
    refine v_ald0 (pc := 24) dX5_undo_24 ?_
    refine v_getf KX5 4 (pc := 25) dX5_undo_25 (lw_all_tbl q1998) (Or.inl rfl) (Nat.le_of_ble_eq_true rfl) (mw_obj hM) rfl ?_
    refine v_sipush (pc := 28) dX5_undo_28 ⟨by decide, by decide⟩ ?_
    refine v_ald0 (pc := 31) dX5_undo_31 ?_
    refine v_getf KX5 5 (pc := 32) dX5_undo_32 (lw_all_tbl q1999) (Or.inl rfl) (Nat.le_of_ble_eq_true rfl) (mw_obj hM) rfl ?_
    refine v_imul (pc := 35) dX5_undo_35 ?_
    refine v_ald0 (pc := 36) dX5_undo_36 ?_
    refine v_getf KX5 1 (pc := 37) dX5_undo_37 (lw_all_tbl q1995) (Or.inl rfl) (Nat.le_of_ble_eq_true rfl) (mw_obj hM) rfl ?_
    refine v_iconst (pc := 40) dX5_undo_40 ?_
    refine v_cv0 (pc := 41) (v_runS4 okX5_copies rfl (sp_cp_undos_now hM (by omega)) dX5_undo_41 (lw_all_tbl q2253) (lw_all_tbl q2254) (Nat.le_of_ble_eq_true rfl) ⟨Nat.zero_le _, Nat.zero_le _⟩ (Nat.le_of_ble_eq_true rfl)) (fun h hM => ?_)
    refine v_ald0 (pc := 44) dX5_undo_44 ?_
    refine v_getf KX5 5 (pc := 45) dX5_undo_45 (lw_all_tbl q1999) (Or.inl rfl) (Nat.le_of_ble_eq_true rfl) (mw_obj hM) rfl ?_
    refine v_ret_n (pc := 48) dX5_undo_48 rfl ?_
    exact qi_ok ⟨by rw [if_neg (by omega)], by rw [if_neg (by omega), if_neg (by omega)]; exact hM⟩
  · refine v_iconst (pc := 12) dX5_undo_12 ?_
    refine v_ret_n (pc := 13) dX5_undo_13 rfl ?_
    have e : undoMany = 0 := by omega
    exact qi_ok ⟨by rw [if_pos e], by rw [if_pos e, if_pos e]; exact e ▸ hM⟩
theorem sp_X5_save {Γ : Cx} {t : Nat} {α : Nat → Nat} {h0 h : AH} {thrown : Int} {now : Int → Int} {aside : Int → Int} {tried : Int → Int} {undos : Int → Int} {undoMany : Int} {saved : Int → Int} {isSaved : Int → Int} {accounts : Int → Int} {way : Int} {leftOut : Int} {here : Int → Int} {text : Int → Int} {length : Int} {atp : Int} {frm : Int} {token : Int} {number : Int} {error : Int} {errorAt : Int} {commands : Int} {command : Int → Int} {out : Int → Int} {outLong : Int} {k : Int} (hM : MW t α h0 h thrown now aside tried undos undoMany saved isSaved accounts way leftOut here text length atp frm token number error errorAt commands command out outLong) (hk : -2147483648 ≤ k ∧ k ≤ 2147483647) : Sp Γ yX5_save mX5_save 2 0 0 [.ref (α 0), vi k] h (Qv (fun h' => MW t α h0 h' ((if 0 ≤ k ∧ k ≤ 1 then 0 else 1)) now aside tried undos undoMany ((if 0 ≤ k ∧ k ≤ 1 then cpy now 0 saved (2462 * k) else saved)) ((if 0 ≤ k ∧ k ≤ 1 then upi isSaved k 1 else isSaved)) accounts way leftOut here text length atp frm token number error errorAt commands command out outLong)) NoX := by
  refine sp_of okX5_save (cat_all rfl) (Nat.le_of_ble_eq_true rfl) rfl ?_
  refine v_ald0 (pc := 0) dX5_save_0 ?_
  refine v_ild1 (pc := 1) dX5_save_1 ?_
  refine v_iconst (pc := 2) dX5_save_2 ?_
  refine v_iconst (pc := 3) dX5_save_3 ?_
  refine v_cb0 (pc := 4) (v_runS3 okX5_in rfl (sp_X5_in (by omega) (by omega) (by omega)) dX5_save_4 (lw_all_tbl q2079) (lw_all_tbl q2080) (Nat.le_of_ble_eq_true rfl) ⟨Nat.zero_le _, Nat.zero_le _⟩ (Nat.le_of_ble_eq_true rfl)) (fun c4 => ?_) (fun c4 => ?_)
  · refine v_if_eq1 (pc := 7) (tgt := 14) dX5_save_7 rfl ?_
    refine v_iconst (pc := 10) dX5_save_10 ?_
    refine v_goto (pc := 11) (tgt := 15) dX5_save_11 rfl ?_
    refine v_ptM_thrown hM (pc := 15) dX5_save_15 (lw_all_tbl q1994) (fun h hM => ?_)
    refine v_ald0 (pc := 18) dX5_save_18 ?_
    refine v_getf KX5 0 (pc := 19) dX5_save_19 (lw_all_tbl q1994) (Or.inl rfl) (Nat.le_of_ble_eq_true rfl) (mw_obj hM) rfl ?_
    refine v_if_le (pc := 22) (tgt := 26) dX5_save_22 rfl (by omega) (fun _ => ?_) (fun c => absurd c (by decide))
    refine v_ald0 (pc := 26) dX5_save_26 ?_
    refine v_getf KX5 1 (pc := 27) dX5_save_27 (lw_all_tbl q1995) (Or.inl rfl) (Nat.le_of_ble_eq_true rfl) (mw_obj hM) rfl ?_
    refine v_iconst (pc := 30) dX5_save_30 ?_
    refine v_ald0 (pc := 31) dX5_save_31 ?_
    refine v_getf KX5 6 (pc := 32) dX5_save_32 (lw_all_tbl q2000) (Or.inl rfl) (Nat.le_of_ble_eq_true rfl) (mw_obj hM) rfl ?_
    refine v_sipush (pc := 35) dX5_save_35 ⟨by decide, by decide⟩ ?_
    refine v_ild1 (pc := 38) dX5_save_38 ?_
    refine v_imul (pc := 39) dX5_save_39 ?_
    refine v_cv0 (pc := 40) (v_runS4 okX5_copies rfl (sp_cp_now_saved hM (by omega)) dX5_save_40 (lw_all_tbl q2253) (lw_all_tbl q2254) (Nat.le_of_ble_eq_true rfl) ⟨Nat.zero_le _, Nat.zero_le _⟩ (Nat.le_of_ble_eq_true rfl)) (fun h hM => ?_)
    refine v_ald0 (pc := 43) dX5_save_43 ?_
    refine v_getf KX5 7 (pc := 44) dX5_save_44 (lw_all_tbl q2001) (Or.inl rfl) (Nat.le_of_ble_eq_true rfl) (mw_obj hM) rfl ?_
    refine v_ild1 (pc := 47) dX5_save_47 ?_
    refine v_iconst (pc := 48) dX5_save_48 ?_
    refine v_stM_isSaved hM (pc := 49) dX5_save_49 (by omega) (fun h hM => ?_)
    refine v_ret_v (pc := 50) dX5_save_50 rfl ?_
    exact qv_ok (by rw [if_pos (by omega), if_pos (by omega), if_pos (by omega)]; exact hM)
  · refine v_if_eq0 (pc := 7) (tgt := 14) dX5_save_7 rfl ?_
    refine v_iconst (pc := 14) dX5_save_14 ?_
    refine v_ptM_thrown hM (pc := 15) dX5_save_15 (lw_all_tbl q1994) (fun h hM => ?_)
    refine v_ald0 (pc := 18) dX5_save_18 ?_
    refine v_getf KX5 0 (pc := 19) dX5_save_19 (lw_all_tbl q1994) (Or.inl rfl) (Nat.le_of_ble_eq_true rfl) (mw_obj hM) rfl ?_
    refine v_if_le (pc := 22) (tgt := 26) dX5_save_22 rfl (by omega) (fun c => absurd c (by decide)) (fun _ => ?_)
    refine v_ret_v (pc := 25) dX5_save_25 rfl ?_
    exact qv_ok (by rw [if_neg (by omega), if_neg (by omega), if_neg (by omega)]; exact hM)
theorem sp_X5_restore {Γ : Cx} {t : Nat} {α : Nat → Nat} {h0 h : AH} {thrown : Int} {now : Int → Int} {aside : Int → Int} {tried : Int → Int} {undos : Int → Int} {undoMany : Int} {saved : Int → Int} {isSaved : Int → Int} {accounts : Int → Int} {way : Int} {leftOut : Int} {here : Int → Int} {text : Int → Int} {length : Int} {atp : Int} {frm : Int} {token : Int} {number : Int} {error : Int} {errorAt : Int} {commands : Int} {command : Int → Int} {out : Int → Int} {outLong : Int} {k : Int} (hM : MW t α h0 h thrown now aside tried undos undoMany saved isSaved accounts way leftOut here text length atp frm token number error errorAt commands command out outLong) (hk : -2147483648 ≤ k ∧ k ≤ 2147483647) (hs : ∀ k, 0 ≤ k ∧ k ≤ 1 → 0 ≤ isSaved k ∧ isSaved k ≤ 1) : Sp Γ yX5_restore mX5_restore 2 0 0 [.ref (α 0), vi k] h (Qv (fun h' => MW t α h0 h' ((if 0 ≤ k ∧ k ≤ 1 then (if isSaved k = 1 then 0 else 2) else 1)) ((if (0 ≤ k ∧ k ≤ 1) ∧ isSaved k = 1 then cpy saved (2462 * k) now 0 else now)) aside tried undos ((if (0 ≤ k ∧ k ≤ 1) ∧ isSaved k = 1 then 0 else undoMany)) saved isSaved accounts way leftOut here text length atp frm token number error errorAt commands command out outLong)) NoX := by
  refine sp_of okX5_restore (cat_all rfl) (Nat.le_of_ble_eq_true rfl) rfl ?_
  refine v_ald0 (pc := 0) dX5_restore_0 ?_
  refine v_ild1 (pc := 1) dX5_restore_1 ?_
  refine v_iconst (pc := 2) dX5_restore_2 ?_
  refine v_iconst (pc := 3) dX5_restore_3 ?_
  refine v_cb0 (pc := 4) (v_runS3 okX5_in rfl (sp_X5_in (by omega) (by omega) (by omega)) dX5_restore_4 (lw_all_tbl q2079) (lw_all_tbl q2080) (Nat.le_of_ble_eq_true rfl) ⟨Nat.zero_le _, Nat.zero_le _⟩ (Nat.le_of_ble_eq_true rfl)) (fun c4 => ?_) (fun c4 => ?_)
  · have hsk := hs k (by omega)
    refine v_if_ne1 (pc := 7) (tgt := 14) dX5_restore_7 rfl ?_
    refine v_ald0 (pc := 14) dX5_restore_14 ?_
    refine v_getf KX5 7 (pc := 15) dX5_restore_15 (lw_all_tbl q2001) (Or.inl rfl) (Nat.le_of_ble_eq_true rfl) (mw_obj hM) rfl ?_
    refine v_ild1 (pc := 18) dX5_restore_18 ?_
    refine v_ldM_isSaved hM (pc := 19) dX5_restore_19 (by omega) ?_
    refine v_if_eq (pc := 20) (tgt := 27) dX5_restore_20 rfl (by omega) (fun c20 => ?_) (fun c20 => ?_)
    · refine v_iconst (pc := 27) dX5_restore_27 ?_
      refine v_ptM_thrown hM (pc := 28) dX5_restore_28 (lw_all_tbl q1994) (fun h hM => ?_)
      refine v_ald0 (pc := 31) dX5_restore_31 ?_
      refine v_getf KX5 0 (pc := 32) dX5_restore_32 (lw_all_tbl q1994) (Or.inl rfl) (Nat.le_of_ble_eq_true rfl) (mw_obj hM) rfl ?_
      refine v_if_le (pc := 35) (tgt := 39) dX5_restore_35 rfl (by omega) (fun c => absurd c (by decide)) (fun _ => ?_)
      refine v_ret_v (pc := 38) dX5_restore_38 rfl ?_
      first | (have hC : (0 ≤ k ∧ k ≤ 1) ∧ isSaved k = 1 := (by omega); exact qv_ok (by rw [if_pos hC, if_pos hC, if_pos hC.1, if_pos hC.2]; exact hM)) | (have hV : 0 ≤ k ∧ k ≤ 1 := (by omega); have hN : ¬ isSaved k = 1 := (by omega); have hC : ¬ ((0 ≤ k ∧ k ≤ 1) ∧ isSaved k = 1) := fun q => hN q.2; exact qv_ok (by rw [if_neg hC, if_neg hC, if_pos hV, if_neg hN]; exact hM)) | (have hV : ¬ (0 ≤ k ∧ k ≤ 1) := (by omega); have hC : ¬ ((0 ≤ k ∧ k ≤ 1) ∧ isSaved k = 1) := fun q => hV q.1; exact qv_ok (by rw [if_neg hC, if_neg hC, if_neg hV]; exact hM))
    · refine v_iconst (pc := 23) dX5_restore_23 ?_
      refine v_goto (pc := 24) (tgt := 28) dX5_restore_24 rfl ?_
      refine v_ptM_thrown hM (pc := 28) dX5_restore_28 (lw_all_tbl q1994) (fun h hM => ?_)
      refine v_ald0 (pc := 31) dX5_restore_31 ?_
      refine v_getf KX5 0 (pc := 32) dX5_restore_32 (lw_all_tbl q1994) (Or.inl rfl) (Nat.le_of_ble_eq_true rfl) (mw_obj hM) rfl ?_
      refine v_if_le (pc := 35) (tgt := 39) dX5_restore_35 rfl (by omega) (fun _ => ?_) (fun c => absurd c (by decide))
      refine v_ald0 (pc := 39) dX5_restore_39 ?_
      refine v_getf KX5 6 (pc := 40) dX5_restore_40 (lw_all_tbl q2000) (Or.inl rfl) (Nat.le_of_ble_eq_true rfl) (mw_obj hM) rfl ?_
      refine v_sipush (pc := 43) dX5_restore_43 ⟨by decide, by decide⟩ ?_
      refine v_ild1 (pc := 46) dX5_restore_46 ?_
      refine v_imul (pc := 47) dX5_restore_47 ?_
      refine v_ald0 (pc := 48) dX5_restore_48 ?_
      refine v_getf KX5 1 (pc := 49) dX5_restore_49 (lw_all_tbl q1995) (Or.inl rfl) (Nat.le_of_ble_eq_true rfl) (mw_obj hM) rfl ?_
      refine v_iconst (pc := 52) dX5_restore_52 ?_
      refine v_cv0 (pc := 53) (v_runS4 okX5_copies rfl (sp_cp_saved_now hM (by omega)) dX5_restore_53 (lw_all_tbl q2253) (lw_all_tbl q2254) (Nat.le_of_ble_eq_true rfl) ⟨Nat.zero_le _, Nat.zero_le _⟩ (Nat.le_of_ble_eq_true rfl)) (fun h hM => ?_)
      refine v_ald0 (pc := 56) dX5_restore_56 ?_
      refine v_iconst (pc := 57) dX5_restore_57 ?_
      refine v_ptM_undoMany hM (pc := 58) dX5_restore_58 (lw_all_tbl q1999) (fun h hM => ?_)
      refine v_ret_v (pc := 61) dX5_restore_61 rfl ?_
      first | (have hC : (0 ≤ k ∧ k ≤ 1) ∧ isSaved k = 1 := (by omega); exact qv_ok (by rw [if_pos hC, if_pos hC, if_pos hC.1, if_pos hC.2]; exact hM)) | (have hV : 0 ≤ k ∧ k ≤ 1 := (by omega); have hN : ¬ isSaved k = 1 := (by omega); have hC : ¬ ((0 ≤ k ∧ k ≤ 1) ∧ isSaved k = 1) := fun q => hN q.2; exact qv_ok (by rw [if_neg hC, if_neg hC, if_pos hV, if_neg hN]; exact hM)) | (have hV : ¬ (0 ≤ k ∧ k ≤ 1) := (by omega); have hC : ¬ ((0 ≤ k ∧ k ≤ 1) ∧ isSaved k = 1) := fun q => hV q.1; exact qv_ok (by rw [if_neg hC, if_neg hC, if_neg hV]; exact hM))
  · refine v_if_ne0 (pc := 7) (tgt := 14) dX5_restore_7 rfl ?_
    refine v_iconst (pc := 10) dX5_restore_10 ?_
    refine v_goto (pc := 11) (tgt := 28) dX5_restore_11 rfl ?_
    refine v_ptM_thrown hM (pc := 28) dX5_restore_28 (lw_all_tbl q1994) (fun h hM => ?_)
    refine v_ald0 (pc := 31) dX5_restore_31 ?_
    refine v_getf KX5 0 (pc := 32) dX5_restore_32 (lw_all_tbl q1994) (Or.inl rfl) (Nat.le_of_ble_eq_true rfl) (mw_obj hM) rfl ?_
    refine v_if_le (pc := 35) (tgt := 39) dX5_restore_35 rfl (by omega) (fun c => absurd c (by decide)) (fun _ => ?_)
    refine v_ret_v (pc := 38) dX5_restore_38 rfl ?_
    first | (have hC : (0 ≤ k ∧ k ≤ 1) ∧ isSaved k = 1 := (by omega); exact qv_ok (by rw [if_pos hC, if_pos hC, if_pos hC.1, if_pos hC.2]; exact hM)) | (have hV : 0 ≤ k ∧ k ≤ 1 := (by omega); have hN : ¬ isSaved k = 1 := (by omega); have hC : ¬ ((0 ≤ k ∧ k ≤ 1) ∧ isSaved k = 1) := fun q => hN q.2; exact qv_ok (by rw [if_neg hC, if_neg hC, if_pos hV, if_neg hN]; exact hM)) | (have hV : ¬ (0 ≤ k ∧ k ≤ 1) := (by omega); have hC : ¬ ((0 ≤ k ∧ k ≤ 1) ∧ isSaved k = 1) := fun q => hV q.1; exact qv_ok (by rw [if_neg hC, if_neg hC, if_neg hV]; exact hM))
