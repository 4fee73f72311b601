/-! FlashZonesModel: walks, 11 (printed by gen) -/
set_option maxRecDepth 100000
theorem sp_X5_thrown {Γ : Cx} {t : Nat} {α : Nat → Nat} {h0 h : AH} {thrown : Int} {now : Int → Int} {aside : Int → Int} {tried : Int → Int} {undos : Int → Int} {undoMany : Int} {saved : Int → Int} {isSaved : Int → Int} {accounts : Int → Int} {way : Int} {leftOut : Int} {here : Int → Int} {text : Int → Int} {length : Int} {atp : Int} {frm : Int} {token : Int} {number : Int} {error : Int} {errorAt : Int} {commands : Int} {command : Int → Int} {out : Int → Int} {outLong : Int}  (hM : MW t α h0 h thrown now aside tried undos undoMany saved isSaved accounts way leftOut here text length atp frm token number error errorAt commands command out outLong) : Sp Γ yX5_thrown mX5_thrown 1 0 0 [.ref (α 0)] h (Qe thrown h) NoX := by
  refine sp_of okX5_thrown (cat_all rfl) (Nat.le_of_ble_eq_true rfl) rfl ?_
  refine v_ald0 (pc := 0) dX5_thrown_0 ?_
  refine v_getf KX5 0 (pc := 1) dX5_thrown_1 (lw_all_tbl q1994) (Or.inl rfl) (Nat.le_of_ble_eq_true rfl) (mw_obj hM) rfl ?_
  refine v_ret_n (pc := 4) dX5_thrown_4 rfl ?_
  exact qe_ok (by first | rfl | omega)
theorem sp_X5_toldNow {Γ : Cx} {t : Nat} {α : Nat → Nat} {h0 h : AH} {thrown : Int} {now : Int → Int} {aside : Int → Int} {tried : Int → Int} {undos : Int → Int} {undoMany : Int} {saved : Int → Int} {isSaved : Int → Int} {accounts : Int → Int} {way : Int} {leftOut : Int} {here : Int → Int} {text : Int → Int} {length : Int} {atp : Int} {frm : Int} {token : Int} {number : Int} {error : Int} {errorAt : Int} {commands : Int} {command : Int → Int} {out : Int → Int} {outLong : Int} {c : Int} {k : Int} (hM : MW t α h0 h thrown now aside tried undos undoMany saved isSaved accounts way leftOut here text length atp frm token number error errorAt commands command out outLong) (hR : ROK now c) (hk : -2147483648 ≤ k ∧ k ≤ 2147483647) : Sp Γ yX5_toldNow mX5_toldNow 5 0 0 [.ref (α 0), vi k] h (Qe (aTold now leftOut k) h) NoX := by
  refine sp_of okX5_toldNow (cat_all rfl) (Nat.le_of_ble_eq_true rfl) rfl ?_
  refine v_ild1 (pc := 0) dX5_toldNow_0 ?_
  refine v_if_ne (pc := 1) (tgt := 14) dX5_toldNow_1 rfl (by omega) (fun c1 => ?_) (fun c1 => ?_)
  · refine v_ild1 (pc := 14) dX5_toldNow_14 ?_
    refine v_iconst (pc := 15) dX5_toldNow_15 ?_
    refine v_icmp_ne (pc := 16) (tgt := 29) dX5_toldNow_16 rfl (by omega) (by omega) (fun c16 => ?_) (fun c16 => ?_)
    · refine v_ild1 (pc := 29) dX5_toldNow_29 ?_
      refine v_iconst (pc := 30) dX5_toldNow_30 ?_
      refine v_icmp_ne (pc := 31) (tgt := 41) dX5_toldNow_31 rfl (by omega) (by omega) (fun c31 => ?_) (fun c31 => ?_)
      · refine v_ild1 (pc := 41) dX5_toldNow_41 ?_
        refine v_iconst (pc := 42) dX5_toldNow_42 ?_
        refine v_icmp_ne (pc := 43) (tgt := 53) dX5_toldNow_43 rfl (by omega) (by omega) (fun c43 => ?_) (fun c43 => ?_)
        · refine v_ild1 (pc := 53) dX5_toldNow_53 ?_
          refine v_iconst (pc := 54) dX5_toldNow_54 ?_
          refine v_icmp_ne (pc := 55) (tgt := 68) dX5_toldNow_55 rfl (by omega) (by omega) (fun c55 => ?_) (fun c55 => ?_)
          · refine v_ald0 (pc := 68) dX5_toldNow_68 ?_
            refine v_ce0 (pc := 69) (v_runV0 okX5_freeZones rfl (sp_X5_freeZones hM (by omega)) dX5_toldNow_69 (lw_all_tbl q2111) (lw_all_tbl q2113) (lw_all_tbl qs52) rfl (mw_obj hM) (Nat.le_of_ble_eq_true rfl) ⟨Nat.zero_le _, Nat.zero_le _⟩ (Nat.le_of_ble_eq_true rfl)) ?_
            refine v_ret_n (pc := 72) dX5_toldNow_72 rfl ?_
            exact qe_ok (by unfold aTold; (repeat (any_goals split)) <;> first | rfl | omega)
          · refine v_ald0 (pc := 58) dX5_toldNow_58 ?_
            refine v_getf KX5 1 (pc := 59) dX5_toldNow_59 (lw_all_tbl q1995) (Or.inl rfl) (Nat.le_of_ble_eq_true rfl) (mw_obj hM) rfl ?_
            refine v_bipush (pc := 62) dX5_toldNow_62 ⟨by decide, by decide⟩ ?_
            refine v_ldM_now hM (pc := 64) dX5_toldNow_64 (by omega) ?_
            refine v_goto (pc := 65) (tgt := 72) dX5_toldNow_65 rfl ?_
            refine v_ret_n (pc := 72) dX5_toldNow_72 rfl ?_
            exact qe_ok (by unfold aTold; (repeat (any_goals split)) <;> first | rfl | omega)
        · refine v_ald0 (pc := 46) dX5_toldNow_46 ?_
          refine v_ce0 (pc := 47) (v_runV0 okX5_livingUnits rfl (sp_X5_livingUnits hM (by omega)) dX5_toldNow_47 (lw_all_tbl q2096) (lw_all_tbl q2098) (lw_all_tbl qs49) rfl (mw_obj hM) (Nat.le_of_ble_eq_true rfl) ⟨Nat.zero_le _, Nat.zero_le _⟩ (Nat.le_of_ble_eq_true rfl)) ?_
          refine v_goto (pc := 50) (tgt := 72) dX5_toldNow_50 rfl ?_
          refine v_ret_n (pc := 72) dX5_toldNow_72 rfl ?_
          exact qe_ok (by unfold aTold; (repeat (any_goals split)) <;> first | rfl | omega)
      · refine v_ald0 (pc := 34) dX5_toldNow_34 ?_
        refine v_getf KX5 10 (pc := 35) dX5_toldNow_35 (lw_all_tbl q2004) (Or.inl rfl) (Nat.le_of_ble_eq_true rfl) (mw_obj hM) rfl ?_
        refine v_goto (pc := 38) (tgt := 72) dX5_toldNow_38 rfl ?_
        refine v_ret_n (pc := 72) dX5_toldNow_72 rfl ?_
        exact qe_ok (by unfold aTold; (repeat (any_goals split)) <;> first | rfl | omega)
    · refine v_ald0 (pc := 19) dX5_toldNow_19 ?_
      refine v_getf KX5 1 (pc := 20) dX5_toldNow_20 (lw_all_tbl q1995) (Or.inl rfl) (Nat.le_of_ble_eq_true rfl) (mw_obj hM) rfl ?_
      refine v_bipush (pc := 23) dX5_toldNow_23 ⟨by decide, by decide⟩ ?_
      refine v_ldM_now hM (pc := 25) dX5_toldNow_25 (by omega) ?_
      refine v_goto (pc := 26) (tgt := 72) dX5_toldNow_26 rfl ?_
      refine v_ret_n (pc := 72) dX5_toldNow_72 rfl ?_
      exact qe_ok (by unfold aTold; (repeat (any_goals split)) <;> first | rfl | omega)
  · refine v_ald0 (pc := 4) dX5_toldNow_4 ?_
    refine v_getf KX5 1 (pc := 5) dX5_toldNow_5 (lw_all_tbl q1995) (Or.inl rfl) (Nat.le_of_ble_eq_true rfl) (mw_obj hM) rfl ?_
    refine v_bipush (pc := 8) dX5_toldNow_8 ⟨by decide, by decide⟩ ?_
    refine v_ldM_now hM (pc := 10) dX5_toldNow_10 (by omega) ?_
    refine v_goto (pc := 11) (tgt := 72) dX5_toldNow_11 rfl ?_
    refine v_ret_n (pc := 72) dX5_toldNow_72 rfl ?_
    exact qe_ok (by unfold aTold; (repeat (any_goals split)) <;> first | rfl | omega)
theorem sp_X5_history {Γ : Cx} {t : Nat} {α : Nat → Nat} {h0 h : AH} {thrown : Int} {now : Int → Int} {aside : Int → Int} {tried : Int → Int} {undos : Int → Int} {undoMany : Int} {saved : Int → Int} {isSaved : Int → Int} {accounts : Int → Int} {way : Int} {leftOut : Int} {here : Int → Int} {text : Int → Int} {length : Int} {atp : Int} {frm : Int} {token : Int} {number : Int} {error : Int} {errorAt : Int} {commands : Int} {command : Int → Int} {out : Int → Int} {outLong : Int} {c : Int} {k i : Int} (hM : MW t α h0 h thrown now aside tried undos undoMany saved isSaved accounts way leftOut here text length atp frm token number error errorAt commands command out outLong) (hR : ROK now c) (hk : -2147483648 ≤ k ∧ k ≤ 2147483647) (hi : -2147483648 ≤ i ∧ i ≤ 2147483647) : Sp Γ yX5_history mX5_history 2 0 0 [.ref (α 0), vi k, vi i] h (Qi (fun x h' => x = (if (0 ≤ k ∧ k < now 11) ∧ 0 ≤ i ∧ i ≤ 3 then now (1862 + 4 * k + i) else 0) ∧ MW t α h0 h' ((if (0 ≤ k ∧ k < now 11) ∧ 0 ≤ i ∧ i ≤ 3 then 0 else (if 0 ≤ k ∧ k < now 11 then 2 else 1))) now aside tried undos undoMany saved isSaved accounts way leftOut here text length atp frm token number error errorAt commands command out outLong)) NoX := by
  refine sp_of okX5_history (cat_all rfl) (Nat.le_of_ble_eq_true rfl) rfl ?_
  have h11 := hR.s11
  refine v_ald0 (pc := 0) dX5_history_0 ?_
  refine v_ild1 (pc := 1) dX5_history_1 ?_
  refine v_iconst (pc := 2) dX5_history_2 ?_
  refine v_ald0 (pc := 3) dX5_history_3 ?_
  refine v_getf KX5 1 (pc := 4) dX5_history_4 (lw_all_tbl q1995) (Or.inl rfl) (Nat.le_of_ble_eq_true rfl) (mw_obj hM) rfl ?_
  refine v_bipush (pc := 7) dX5_history_7 ⟨by decide, by decide⟩ ?_
  refine v_ldM_now hM (pc := 9) dX5_history_9 (by omega) ?_
  refine v_iconst (pc := 10) dX5_history_10 ?_
  refine v_isub (pc := 11) dX5_history_11 ?_
  refine v_cb0 (pc := 12) (v_runS3 okX5_in rfl (sp_X5_in (by omega) (by omega) (by omega)) dX5_history_12 (lw_all_tbl q2079) (lw_all_tbl q2080) (Nat.le_of_ble_eq_true rfl) ⟨Nat.zero_le _, Nat.zero_le _⟩ (Nat.le_of_ble_eq_true rfl)) (fun c12 => ?_) (fun c12 => ?_)
  · refine v_if_ne1 (pc := 15) (tgt := 22) dX5_history_15 rfl ?_
    refine v_ild2 (pc := 22) dX5_history_22 ?_
    refine v_iconst (pc := 23) dX5_history_23 ?_
    refine v_iconst (pc := 24) dX5_history_24 ?_
    refine v_cb0 (pc := 25) (v_runS3 okX5_in rfl (sp_X5_in (by omega) (by omega) (by omega)) dX5_history_25 (lw_all_tbl q2079) (lw_all_tbl q2080) (Nat.le_of_ble_eq_true rfl) ⟨Nat.zero_le _, Nat.zero_le _⟩ (Nat.le_of_ble_eq_true rfl)) (fun c25 => ?_) (fun c25 => ?_)
    · refine v_if_eq1 (pc := 28) (tgt := 35) dX5_history_28 rfl ?_
      refine v_iconst (pc := 31) dX5_history_31 ?_
      refine v_goto (pc := 32) (tgt := 36) dX5_history_32 rfl ?_
      refine v_ptM_thrown hM (pc := 36) dX5_history_36 (lw_all_tbl q1994) (fun h hM => ?_)
      refine v_ald0 (pc := 39) dX5_history_39 ?_
      refine v_getf KX5 0 (pc := 40) dX5_history_40 (lw_all_tbl q1994) (Or.inl rfl) (Nat.le_of_ble_eq_true rfl) (mw_obj hM) rfl ?_
      refine v_if_le (pc := 43) (tgt := 50) dX5_history_43 rfl (by omega) (fun _ => ?_) (fun c => absurd c (by decide))
      refine v_ald0 (pc := 50) dX5_history_50 ?_
      refine v_getf KX5 1 (pc := 51) dX5_history_51 (lw_all_tbl q1995) (Or.inl rfl) (Nat.le_of_ble_eq_true rfl) (mw_obj hM) rfl ?_
      refine v_sipush (pc := 54) dX5_history_54 ⟨by decide, by decide⟩ ?_
      refine v_iconst (pc := 57) dX5_history_57 ?_
      refine v_ild1 (pc := 58) dX5_history_58 ?_
      refine v_imul (pc := 59) dX5_history_59 ?_
      refine v_iadd (pc := 60) dX5_history_60 ?_
      refine v_ild2 (pc := 61) dX5_history_61 ?_
      refine v_iadd (pc := 62) dX5_history_62 ?_
      refine v_ldM_now hM (pc := 63) dX5_history_63 (by omega) ?_
      refine v_ret_n (pc := 64) dX5_history_64 rfl ?_
      first | (exfalso; omega) | exact qi_ok ⟨by rw [if_pos (by omega)] <;> (first | rfl | (show (_ : Int) = (if _ then 1 else 0); first | rw [if_pos (by omega)] | rw [if_neg (by omega)])), mw_thr hM (by rw [if_pos (by omega)])⟩ | exact qi_ok ⟨by rw [if_neg (by omega)], mw_thr hM (by rw [if_neg (by omega)] <;> (first | rw [if_pos (by omega)] | rw [if_neg (by omega)]))⟩ | exact qi_ok ⟨by rw [if_neg (by omega)], mw_thr hM (by rw [if_neg (by omega)])⟩
    · refine v_if_eq0 (pc := 28) (tgt := 35) dX5_history_28 rfl ?_
      refine v_iconst (pc := 35) dX5_history_35 ?_
      refine v_ptM_thrown hM (pc := 36) dX5_history_36 (lw_all_tbl q1994) (fun h hM => ?_)
      refine v_ald0 (pc := 39) dX5_history_39 ?_
      refine v_getf KX5 0 (pc := 40) dX5_history_40 (lw_all_tbl q1994) (Or.inl rfl) (Nat.le_of_ble_eq_true rfl) (mw_obj hM) rfl ?_
      refine v_if_le (pc := 43) (tgt := 50) dX5_history_43 rfl (by omega) (fun c => absurd c (by decide)) (fun _ => ?_)
      refine v_iconst (pc := 46) dX5_history_46 ?_
      refine v_goto (pc := 47) (tgt := 64) dX5_history_47 rfl ?_
      refine v_ret_n (pc := 64) dX5_history_64 rfl ?_
      first | (exfalso; omega) | exact qi_ok ⟨by rw [if_pos (by omega)] <;> (first | rfl | (show (_ : Int) = (if _ then 1 else 0); first | rw [if_pos (by omega)] | rw [if_neg (by omega)])), mw_thr hM (by rw [if_pos (by omega)])⟩ | exact qi_ok ⟨by rw [if_neg (by omega)], mw_thr hM (by rw [if_neg (by omega)] <;> (first | rw [if_pos (by omega)] | rw [if_neg (by omega)]))⟩ | exact qi_ok ⟨by rw [if_neg (by omega)], mw_thr hM (by rw [if_neg (by omega)])⟩
  · refine v_if_ne0 (pc := 15) (tgt := 22) dX5_history_15 rfl ?_
    refine v_iconst (pc := 18) dX5_history_18 ?_
    refine v_goto (pc := 19) (tgt := 36) dX5_history_19 rfl ?_
    refine v_ptM_thrown hM (pc := 36) dX5_history_36 (lw_all_tbl q1994) (fun h hM => ?_)
    refine v_ald0 (pc := 39) dX5_history_39 ?_
    refine v_getf KX5 0 (pc := 40) dX5_history_40 (lw_all_tbl q1994) (Or.inl rfl) (Nat.le_of_ble_eq_true rfl) (mw_obj hM) rfl ?_
    refine v_if_le (pc := 43) (tgt := 50) dX5_history_43 rfl (by omega) (fun c => absurd c (by decide)) (fun _ => ?_)
    refine v_iconst (pc := 46) dX5_history_46 ?_
    refine v_goto (pc := 47) (tgt := 64) dX5_history_47 rfl ?_
    refine v_ret_n (pc := 64) dX5_history_64 rfl ?_
    first | (exfalso; omega) | exact qi_ok ⟨by rw [if_pos (by omega)] <;> (first | rfl | (show (_ : Int) = (if _ then 1 else 0); first | rw [if_pos (by omega)] | rw [if_neg (by omega)])), mw_thr hM (by rw [if_pos (by omega)])⟩ | exact qi_ok ⟨by rw [if_neg (by omega)], mw_thr hM (by rw [if_neg (by omega)] <;> (first | rw [if_pos (by omega)] | rw [if_neg (by omega)]))⟩ | exact qi_ok ⟨by rw [if_neg (by omega)], mw_thr hM (by rw [if_neg (by omega)])⟩
theorem sp_X5_toBury {Γ : Cx} {t : Nat} {α : Nat → Nat} {h0 h : AH} {thrown : Int} {now : Int → Int} {aside : Int → Int} {tried : Int → Int} {undos : Int → Int} {undoMany : Int} {saved : Int → Int} {isSaved : Int → Int} {accounts : Int → Int} {way : Int} {leftOut : Int} {here : Int → Int} {text : Int → Int} {length : Int} {atp : Int} {frm : Int} {token : Int} {number : Int} {error : Int} {errorAt : Int} {commands : Int} {command : Int → Int} {out : Int → Int} {outLong : Int} {c : Int} {z : Int} (hM : MW t α h0 h thrown now aside tried undos undoMany saved isSaved accounts way leftOut here text length atp frm token number error errorAt commands command out outLong) (hR : ROK now c) (hway : 0 ≤ way ∧ way ≤ 6) (hw5 : way = 5) (hz : -2147483648 ≤ z ∧ z ≤ 2147483647) (hc : c + 100 ≤ 14000000) : Sp Γ yX5_toBury mX5_toBury 9 0 0 [.ref (α 0), vi z] h (Qi (fun x h' => x = (if 0 ≤ z ∧ z < now 0 then mToBury now aside way z else 0) ∧ ∃ tr, MW t α h0 h' ((if 0 ≤ z ∧ z < now 0 then 0 else 1)) now aside tr undos undoMany saved isSaved accounts way leftOut here text length atp frm token number error errorAt commands command out outLong)) NoX := by
  refine sp_of okX5_toBury (cat_all rfl) (Nat.le_of_ble_eq_true rfl) rfl ?_
  have hs0 := hR.s0
  refine v_ald0 (pc := 0) dX5_toBury_0 ?_
  refine v_ald0 (pc := 1) dX5_toBury_1 ?_
  refine v_ild1 (pc := 2) dX5_toBury_2 ?_
  refine v_cb0 (pc := 3) (v_runV1 okX5_isZone rfl (sp_X5_isZone hM (by omega) (by omega)) dX5_toBury_3 (lw_all_tbl q2139) (lw_all_tbl q2141) (lw_all_tbl qs58) rfl (mw_obj hM) (Nat.le_of_ble_eq_true rfl) ⟨Nat.zero_le _, Nat.zero_le _⟩ (Nat.le_of_ble_eq_true rfl)) (fun c3 => ?_) (fun c3 => ?_)
  · refine v_if_eq1 (pc := 6) (tgt := 13) dX5_toBury_6 rfl ?_
    refine v_iconst (pc := 9) dX5_toBury_9 ?_
    refine v_goto (pc := 10) (tgt := 14) dX5_toBury_10 rfl ?_
    refine v_ptM_thrown hM (pc := 14) dX5_toBury_14 (lw_all_tbl q1994) (fun h hM => ?_)
    refine v_ald0 (pc := 17) dX5_toBury_17 ?_
    refine v_getf KX5 0 (pc := 18) dX5_toBury_18 (lw_all_tbl q1994) (Or.inl rfl) (Nat.le_of_ble_eq_true rfl) (mw_obj hM) rfl ?_
    refine v_if_le (pc := 21) (tgt := 28) dX5_toBury_21 rfl (by omega) (fun _ => ?_) (fun c => absurd c (by decide))
    refine v_ald0 (pc := 28) dX5_toBury_28 ?_
    refine v_ild1 (pc := 29) dX5_toBury_29 ?_
    refine v_ci0 (pc := 30) (v_runV1 okX5_toBuryOf rfl (sp_X5_toBuryOf (ca := 0) hM hR (by omega) hway (fun q => by omega) hc) dX5_toBury_30 (lw_all_tbl q2395) (lw_all_tbl q2397) (lw_all_tbl qs97) rfl (mw_obj hM) (Nat.le_of_ble_eq_true rfl) ⟨Nat.zero_le _, Nat.zero_le _⟩ (Nat.le_of_ble_eq_true rfl)) (fun x30 h ⟨ex30, tried, hM⟩ => ?_)
    subst ex30
    refine v_ret_n (pc := 33) dX5_toBury_33 rfl ?_
    first | exact qi_ok ⟨by rw [if_pos (by omega)], _, mw_thr hM (by rw [if_pos (by omega)])⟩ | exact qi_ok ⟨by rw [if_neg (by omega)], _, mw_thr hM (by rw [if_neg (by omega)])⟩
  · refine v_if_eq0 (pc := 6) (tgt := 13) dX5_toBury_6 rfl ?_
    refine v_iconst (pc := 13) dX5_toBury_13 ?_
    refine v_ptM_thrown hM (pc := 14) dX5_toBury_14 (lw_all_tbl q1994) (fun h hM => ?_)
    refine v_ald0 (pc := 17) dX5_toBury_17 ?_
    refine v_getf KX5 0 (pc := 18) dX5_toBury_18 (lw_all_tbl q1994) (Or.inl rfl) (Nat.le_of_ble_eq_true rfl) (mw_obj hM) rfl ?_
    refine v_if_le (pc := 21) (tgt := 28) dX5_toBury_21 rfl (by omega) (fun c => absurd c (by decide)) (fun _ => ?_)
    refine v_iconst (pc := 24) dX5_toBury_24 ?_
    refine v_goto (pc := 25) (tgt := 33) dX5_toBury_25 rfl ?_
    refine v_ret_n (pc := 33) dX5_toBury_33 rfl ?_
    first | exact qi_ok ⟨by rw [if_pos (by omega)], _, mw_thr hM (by rw [if_pos (by omega)])⟩ | exact qi_ok ⟨by rw [if_neg (by omega)], _, mw_thr hM (by rw [if_neg (by omega)])⟩
theorem sp_X5_tellsReset {Γ : Cx} {t : Nat} {α : Nat → Nat} {h0 h : AH} {thrown : Int} {now : Int → Int} {aside : Int → Int} {tried : Int → Int} {undos : Int → Int} {undoMany : Int} {saved : Int → Int} {isSaved : Int → Int} {accounts : Int → Int} {way : Int} {leftOut : Int} {here : Int → Int} {text : Int → Int} {length : Int} {atp : Int} {frm : Int} {token : Int} {number : Int} {error : Int} {errorAt : Int} {commands : Int} {command : Int → Int} {out : Int → Int} {outLong : Int} {c : Int} {z : Int} (hM : MW t α h0 h thrown now aside tried undos undoMany saved isSaved accounts way leftOut here text length atp frm token number error errorAt commands command out outLong) (hR : ROK now c) (hz : 0 ≤ z ∧ z ≤ 11) : Sp Γ yX5_tellsReset mX5_tellsReset 6 0 0 [.ref (α 0), vi z] h (Qi (fun x h' => x = lResetR now z ∧ MW t α h0 h' thrown ((lResetW now z)) aside tried undos undoMany saved isSaved accounts way leftOut here text length atp frm token number error errorAt commands command out outLong)) NoX := by
  refine sp_of okX5_tellsReset (cat_all rfl) (Nat.le_of_ble_eq_true rfl) rfl ?_
  have hrr : lResetR now z = 0 ∨ lResetR now z = 3 ∨ lResetR now z = 4 := by unfold lResetR; (repeat (any_goals split)) <;> omega
  refine v_ald0 (pc := 0) dX5_tellsReset_0 ?_
  refine v_ild1 (pc := 1) dX5_tellsReset_1 ?_
  refine v_ce0 (pc := 2) (v_runV1 okX5_whyReset rfl (sp_X5_whyReset hM (by omega) (by omega)) dX5_tellsReset_2 (lw_all_tbl q2308) (lw_all_tbl q2310) (lw_all_tbl qs82) rfl (mw_obj hM) (Nat.le_of_ble_eq_true rfl) ⟨Nat.zero_le _, Nat.zero_le _⟩ (Nat.le_of_ble_eq_true rfl)) ?_
  rw [show (if now (1706 + 13 * z + 0) = -1 then 3 else if 0 < mLivIn now z (now 7) then 4 else 0) = lResetR now z from rfl]
  refine v_ist2 (pc := 5) dX5_tellsReset_5 rfl ?_
  refine v_ild2 (pc := 6) dX5_tellsReset_6 ?_
  refine v_if_ne (pc := 7) (tgt := 15) dX5_tellsReset_7 rfl (by omega) (fun c7 => ?_) (fun c7 => ?_)
  · refine v_ild2 (pc := 15) dX5_tellsReset_15 ?_
    refine v_ret_n (pc := 16) dX5_tellsReset_16 rfl ?_
    exact qi_ok ⟨rfl, by unfold lResetW; first | (rw [if_pos (by omega)]; exact hM) | (rw [if_neg (by omega)]; exact hM)⟩
  · refine v_ald0 (pc := 10) dX5_tellsReset_10 ?_
    refine v_ild1 (pc := 11) dX5_tellsReset_11 ?_
    refine v_cv0 (pc := 12) (v_runV1 okX5_resets rfl (sp_X5_resets hM (by omega)) dX5_tellsReset_12 (lw_all_tbl q2312) (lw_all_tbl q2314) (lw_all_tbl qs83) rfl (mw_obj hM) (Nat.le_of_ble_eq_true rfl) ⟨Nat.zero_le _, Nat.zero_le _⟩ (Nat.le_of_ble_eq_true rfl)) (fun h hM => ?_)
    refine v_ild2 (pc := 15) dX5_tellsReset_15 ?_
    refine v_ret_n (pc := 16) dX5_tellsReset_16 rfl ?_
    exact qi_ok ⟨rfl, by unfold lResetW; first | (rw [if_pos (by omega)]; exact hM) | (rw [if_neg (by omega)]; exact hM)⟩
theorem sp_X5_tellsDie {Γ : Cx} {t : Nat} {α : Nat → Nat} {h0 h : AH} {thrown : Int} {now : Int → Int} {aside : Int → Int} {tried : Int → Int} {undos : Int → Int} {undoMany : Int} {saved : Int → Int} {isSaved : Int → Int} {accounts : Int → Int} {way : Int} {leftOut : Int} {here : Int → Int} {text : Int → Int} {length : Int} {atp : Int} {frm : Int} {token : Int} {number : Int} {error : Int} {errorAt : Int} {commands : Int} {command : Int → Int} {out : Int → Int} {outLong : Int} {c : Int} {o : Int} (hM : MW t α h0 h thrown now aside tried undos undoMany saved isSaved accounts way leftOut here text length atp frm token number error errorAt commands command out outLong) (hR : ROK now c) (ho : 0 ≤ o ∧ o ≤ 98) (hh : -1 ≤ here o ∧ here o < now 7) : Sp Γ yX5_tellsDie mX5_tellsDie 6 0 0 [.ref (α 0), vi o] h (Qi (fun x h' => x = lDieR now (here o) ∧ MW t α h0 h' thrown ((lDieW now (here o))) aside tried undos undoMany saved isSaved accounts way leftOut here text length atp frm token number error errorAt commands command out outLong)) NoX := by
  refine sp_of okX5_tellsDie (cat_all rfl) (Nat.le_of_ble_eq_true rfl) rfl ?_
  have h7 := hR.s7
  refine v_ald0 (pc := 0) dX5_tellsDie_0 ?_
  refine v_getf KX5 11 (pc := 1) dX5_tellsDie_1 (lw_all_tbl q2005) (Or.inl rfl) (Nat.le_of_ble_eq_true rfl) (mw_obj hM) rfl ?_
  refine v_ild1 (pc := 4) dX5_tellsDie_4 ?_
  refine v_ldM_here hM (pc := 5) dX5_tellsDie_5 (by omega) ?_
  refine v_ist2 (pc := 6) dX5_tellsDie_6 rfl ?_
  refine v_ild2 (pc := 7) dX5_tellsDie_7 ?_
  refine v_iconst (pc := 8) dX5_tellsDie_8 ?_
  refine v_icmp_eq (pc := 9) (tgt := 20) dX5_tellsDie_9 rfl (by omega) (by omega) (fun c9 => ?_) (fun c9 => ?_)
  · refine v_iconst (pc := 20) dX5_tellsDie_20 ?_
    refine v_ret_n (pc := 21) dX5_tellsDie_21 rfl ?_
    exact qi_ok ⟨by rw [lDieR, if_pos (by omega)], by rw [lDieW, if_pos (by omega)]; exact hM⟩
  · have hlv := hR.uLv (here o) ⟨by omega, by omega⟩
    refine v_ald0 (pc := 12) dX5_tellsDie_12 ?_
    refine v_ild2 (pc := 13) dX5_tellsDie_13 ?_
    refine v_cb0 (pc := 14) (v_runV1 okX5_lives rfl (sp_X5_lives hM (by omega) (by omega)) dX5_tellsDie_14 (lw_all_tbl q2100) (lw_all_tbl q2102) (lw_all_tbl qs50) rfl (mw_obj hM) (Nat.le_of_ble_eq_true rfl) ⟨Nat.zero_le _, Nat.zero_le _⟩ (Nat.le_of_ble_eq_true rfl)) (fun c14 => ?_) (fun c14 => ?_)
    · refine v_if_ne1 (pc := 17) (tgt := 22) dX5_tellsDie_17 rfl ?_
      refine v_ald0 (pc := 22) dX5_tellsDie_22 ?_
      refine v_ild2 (pc := 23) dX5_tellsDie_23 ?_
      refine v_cv0 (pc := 24) (v_runV1 okX5_dies rfl (sp_X5_dies hM (by omega) (by omega)) dX5_tellsDie_24 (lw_all_tbl q2296) (lw_all_tbl q2298) (lw_all_tbl qs79) rfl (mw_obj hM) (Nat.le_of_ble_eq_true rfl) ⟨Nat.zero_le _, Nat.zero_le _⟩ (Nat.le_of_ble_eq_true rfl)) (fun h hM => ?_)
      refine v_iconst (pc := 27) dX5_tellsDie_27 ?_
      refine v_ret_n (pc := 28) dX5_tellsDie_28 rfl ?_
      exact qi_ok ⟨by rw [lDieR, if_neg (by omega)], by rw [lDieW, if_neg (by omega)]; exact hM⟩
    · refine v_if_ne0 (pc := 17) (tgt := 22) dX5_tellsDie_17 rfl ?_
      refine v_iconst (pc := 20) dX5_tellsDie_20 ?_
      refine v_ret_n (pc := 21) dX5_tellsDie_21 rfl ?_
      exact qi_ok ⟨by rw [lDieR, if_pos (by omega)], by rw [lDieW, if_pos (by omega)]; exact hM⟩
theorem sp_X5_tellsWrite {Γ : Cx} {t : Nat} {α : Nat → Nat} {h0 h : AH} {thrown : Int} {now : Int → Int} {aside : Int → Int} {tried : Int → Int} {undos : Int → Int} {undoMany : Int} {saved : Int → Int} {isSaved : Int → Int} {accounts : Int → Int} {way : Int} {leftOut : Int} {here : Int → Int} {text : Int → Int} {length : Int} {atp : Int} {frm : Int} {token : Int} {number : Int} {error : Int} {errorAt : Int} {commands : Int} {command : Int → Int} {out : Int → Int} {outLong : Int} {c : Int} {ca k o : Int} (hM : MW t α h0 h thrown now aside tried undos undoMany saved isSaved accounts way leftOut here text length atp frm token number error errorAt commands command out outLong) (hR : ROK now c) (hway : 0 ≤ way ∧ way ≤ 6) (hko : way = 6 → ROK aside ca ∧ 0 ≤ o ∧ o < aside 7) (hk : 1862 ≤ k ∧ k ≤ 2458) (ho : 0 ≤ o ∧ o ≤ 98) (hwr : 0 ≤ aside (k + 1) ∧ aside (k + 1) ≤ 7) (hsz : 1 ≤ aside (k + 2) ∧ aside (k + 2) ≤ 3) (hfa : 0 ≤ aside (k + 3) ∧ aside (k + 3) ≤ 99) : Sp Γ yX5_tellsWrite mX5_tellsWrite 8 0 0 [.ref (α 0), vi k, vi o] h (Qi (fun x h' => x = lReason now aside way k o ∧ MW t α h0 h' thrown ((lWrite now aside way k o)) aside tried undos undoMany saved isSaved accounts way leftOut ((lHere now aside here way k o)) text length atp frm token number error errorAt commands command out outLong)) NoX := by
  refine sp_of okX5_tellsWrite (cat_all rfl) (Nat.le_of_ble_eq_true rfl) rfl ?_
  have h7 := hR.s7
  have hrr := lReason_r now aside way k o
  refine v_ald0 (pc := 0) dX5_tellsWrite_0 ?_
  refine v_getf KX5 1 (pc := 1) dX5_tellsWrite_1 (lw_all_tbl q1995) (Or.inl rfl) (Nat.le_of_ble_eq_true rfl) (mw_obj hM) rfl ?_
  refine v_bipush (pc := 4) dX5_tellsWrite_4 ⟨by decide, by decide⟩ ?_
  refine v_ldM_now hM (pc := 6) dX5_tellsWrite_6 (by omega) ?_
  refine v_bipush (pc := 7) dX5_tellsWrite_7 ⟨by decide, by decide⟩ ?_
  refine v_icmp_ne (pc := 9) (tgt := 17) dX5_tellsWrite_9 rfl (by omega) (by omega) (fun c9 => ?_) (fun c9 => ?_)
  · have hre : lReason now aside way k o = mWhyWrite now aside way (aside (k + 1)) (aside (k + 2)) o := by rw [lReason, if_neg (by omega)]
    refine v_ald0 (pc := 17) dX5_tellsWrite_17 ?_
    refine v_ald0 (pc := 18) dX5_tellsWrite_18 ?_
    refine v_getf KX5 2 (pc := 19) dX5_tellsWrite_19 (lw_all_tbl q1996) (Or.inl rfl) (Nat.le_of_ble_eq_true rfl) (mw_obj hM) rfl ?_
    refine v_ild1 (pc := 22) dX5_tellsWrite_22 ?_
    refine v_iconst (pc := 23) dX5_tellsWrite_23 ?_
    refine v_iadd (pc := 24) dX5_tellsWrite_24 ?_
    refine v_ldM_aside hM (pc := 25) dX5_tellsWrite_25 (by omega) ?_
    refine v_ald0 (pc := 26) dX5_tellsWrite_26 ?_
    refine v_getf KX5 2 (pc := 27) dX5_tellsWrite_27 (lw_all_tbl q1996) (Or.inl rfl) (Nat.le_of_ble_eq_true rfl) (mw_obj hM) rfl ?_
    refine v_ild1 (pc := 30) dX5_tellsWrite_30 ?_
    refine v_iconst (pc := 31) dX5_tellsWrite_31 ?_
    refine v_iadd (pc := 32) dX5_tellsWrite_32 ?_
    refine v_ldM_aside hM (pc := 33) dX5_tellsWrite_33 (by omega) ?_
    refine v_ild2 (pc := 34) dX5_tellsWrite_34 ?_
    refine v_ce0 (pc := 35) (v_runV3 okX5_whyWrite rfl (sp_X5_whyWrite hM hR hway hko hwr hsz (by omega)) dX5_tellsWrite_35 (lw_all_tbl q2260) (lw_all_tbl q2262) (lw_all_tbl qs70) rfl (mw_obj hM) (Nat.le_of_ble_eq_true rfl) ⟨Nat.zero_le _, Nat.zero_le _⟩ (Nat.le_of_ble_eq_true rfl)) ?_
    refine v_ist3 (pc := 38) dX5_tellsWrite_38 rfl ?_
    refine v_ald0 (pc := 39) dX5_tellsWrite_39 ?_
    refine v_getf KX5 11 (pc := 40) dX5_tellsWrite_40 (lw_all_tbl q2005) (Or.inl rfl) (Nat.le_of_ble_eq_true rfl) (mw_obj hM) rfl ?_
    refine v_ild2 (pc := 43) dX5_tellsWrite_43 ?_
    refine v_ild3 (pc := 44) dX5_tellsWrite_44 ?_
    refine v_if_le (pc := 45) (tgt := 52) dX5_tellsWrite_45 rfl (by omega) (fun c45 => ?_) (fun c45 => ?_)
    · refine v_ald0 (pc := 52) dX5_tellsWrite_52 ?_
      refine v_getf KX5 1 (pc := 53) dX5_tellsWrite_53 (lw_all_tbl q1995) (Or.inl rfl) (Nat.le_of_ble_eq_true rfl) (mw_obj hM) rfl ?_
      refine v_bipush (pc := 56) dX5_tellsWrite_56 ⟨by decide, by decide⟩ ?_
      refine v_ldM_now hM (pc := 58) dX5_tellsWrite_58 (by omega) ?_
      refine v_stM_here hM (pc := 59) dX5_tellsWrite_59 (by omega) (fun h hM => ?_)
      refine v_ild3 (pc := 60) dX5_tellsWrite_60 ?_
      refine v_if_ne (pc := 61) (tgt := 93) dX5_tellsWrite_61 rfl (by omega) (fun c61 => ?_) (fun c61 => ?_)
      · refine v_ild3 (pc := 93) dX5_tellsWrite_93 ?_
        refine v_ret_n (pc := 94) dX5_tellsWrite_94 rfl ?_
        first | (exfalso; omega) | exact qi_ok ⟨by rw [hre], by rw [lWrite, lHere]; first | (rw [if_pos (by omega), if_neg (by omega)]; exact hM) | (rw [if_neg (by omega), if_pos (by omega)]; exact hM)⟩
      · refine v_ald0 (pc := 64) dX5_tellsWrite_64 ?_
        refine v_ald0 (pc := 65) dX5_tellsWrite_65 ?_
        refine v_getf KX5 2 (pc := 66) dX5_tellsWrite_66 (lw_all_tbl q1996) (Or.inl rfl) (Nat.le_of_ble_eq_true rfl) (mw_obj hM) rfl ?_
        refine v_ild1 (pc := 69) dX5_tellsWrite_69 ?_
        refine v_iconst (pc := 70) dX5_tellsWrite_70 ?_
        refine v_iadd (pc := 71) dX5_tellsWrite_71 ?_
        refine v_ldM_aside hM (pc := 72) dX5_tellsWrite_72 (by omega) ?_
        refine v_ald0 (pc := 73) dX5_tellsWrite_73 ?_
        refine v_getf KX5 2 (pc := 74) dX5_tellsWrite_74 (lw_all_tbl q1996) (Or.inl rfl) (Nat.le_of_ble_eq_true rfl) (mw_obj hM) rfl ?_
        refine v_ild1 (pc := 77) dX5_tellsWrite_77 ?_
        refine v_iconst (pc := 78) dX5_tellsWrite_78 ?_
        refine v_iadd (pc := 79) dX5_tellsWrite_79 ?_
        refine v_ldM_aside hM (pc := 80) dX5_tellsWrite_80 (by omega) ?_
        refine v_ald0 (pc := 81) dX5_tellsWrite_81 ?_
        refine v_getf KX5 2 (pc := 82) dX5_tellsWrite_82 (lw_all_tbl q1996) (Or.inl rfl) (Nat.le_of_ble_eq_true rfl) (mw_obj hM) rfl ?_
        refine v_ild1 (pc := 85) dX5_tellsWrite_85 ?_
        refine v_iconst (pc := 86) dX5_tellsWrite_86 ?_
        refine v_iadd (pc := 87) dX5_tellsWrite_87 ?_
        refine v_ldM_aside hM (pc := 88) dX5_tellsWrite_88 (by omega) ?_
        refine v_ild2 (pc := 89) dX5_tellsWrite_89 ?_
        refine v_cv0 (pc := 90) (v_runV4 okX5_writes rfl (sp_X5_writes hM hR hway hko hwr hsz hfa ho (by omega) (by omega)) dX5_tellsWrite_90 (lw_all_tbl q2284) (lw_all_tbl q2286) (lw_all_tbl qs76) rfl (mw_obj hM) (Nat.le_of_ble_eq_true rfl) ⟨Nat.zero_le _, Nat.zero_le _⟩ (Nat.le_of_ble_eq_true rfl)) (fun h hM => ?_)
        refine v_ild3 (pc := 93) dX5_tellsWrite_93 ?_
        refine v_ret_n (pc := 94) dX5_tellsWrite_94 rfl ?_
        first | (exfalso; omega) | exact qi_ok ⟨by rw [hre], by rw [lWrite, lHere]; first | (rw [if_pos (by omega), if_neg (by omega)]; exact hM) | (rw [if_neg (by omega), if_pos (by omega)]; exact hM)⟩
    · refine v_iconst (pc := 48) dX5_tellsWrite_48 ?_
      refine v_goto (pc := 49) (tgt := 59) dX5_tellsWrite_49 rfl ?_
      refine v_stM_here hM (pc := 59) dX5_tellsWrite_59 (by omega) (fun h hM => ?_)
      refine v_ild3 (pc := 60) dX5_tellsWrite_60 ?_
      refine v_if_ne (pc := 61) (tgt := 93) dX5_tellsWrite_61 rfl (by omega) (fun c61 => ?_) (fun c61 => ?_)
      · refine v_ild3 (pc := 93) dX5_tellsWrite_93 ?_
        refine v_ret_n (pc := 94) dX5_tellsWrite_94 rfl ?_
        first | (exfalso; omega) | exact qi_ok ⟨by rw [hre], by rw [lWrite, lHere]; first | (rw [if_pos (by omega), if_neg (by omega)]; exact hM) | (rw [if_neg (by omega), if_pos (by omega)]; exact hM)⟩
      · refine v_ald0 (pc := 64) dX5_tellsWrite_64 ?_
        refine v_ald0 (pc := 65) dX5_tellsWrite_65 ?_
        refine v_getf KX5 2 (pc := 66) dX5_tellsWrite_66 (lw_all_tbl q1996) (Or.inl rfl) (Nat.le_of_ble_eq_true rfl) (mw_obj hM) rfl ?_
        refine v_ild1 (pc := 69) dX5_tellsWrite_69 ?_
        refine v_iconst (pc := 70) dX5_tellsWrite_70 ?_
        refine v_iadd (pc := 71) dX5_tellsWrite_71 ?_
        refine v_ldM_aside hM (pc := 72) dX5_tellsWrite_72 (by omega) ?_
        refine v_ald0 (pc := 73) dX5_tellsWrite_73 ?_
        refine v_getf KX5 2 (pc := 74) dX5_tellsWrite_74 (lw_all_tbl q1996) (Or.inl rfl) (Nat.le_of_ble_eq_true rfl) (mw_obj hM) rfl ?_
        refine v_ild1 (pc := 77) dX5_tellsWrite_77 ?_
        refine v_iconst (pc := 78) dX5_tellsWrite_78 ?_
        refine v_iadd (pc := 79) dX5_tellsWrite_79 ?_
        refine v_ldM_aside hM (pc := 80) dX5_tellsWrite_80 (by omega) ?_
        refine v_ald0 (pc := 81) dX5_tellsWrite_81 ?_
        refine v_getf KX5 2 (pc := 82) dX5_tellsWrite_82 (lw_all_tbl q1996) (Or.inl rfl) (Nat.le_of_ble_eq_true rfl) (mw_obj hM) rfl ?_
        refine v_ild1 (pc := 85) dX5_tellsWrite_85 ?_
        refine v_iconst (pc := 86) dX5_tellsWrite_86 ?_
        refine v_iadd (pc := 87) dX5_tellsWrite_87 ?_
        refine v_ldM_aside hM (pc := 88) dX5_tellsWrite_88 (by omega) ?_
        refine v_ild2 (pc := 89) dX5_tellsWrite_89 ?_
        refine v_cv0 (pc := 90) (v_runV4 okX5_writes rfl (sp_X5_writes hM hR hway hko hwr hsz hfa ho (by omega) (by omega)) dX5_tellsWrite_90 (lw_all_tbl q2284) (lw_all_tbl q2286) (lw_all_tbl qs76) rfl (mw_obj hM) (Nat.le_of_ble_eq_true rfl) ⟨Nat.zero_le _, Nat.zero_le _⟩ (Nat.le_of_ble_eq_true rfl)) (fun h hM => ?_)
        refine v_ild3 (pc := 93) dX5_tellsWrite_93 ?_
        refine v_ret_n (pc := 94) dX5_tellsWrite_94 rfl ?_
        first | (exfalso; omega) | exact qi_ok ⟨by rw [hre], by rw [lWrite, lHere]; first | (rw [if_pos (by omega), if_neg (by omega)]; exact hM) | (rw [if_neg (by omega), if_pos (by omega)]; exact hM)⟩
  · have hre : lReason now aside way k o = 6 := by rw [lReason, if_pos (by omega)]
    refine v_bipush (pc := 12) dX5_tellsWrite_12 ⟨by decide, by decide⟩ ?_
    refine v_goto (pc := 14) (tgt := 38) dX5_tellsWrite_14 rfl ?_
    refine v_ist3 (pc := 38) dX5_tellsWrite_38 rfl ?_
    refine v_ald0 (pc := 39) dX5_tellsWrite_39 ?_
    refine v_getf KX5 11 (pc := 40) dX5_tellsWrite_40 (lw_all_tbl q2005) (Or.inl rfl) (Nat.le_of_ble_eq_true rfl) (mw_obj hM) rfl ?_
    refine v_ild2 (pc := 43) dX5_tellsWrite_43 ?_
    refine v_ild3 (pc := 44) dX5_tellsWrite_44 ?_
    refine v_if_le (pc := 45) (tgt := 52) dX5_tellsWrite_45 rfl (by omega) (fun c => absurd c (by decide)) (fun _ => ?_)
    refine v_iconst (pc := 48) dX5_tellsWrite_48 ?_
    refine v_goto (pc := 49) (tgt := 59) dX5_tellsWrite_49 rfl ?_
    refine v_stM_here hM (pc := 59) dX5_tellsWrite_59 (by omega) (fun h hM => ?_)
    refine v_ild3 (pc := 60) dX5_tellsWrite_60 ?_
    refine v_if_ne (pc := 61) (tgt := 93) dX5_tellsWrite_61 rfl (by omega) (fun _ => ?_) (fun c => absurd c (by decide))
    refine v_ild3 (pc := 93) dX5_tellsWrite_93 ?_
    refine v_ret_n (pc := 94) dX5_tellsWrite_94 rfl ?_
    first | (exfalso; omega) | exact qi_ok ⟨by rw [hre], by rw [lWrite, lHere]; first | (rw [if_pos (by omega), if_neg (by omega)]; exact hM) | (rw [if_neg (by omega), if_pos (by omega)]; exact hM)⟩
