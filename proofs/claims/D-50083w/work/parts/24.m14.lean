/-! FlashZonesModel: walks, 14 (printed by gen) -/
set_option maxRecDepth 100000
theorem sp_X5_output {Γ : Cx} {t : Nat} {α : Nat → Nat} {h0 h : AH} {thrown : Int} {now : Int → Int} {aside : Int → Int} {tried : Int → Int} {undos : Int → Int} {undoMany : Int} {saved : Int → Int} {isSaved : Int → Int} {accounts : Int → Int} {way : Int} {leftOut : Int} {here : Int → Int} {text : Int → Int} {length : Int} {atp : Int} {frm : Int} {token : Int} {number : Int} {error : Int} {errorAt : Int} {commands : Int} {command : Int → Int} {out : Int → Int} {outLong : Int} {i : Int} (hM : MW t α h0 h thrown now aside tried undos undoMany saved isSaved accounts way leftOut here text length atp frm token number error errorAt commands command out outLong) (hi : -2147483648 ≤ i ∧ i ≤ 2147483647) (hol : 0 ≤ outLong ∧ outLong ≤ 2048) : Sp Γ yX5_output mX5_output 2 0 0 [.ref (α 0), vi i] h (Qi (fun x h' => x = (if 0 ≤ i ∧ i < outLong then out i else -1) ∧ MW t α h0 h' 0 now aside tried undos undoMany saved isSaved accounts way leftOut here text length atp frm token number error errorAt commands command out outLong)) NoX := by
  refine sp_of okX5_output (cat_all rfl) (Nat.le_of_ble_eq_true rfl) rfl ?_
  refine v_ald0 (pc := 0) dX5_output_0 ?_
  refine v_iconst (pc := 1) dX5_output_1 ?_
  refine v_ptM_thrown hM (pc := 2) dX5_output_2 (lw_all_tbl q1994) (fun h hM => ?_)
  refine v_ild1 (pc := 5) dX5_output_5 ?_
  refine v_iconst (pc := 6) dX5_output_6 ?_
  refine v_ald0 (pc := 7) dX5_output_7 ?_
  refine v_getf KX5 24 (pc := 8) dX5_output_8 (lw_all_tbl q2018) (Or.inl rfl) (Nat.le_of_ble_eq_true rfl) (mw_obj hM) rfl ?_
  refine v_iconst (pc := 11) dX5_output_11 ?_
  refine v_isub (pc := 12) dX5_output_12 ?_
  refine v_cb0 (pc := 13) (v_runS3 okX5_in rfl (sp_X5_in (by omega) (by omega) (by omega)) dX5_output_13 (lw_all_tbl q2079) (lw_all_tbl q2080) (Nat.le_of_ble_eq_true rfl) ⟨Nat.zero_le _, Nat.zero_le _⟩ (Nat.le_of_ble_eq_true rfl)) (fun c13 => ?_) (fun c13 => ?_)
  · refine v_if_eq1 (pc := 16) (tgt := 28) dX5_output_16 rfl ?_
    refine v_ald0 (pc := 19) dX5_output_19 ?_
    refine v_getf KX5 23 (pc := 20) dX5_output_20 (lw_all_tbl q2017) (Or.inl rfl) (Nat.le_of_ble_eq_true rfl) (mw_obj hM) rfl ?_
    refine v_ild1 (pc := 23) dX5_output_23 ?_
    refine v_ldM_out hM (pc := 24) dX5_output_24 (by omega) ?_
    refine v_goto (pc := 25) (tgt := 29) dX5_output_25 rfl ?_
    refine v_ret_n (pc := 29) dX5_output_29 rfl ?_
    first | exact qi_ok ⟨by rw [if_pos (by omega)], hM⟩ | exact qi_ok ⟨by rw [if_neg (by omega)], hM⟩
  · refine v_if_eq0 (pc := 16) (tgt := 28) dX5_output_16 rfl ?_
    refine v_iconst (pc := 28) dX5_output_28 ?_
    refine v_ret_n (pc := 29) dX5_output_29 rfl ?_
    first | exact qi_ok ⟨by rw [if_pos (by omega)], hM⟩ | exact qi_ok ⟨by rw [if_neg (by omega)], hM⟩
theorem sp_X5_truncateText {Γ : Cx} {t : Nat} {α : Nat → Nat} {h0 h : AH} {thrown : Int} {now : Int → Int} {aside : Int → Int} {tried : Int → Int} {undos : Int → Int} {undoMany : Int} {saved : Int → Int} {isSaved : Int → Int} {accounts : Int → Int} {way : Int} {leftOut : Int} {here : Int → Int} {text : Int → Int} {length : Int} {atp : Int} {frm : Int} {token : Int} {number : Int} {error : Int} {errorAt : Int} {commands : Int} {command : Int → Int} {out : Int → Int} {outLong : Int} {k : Int} (hM : MW t α h0 h thrown now aside tried undos undoMany saved isSaved accounts way leftOut here text length atp frm token number error errorAt commands command out outLong) (hk : -2147483648 ≤ k ∧ k ≤ 2147483647) (hl : 0 ≤ length ∧ length ≤ 700) : Sp Γ yX5_truncateText mX5_truncateText 2 0 0 [.ref (α 0), vi k] h (Qi (fun x h' => x = (if 0 ≤ k ∧ k ≤ length then k else 0) ∧ MW t α h0 h' ((if 0 ≤ k ∧ k ≤ length then 0 else 1)) now aside tried undos undoMany saved isSaved accounts way leftOut here text ((if 0 ≤ k ∧ k ≤ length then k else length)) atp frm token number error errorAt commands command out outLong)) NoX := by
  refine sp_of okX5_truncateText (cat_all rfl) (Nat.le_of_ble_eq_true rfl) rfl ?_
  refine v_ald0 (pc := 0) dX5_truncateText_0 ?_
  refine v_ild1 (pc := 1) dX5_truncateText_1 ?_
  refine v_iconst (pc := 2) dX5_truncateText_2 ?_
  refine v_ald0 (pc := 3) dX5_truncateText_3 ?_
  refine v_getf KX5 13 (pc := 4) dX5_truncateText_4 (lw_all_tbl q2007) (Or.inl rfl) (Nat.le_of_ble_eq_true rfl) (mw_obj hM) rfl ?_
  refine v_cb0 (pc := 7) (v_runS3 okX5_in rfl (sp_X5_in (by omega) (by omega) (by omega)) dX5_truncateText_7 (lw_all_tbl q2079) (lw_all_tbl q2080) (Nat.le_of_ble_eq_true rfl) ⟨Nat.zero_le _, Nat.zero_le _⟩ (Nat.le_of_ble_eq_true rfl)) (fun c7 => ?_) (fun c7 => ?_)
  · refine v_if_eq1 (pc := 10) (tgt := 17) dX5_truncateText_10 rfl ?_
    refine v_iconst (pc := 13) dX5_truncateText_13 ?_
    refine v_goto (pc := 14) (tgt := 18) dX5_truncateText_14 rfl ?_
    refine v_ptM_thrown hM (pc := 18) dX5_truncateText_18 (lw_all_tbl q1994) (fun h hM => ?_)
    refine v_ald0 (pc := 21) dX5_truncateText_21 ?_
    refine v_getf KX5 0 (pc := 22) dX5_truncateText_22 (lw_all_tbl q1994) (Or.inl rfl) (Nat.le_of_ble_eq_true rfl) (mw_obj hM) rfl ?_
    refine v_if_le (pc := 25) (tgt := 30) dX5_truncateText_25 rfl (by omega) (fun _ => ?_) (fun c => absurd c (by decide))
    refine v_ald0 (pc := 30) dX5_truncateText_30 ?_
    refine v_ild1 (pc := 31) dX5_truncateText_31 ?_
    refine v_ptM_length hM (pc := 32) dX5_truncateText_32 (lw_all_tbl q2007) (fun h hM => ?_)
    refine v_ald0 (pc := 35) dX5_truncateText_35 ?_
    refine v_getf KX5 13 (pc := 36) dX5_truncateText_36 (lw_all_tbl q2007) (Or.inl rfl) (Nat.le_of_ble_eq_true rfl) (mw_obj hM) rfl ?_
    refine v_ret_n (pc := 39) dX5_truncateText_39 rfl ?_
    exact qi_ok ⟨by rw [if_pos (by omega)], by rw [if_pos (by omega), if_pos (by omega)]; exact hM⟩
  · refine v_if_eq0 (pc := 10) (tgt := 17) dX5_truncateText_10 rfl ?_
    refine v_iconst (pc := 17) dX5_truncateText_17 ?_
    refine v_ptM_thrown hM (pc := 18) dX5_truncateText_18 (lw_all_tbl q1994) (fun h hM => ?_)
    refine v_ald0 (pc := 21) dX5_truncateText_21 ?_
    refine v_getf KX5 0 (pc := 22) dX5_truncateText_22 (lw_all_tbl q1994) (Or.inl rfl) (Nat.le_of_ble_eq_true rfl) (mw_obj hM) rfl ?_
    refine v_if_le (pc := 25) (tgt := 30) dX5_truncateText_25 rfl (by omega) (fun c => absurd c (by decide)) (fun _ => ?_)
    refine v_iconst (pc := 28) dX5_truncateText_28 ?_
    refine v_ret_n (pc := 29) dX5_truncateText_29 rfl ?_
    exact qi_ok ⟨by rw [if_neg (by omega)], by rw [if_neg (by omega), if_neg (by omega)]; exact hM⟩
theorem sp_X5_see {Γ : Cx} {t : Nat} {α : Nat → Nat} {h0 h : AH} {thrown : Int} {now : Int → Int} {aside : Int → Int} {tried : Int → Int} {undos : Int → Int} {undoMany : Int} {saved : Int → Int} {isSaved : Int → Int} {accounts : Int → Int} {way : Int} {leftOut : Int} {here : Int → Int} {text : Int → Int} {length : Int} {atp : Int} {frm : Int} {token : Int} {number : Int} {error : Int} {errorAt : Int} {commands : Int} {command : Int → Int} {out : Int → Int} {outLong : Int}  (hM : MW t α h0 h thrown now aside tried undos undoMany saved isSaved accounts way leftOut here text length atp frm token number error errorAt commands command out outLong) (hat : 0 ≤ atp ∧ atp ≤ 800) (hl : 0 ≤ length ∧ length ≤ 700) : Sp Γ yX5_see mX5_see 1 0 0 [.ref (α 0)] h (Qe (mSee text length atp) h) NoX := by
  refine sp_of okX5_see (cat_all rfl) (Nat.le_of_ble_eq_true rfl) rfl ?_
  refine v_ald0 (pc := 0) dX5_see_0 ?_
  refine v_getf KX5 14 (pc := 1) dX5_see_1 (lw_all_tbl q2008) (Or.inl rfl) (Nat.le_of_ble_eq_true rfl) (mw_obj hM) rfl ?_
  refine v_ald0 (pc := 4) dX5_see_4 ?_
  refine v_getf KX5 13 (pc := 5) dX5_see_5 (lw_all_tbl q2007) (Or.inl rfl) (Nat.le_of_ble_eq_true rfl) (mw_obj hM) rfl ?_
  refine v_icmp_ge (pc := 8) (tgt := 27) dX5_see_8 rfl (by omega) (by omega) (fun c8 => ?_) (fun c8 => ?_)
  · refine v_iconst (pc := 27) dX5_see_27 ?_
    refine v_ret_n (pc := 28) dX5_see_28 rfl ?_
    exact qe_ok (by unfold mSee; first | rw [if_pos (by omega)] | rw [if_neg (by omega)])
  · refine v_ald0 (pc := 11) dX5_see_11 ?_
    refine v_getf KX5 12 (pc := 12) dX5_see_12 (lw_all_tbl q2006) (Or.inl rfl) (Nat.le_of_ble_eq_true rfl) (mw_obj hM) rfl ?_
    refine v_ald0 (pc := 15) dX5_see_15 ?_
    refine v_getf KX5 14 (pc := 16) dX5_see_16 (lw_all_tbl q2008) (Or.inl rfl) (Nat.le_of_ble_eq_true rfl) (mw_obj hM) rfl ?_
    refine v_ldM_text hM (pc := 19) dX5_see_19 (by omega) ?_
    refine v_sipush (pc := 20) dX5_see_20 ⟨by decide, by decide⟩ ?_
    refine v_iand255 (pc := 23) dX5_see_23 ?_
    refine v_goto (pc := 24) (tgt := 28) dX5_see_24 rfl ?_
    refine v_ret_n (pc := 28) dX5_see_28 rfl ?_
    exact qe_ok (by unfold mSee; first | rw [if_pos (by omega)] | rw [if_neg (by omega)])
theorem sp_X5_isSmall {Γ : Cx} {t : Nat} {α : Nat → Nat} {h0 h : AH} {thrown : Int} {now : Int → Int} {aside : Int → Int} {tried : Int → Int} {undos : Int → Int} {undoMany : Int} {saved : Int → Int} {isSaved : Int → Int} {accounts : Int → Int} {way : Int} {leftOut : Int} {here : Int → Int} {text : Int → Int} {length : Int} {atp : Int} {frm : Int} {token : Int} {number : Int} {error : Int} {errorAt : Int} {commands : Int} {command : Int → Int} {out : Int → Int} {outLong : Int}  (hM : MW t α h0 h thrown now aside tried undos undoMany saved isSaved accounts way leftOut here text length atp frm token number error errorAt commands command out outLong) (hat : 0 ≤ atp ∧ atp ≤ 800) (hl : 0 ≤ length ∧ length ≤ 700) : Sp Γ yX5_isSmall mX5_isSmall 2 0 0 [.ref (α 0)] h (Qb (97 ≤ mSee text length atp ∧ mSee text length atp ≤ 122) h) NoX := by
  refine sp_of okX5_isSmall (cat_all rfl) (Nat.le_of_ble_eq_true rfl) rfl ?_
  have hs := mSee_r text length atp
  refine v_ald0 (pc := 0) dX5_isSmall_0 ?_
  refine v_ce0 (pc := 1) (v_runV0 okX5_see rfl (sp_X5_see hM (by omega) (by omega)) dX5_isSmall_1 (lw_all_tbl q2454) (lw_all_tbl q2456) (lw_all_tbl qs100) rfl (mw_obj hM) (Nat.le_of_ble_eq_true rfl) ⟨Nat.zero_le _, Nat.zero_le _⟩ (Nat.le_of_ble_eq_true rfl)) ?_
  refine v_bipush (pc := 4) dX5_isSmall_4 ⟨by decide, by decide⟩ ?_
  refine v_bipush (pc := 6) dX5_isSmall_6 ⟨by decide, by decide⟩ ?_
  refine v_cb0 (pc := 8) (v_runS3 okX5_in rfl (sp_X5_in (by omega) (by omega) (by omega)) dX5_isSmall_8 (lw_all_tbl q2079) (lw_all_tbl q2080) (Nat.le_of_ble_eq_true rfl) ⟨Nat.zero_le _, Nat.zero_le _⟩ (Nat.le_of_ble_eq_true rfl)) (fun c8 => ?_) (fun c8 => ?_)
  · refine v_ret_z1 (pc := 11) dX5_isSmall_11 rfl ?_
    exact qb_1 (by omega)
  · refine v_ret_z0 (pc := 11) dX5_isSmall_11 rfl ?_
    exact qb_0 (by omega)
theorem sp_X5_isDigit {Γ : Cx} {t : Nat} {α : Nat → Nat} {h0 h : AH} {thrown : Int} {now : Int → Int} {aside : Int → Int} {tried : Int → Int} {undos : Int → Int} {undoMany : Int} {saved : Int → Int} {isSaved : Int → Int} {accounts : Int → Int} {way : Int} {leftOut : Int} {here : Int → Int} {text : Int → Int} {length : Int} {atp : Int} {frm : Int} {token : Int} {number : Int} {error : Int} {errorAt : Int} {commands : Int} {command : Int → Int} {out : Int → Int} {outLong : Int}  (hM : MW t α h0 h thrown now aside tried undos undoMany saved isSaved accounts way leftOut here text length atp frm token number error errorAt commands command out outLong) (hat : 0 ≤ atp ∧ atp ≤ 800) (hl : 0 ≤ length ∧ length ≤ 700) : Sp Γ yX5_isDigit mX5_isDigit 2 0 0 [.ref (α 0)] h (Qb (48 ≤ mSee text length atp ∧ mSee text length atp ≤ 57) h) NoX := by
  refine sp_of okX5_isDigit (cat_all rfl) (Nat.le_of_ble_eq_true rfl) rfl ?_
  have hs := mSee_r text length atp
  refine v_ald0 (pc := 0) dX5_isDigit_0 ?_
  refine v_ce0 (pc := 1) (v_runV0 okX5_see rfl (sp_X5_see hM (by omega) (by omega)) dX5_isDigit_1 (lw_all_tbl q2454) (lw_all_tbl q2456) (lw_all_tbl qs100) rfl (mw_obj hM) (Nat.le_of_ble_eq_true rfl) ⟨Nat.zero_le _, Nat.zero_le _⟩ (Nat.le_of_ble_eq_true rfl)) ?_
  refine v_bipush (pc := 4) dX5_isDigit_4 ⟨by decide, by decide⟩ ?_
  refine v_bipush (pc := 6) dX5_isDigit_6 ⟨by decide, by decide⟩ ?_
  refine v_cb0 (pc := 8) (v_runS3 okX5_in rfl (sp_X5_in (by omega) (by omega) (by omega)) dX5_isDigit_8 (lw_all_tbl q2079) (lw_all_tbl q2080) (Nat.le_of_ble_eq_true rfl) ⟨Nat.zero_le _, Nat.zero_le _⟩ (Nat.le_of_ble_eq_true rfl)) (fun c8 => ?_) (fun c8 => ?_)
  · refine v_ret_z1 (pc := 11) dX5_isDigit_11 rfl ?_
    exact qb_1 (by omega)
  · refine v_ret_z0 (pc := 11) dX5_isDigit_11 rfl ?_
    exact qb_0 (by omega)
theorem sp_X5_errorCode {Γ : Cx} {t : Nat} {α : Nat → Nat} {h0 h : AH} {thrown : Int} {now : Int → Int} {aside : Int → Int} {tried : Int → Int} {undos : Int → Int} {undoMany : Int} {saved : Int → Int} {isSaved : Int → Int} {accounts : Int → Int} {way : Int} {leftOut : Int} {here : Int → Int} {text : Int → Int} {length : Int} {atp : Int} {frm : Int} {token : Int} {number : Int} {error : Int} {errorAt : Int} {commands : Int} {command : Int → Int} {out : Int → Int} {outLong : Int}  (hM : MW t α h0 h thrown now aside tried undos undoMany saved isSaved accounts way leftOut here text length atp frm token number error errorAt commands command out outLong) : Sp Γ yX5_errorCode mX5_errorCode 1 0 0 [.ref (α 0)] h (Qi (fun x h' => x = error ∧ MW t α h0 h' 0 now aside tried undos undoMany saved isSaved accounts way leftOut here text length atp frm token number error errorAt commands command out outLong)) NoX := by
  refine sp_of okX5_errorCode (cat_all rfl) (Nat.le_of_ble_eq_true rfl) rfl ?_
  refine v_ald0 (pc := 0) dX5_errorCode_0 ?_
  refine v_iconst (pc := 1) dX5_errorCode_1 ?_
  refine v_ptM_thrown hM (pc := 2) dX5_errorCode_2 (lw_all_tbl q1994) (fun h hM => ?_)
  refine v_ald0 (pc := 5) dX5_errorCode_5 ?_
  refine v_getf KX5 18 (pc := 6) dX5_errorCode_6 (lw_all_tbl q2012) (Or.inl rfl) (Nat.le_of_ble_eq_true rfl) (mw_obj hM) rfl ?_
  refine v_ret_n (pc := 9) dX5_errorCode_9 rfl ?_
  exact qi_ok ⟨rfl, hM⟩
theorem sp_X5_errorPosition {Γ : Cx} {t : Nat} {α : Nat → Nat} {h0 h : AH} {thrown : Int} {now : Int → Int} {aside : Int → Int} {tried : Int → Int} {undos : Int → Int} {undoMany : Int} {saved : Int → Int} {isSaved : Int → Int} {accounts : Int → Int} {way : Int} {leftOut : Int} {here : Int → Int} {text : Int → Int} {length : Int} {atp : Int} {frm : Int} {token : Int} {number : Int} {error : Int} {errorAt : Int} {commands : Int} {command : Int → Int} {out : Int → Int} {outLong : Int}  (hM : MW t α h0 h thrown now aside tried undos undoMany saved isSaved accounts way leftOut here text length atp frm token number error errorAt commands command out outLong) : Sp Γ yX5_errorPosition mX5_errorPosition 1 0 0 [.ref (α 0)] h (Qi (fun x h' => x = errorAt ∧ MW t α h0 h' 0 now aside tried undos undoMany saved isSaved accounts way leftOut here text length atp frm token number error errorAt commands command out outLong)) NoX := by
  refine sp_of okX5_errorPosition (cat_all rfl) (Nat.le_of_ble_eq_true rfl) rfl ?_
  refine v_ald0 (pc := 0) dX5_errorPosition_0 ?_
  refine v_iconst (pc := 1) dX5_errorPosition_1 ?_
  refine v_ptM_thrown hM (pc := 2) dX5_errorPosition_2 (lw_all_tbl q1994) (fun h hM => ?_)
  refine v_ald0 (pc := 5) dX5_errorPosition_5 ?_
  refine v_getf KX5 19 (pc := 6) dX5_errorPosition_6 (lw_all_tbl q2013) (Or.inl rfl) (Nat.le_of_ble_eq_true rfl) (mw_obj hM) rfl ?_
  refine v_ret_n (pc := 9) dX5_errorPosition_9 rfl ?_
  exact qi_ok ⟨rfl, hM⟩
theorem sp_X5_must {Γ : Cx} {t : Nat} {α : Nat → Nat} {h0 h : AH} {thrown : Int} {now : Int → Int} {aside : Int → Int} {tried : Int → Int} {undos : Int → Int} {undoMany : Int} {saved : Int → Int} {isSaved : Int → Int} {accounts : Int → Int} {way : Int} {leftOut : Int} {here : Int → Int} {text : Int → Int} {length : Int} {atp : Int} {frm : Int} {token : Int} {number : Int} {error : Int} {errorAt : Int} {commands : Int} {command : Int → Int} {out : Int → Int} {outLong : Int} {b k : Int} (hM : MW t α h0 h thrown now aside tried undos undoMany saved isSaved accounts way leftOut here text length atp frm token number error errorAt commands command out outLong) (hb : 0 ≤ b ∧ b ≤ 1) (he : -2147483648 ≤ error ∧ error ≤ 2147483647) : Sp Γ yX5_must mX5_must 1 0 0 [.ref (α 0), vi b, vi k] h (Qv (fun h' => MW t α h0 h' thrown now aside tried undos undoMany saved isSaved accounts way leftOut here text length atp frm token number ((if b = 0 ∧ error = 0 then k else error)) ((if b = 0 ∧ error = 0 then frm else errorAt)) commands command out outLong)) NoX := by
  refine sp_of okX5_must (cat_all rfl) (Nat.le_of_ble_eq_true rfl) rfl ?_
  refine v_ild1 (pc := 0) dX5_must_0 ?_
  refine v_if_ne (pc := 1) (tgt := 24) dX5_must_1 rfl (by omega) (fun c1 => ?_) (fun c1 => ?_)
  · refine v_ret_v (pc := 24) dX5_must_24 rfl ?_
    exact qv_ok (by first | (rw [if_pos (by omega), if_pos (by omega)]; exact hM) | (rw [if_neg (by omega), if_neg (by omega)]; exact hM))
  · refine v_ald0 (pc := 4) dX5_must_4 ?_
    refine v_getf KX5 18 (pc := 5) dX5_must_5 (lw_all_tbl q2012) (Or.inl rfl) (Nat.le_of_ble_eq_true rfl) (mw_obj hM) rfl ?_
    refine v_if_ne (pc := 8) (tgt := 24) dX5_must_8 rfl (by omega) (fun c8 => ?_) (fun c8 => ?_)
    · refine v_ret_v (pc := 24) dX5_must_24 rfl ?_
      exact qv_ok (by first | (rw [if_pos (by omega), if_pos (by omega)]; exact hM) | (rw [if_neg (by omega), if_neg (by omega)]; exact hM))
    · refine v_ald0 (pc := 11) dX5_must_11 ?_
      refine v_ild2 (pc := 12) dX5_must_12 ?_
      refine v_ptM_error hM (pc := 13) dX5_must_13 (lw_all_tbl q2012) (fun h hM => ?_)
      refine v_ald0 (pc := 16) dX5_must_16 ?_
      refine v_ald0 (pc := 17) dX5_must_17 ?_
      refine v_getf KX5 15 (pc := 18) dX5_must_18 (lw_all_tbl q2009) (Or.inl rfl) (Nat.le_of_ble_eq_true rfl) (mw_obj hM) rfl ?_
      refine v_ptM_errorAt hM (pc := 21) dX5_must_21 (lw_all_tbl q2013) (fun h hM => ?_)
      refine v_ret_v (pc := 24) dX5_must_24 rfl ?_
      exact qv_ok (by first | (rw [if_pos (by omega), if_pos (by omega)]; exact hM) | (rw [if_neg (by omega), if_neg (by omega)]; exact hM))
