/-! FlashZonesModel: walks, 8: what is asked, the acts (printed by gen) -/
set_option maxRecDepth 100000
theorem sp_X5_count {Γ : Cx} {t : Nat} {α : Nat → Nat} {h0 h : AH} {thrown : Int} {now : Int → Int} {aside : Int → Int} {tried : Int → Int} {undos : Int → Int} {undoMany : Int} {saved : Int → Int} {isSaved : Int → Int} {accounts : Int → Int} {way : Int} {leftOut : Int} {here : Int → Int} {text : Int → Int} {length : Int} {atp : Int} {frm : Int} {token : Int} {number : Int} {error : Int} {errorAt : Int} {commands : Int} {command : Int → Int} {out : Int → Int} {outLong : Int} {c : Int} {k : Int} (hM : MW t α h0 h thrown now aside tried undos undoMany saved isSaved accounts way leftOut here text length atp frm token number error errorAt commands command out outLong) (hR : ROK now c) (hway : 0 ≤ way ∧ way ≤ 6) (hk : -2147483648 ≤ k ∧ k ≤ 2147483647) : Sp Γ yX5_count mX5_count 5 0 0 [.ref (α 0), vi k] h (Qi (fun x h' => x = (if 0 ≤ k ∧ k ≤ 17 then aCount now way undoMany k else 0) ∧ MW t α h0 h' ((if 0 ≤ k ∧ k ≤ 17 then 0 else 1)) now aside tried undos undoMany saved isSaved accounts way leftOut here text length atp frm token number error errorAt commands command out outLong)) NoX := by
  refine sp_of okX5_count (cat_all rfl) (Nat.le_of_ble_eq_true rfl) rfl ?_
  refine v_ald0 (pc := 0) dX5_count_0 ?_
  refine v_ild1 (pc := 1) dX5_count_1 ?_
  refine v_iconst (pc := 2) dX5_count_2 ?_
  refine v_bipush (pc := 3) dX5_count_3 ⟨by decide, by decide⟩ ?_
  refine v_cb0 (pc := 5) (v_runS3 okX5_in rfl (sp_X5_in (by omega) (by omega) (by omega)) dX5_count_5 (lw_all_tbl q2079) (lw_all_tbl q2080) (Nat.le_of_ble_eq_true rfl) ⟨Nat.zero_le _, Nat.zero_le _⟩ (Nat.le_of_ble_eq_true rfl)) (fun c5 => ?_) (fun c5 => ?_)
  · refine v_if_eq1 (pc := 8) (tgt := 15) dX5_count_8 rfl ?_
    refine v_iconst (pc := 11) dX5_count_11 ?_
    refine v_goto (pc := 12) (tgt := 16) dX5_count_12 rfl ?_
    refine v_ptM_thrown hM (pc := 16) dX5_count_16 (lw_all_tbl q1994) (fun h hM => ?_)
    refine v_ald0 (pc := 19) dX5_count_19 ?_
    refine v_getf KX5 0 (pc := 20) dX5_count_20 (lw_all_tbl q1994) (Or.inl rfl) (Nat.le_of_ble_eq_true rfl) (mw_obj hM) rfl ?_
    refine v_if_le (pc := 23) (tgt := 30) dX5_count_23 rfl (by omega) (fun _ => ?_) (fun c => absurd c (by decide))
    refine v_ild1 (pc := 30) dX5_count_30 ?_
    refine v_case (pc := 31) (-1) (fun e31_0 => ?_) (fun e31_0 => ?_)
    · refine v_tableK (-1) (pc := 31) (tgt := 120) dX5_count_31 ⟨by decide, by decide⟩ (by decide) (by decide) rfl rfl ?_ e31_0
      subst e31_0
      refine v_iconst (pc := 120) dX5_count_120 ?_
      refine v_ret_n (pc := 121) dX5_count_121 rfl ?_
      first | (exfalso; omega) | exact qi_ok ⟨by rw [if_pos (by omega)] <;> (first | rfl | (show (_ : Int) = (if _ then 1 else 0); first | rw [if_pos (by omega)] | rw [if_neg (by omega)])), mw_thr hM (by rw [if_pos (by omega)])⟩ | exact qi_ok ⟨by rw [if_neg (by omega)], mw_thr hM (by rw [if_neg (by omega)] <;> (first | rw [if_pos (by omega)] | rw [if_neg (by omega)]))⟩ | exact qi_ok ⟨by rw [if_neg (by omega)], mw_thr hM (by rw [if_neg (by omega)])⟩
    refine v_case (pc := 31) 0 (fun e31_1 => ?_) (fun e31_1 => ?_)
    · refine v_tableK 0 (pc := 31) (tgt := 185) dX5_count_31 ⟨by decide, by decide⟩ (by decide) (by decide) rfl rfl ?_ e31_1
      subst e31_1
      refine v_ald0 (pc := 185) dX5_count_185 ?_
      refine v_getf KX5 1 (pc := 186) dX5_count_186 (lw_all_tbl q1995) (Or.inl rfl) (Nat.le_of_ble_eq_true rfl) (mw_obj hM) rfl ?_
      refine v_ild1 (pc := 189) dX5_count_189 ?_
      refine v_ldM_now hM (pc := 190) dX5_count_190 (by omega) ?_
      refine v_ret_n (pc := 191) dX5_count_191 rfl ?_
      first | (exfalso; omega) | exact qi_ok ⟨by rw [if_pos (by omega)] <;> (first | rfl | (show (_ : Int) = (if _ then 1 else 0); first | rw [if_pos (by omega)] | rw [if_neg (by omega)])), mw_thr hM (by rw [if_pos (by omega)])⟩ | exact qi_ok ⟨by rw [if_neg (by omega)], mw_thr hM (by rw [if_neg (by omega)] <;> (first | rw [if_pos (by omega)] | rw [if_neg (by omega)]))⟩ | exact qi_ok ⟨by rw [if_neg (by omega)], mw_thr hM (by rw [if_neg (by omega)])⟩
    refine v_case (pc := 31) 1 (fun e31_2 => ?_) (fun e31_2 => ?_)
    · refine v_tableK 1 (pc := 31) (tgt := 185) dX5_count_31 ⟨by decide, by decide⟩ (by decide) (by decide) rfl rfl ?_ e31_2
      subst e31_2
      refine v_ald0 (pc := 185) dX5_count_185 ?_
      refine v_getf KX5 1 (pc := 186) dX5_count_186 (lw_all_tbl q1995) (Or.inl rfl) (Nat.le_of_ble_eq_true rfl) (mw_obj hM) rfl ?_
      refine v_ild1 (pc := 189) dX5_count_189 ?_
      refine v_ldM_now hM (pc := 190) dX5_count_190 (by omega) ?_
      refine v_ret_n (pc := 191) dX5_count_191 rfl ?_
      first | (exfalso; omega) | exact qi_ok ⟨by rw [if_pos (by omega)] <;> (first | rfl | (show (_ : Int) = (if _ then 1 else 0); first | rw [if_pos (by omega)] | rw [if_neg (by omega)])), mw_thr hM (by rw [if_pos (by omega)])⟩ | exact qi_ok ⟨by rw [if_neg (by omega)], mw_thr hM (by rw [if_neg (by omega)] <;> (first | rw [if_pos (by omega)] | rw [if_neg (by omega)]))⟩ | exact qi_ok ⟨by rw [if_neg (by omega)], mw_thr hM (by rw [if_neg (by omega)])⟩
    refine v_case (pc := 31) 2 (fun e31_3 => ?_) (fun e31_3 => ?_)
    · refine v_tableK 2 (pc := 31) (tgt := 185) dX5_count_31 ⟨by decide, by decide⟩ (by decide) (by decide) rfl rfl ?_ e31_3
      subst e31_3
      refine v_ald0 (pc := 185) dX5_count_185 ?_
      refine v_getf KX5 1 (pc := 186) dX5_count_186 (lw_all_tbl q1995) (Or.inl rfl) (Nat.le_of_ble_eq_true rfl) (mw_obj hM) rfl ?_
      refine v_ild1 (pc := 189) dX5_count_189 ?_
      refine v_ldM_now hM (pc := 190) dX5_count_190 (by omega) ?_
      refine v_ret_n (pc := 191) dX5_count_191 rfl ?_
      first | (exfalso; omega) | exact qi_ok ⟨by rw [if_pos (by omega)] <;> (first | rfl | (show (_ : Int) = (if _ then 1 else 0); first | rw [if_pos (by omega)] | rw [if_neg (by omega)])), mw_thr hM (by rw [if_pos (by omega)])⟩ | exact qi_ok ⟨by rw [if_neg (by omega)], mw_thr hM (by rw [if_neg (by omega)] <;> (first | rw [if_pos (by omega)] | rw [if_neg (by omega)]))⟩ | exact qi_ok ⟨by rw [if_neg (by omega)], mw_thr hM (by rw [if_neg (by omega)])⟩
    refine v_case (pc := 31) 3 (fun e31_4 => ?_) (fun e31_4 => ?_)
    · refine v_tableK 3 (pc := 31) (tgt := 185) dX5_count_31 ⟨by decide, by decide⟩ (by decide) (by decide) rfl rfl ?_ e31_4
      subst e31_4
      refine v_ald0 (pc := 185) dX5_count_185 ?_
      refine v_getf KX5 1 (pc := 186) dX5_count_186 (lw_all_tbl q1995) (Or.inl rfl) (Nat.le_of_ble_eq_true rfl) (mw_obj hM) rfl ?_
      refine v_ild1 (pc := 189) dX5_count_189 ?_
      refine v_ldM_now hM (pc := 190) dX5_count_190 (by omega) ?_
      refine v_ret_n (pc := 191) dX5_count_191 rfl ?_
      first | (exfalso; omega) | exact qi_ok ⟨by rw [if_pos (by omega)] <;> (first | rfl | (show (_ : Int) = (if _ then 1 else 0); first | rw [if_pos (by omega)] | rw [if_neg (by omega)])), mw_thr hM (by rw [if_pos (by omega)])⟩ | exact qi_ok ⟨by rw [if_neg (by omega)], mw_thr hM (by rw [if_neg (by omega)] <;> (first | rw [if_pos (by omega)] | rw [if_neg (by omega)]))⟩ | exact qi_ok ⟨by rw [if_neg (by omega)], mw_thr hM (by rw [if_neg (by omega)])⟩
    refine v_case (pc := 31) 4 (fun e31_5 => ?_) (fun e31_5 => ?_)
    · refine v_tableK 4 (pc := 31) (tgt := 185) dX5_count_31 ⟨by decide, by decide⟩ (by decide) (by decide) rfl rfl ?_ e31_5
      subst e31_5
      refine v_ald0 (pc := 185) dX5_count_185 ?_
      refine v_getf KX5 1 (pc := 186) dX5_count_186 (lw_all_tbl q1995) (Or.inl rfl) (Nat.le_of_ble_eq_true rfl) (mw_obj hM) rfl ?_
      refine v_ild1 (pc := 189) dX5_count_189 ?_
      refine v_ldM_now hM (pc := 190) dX5_count_190 (by omega) ?_
      refine v_ret_n (pc := 191) dX5_count_191 rfl ?_
      first | (exfalso; omega) | exact qi_ok ⟨by rw [if_pos (by omega)] <;> (first | rfl | (show (_ : Int) = (if _ then 1 else 0); first | rw [if_pos (by omega)] | rw [if_neg (by omega)])), mw_thr hM (by rw [if_pos (by omega)])⟩ | exact qi_ok ⟨by rw [if_neg (by omega)], mw_thr hM (by rw [if_neg (by omega)] <;> (first | rw [if_pos (by omega)] | rw [if_neg (by omega)]))⟩ | exact qi_ok ⟨by rw [if_neg (by omega)], mw_thr hM (by rw [if_neg (by omega)])⟩
    refine v_case (pc := 31) 5 (fun e31_6 => ?_) (fun e31_6 => ?_)
    · refine v_tableK 5 (pc := 31) (tgt := 185) dX5_count_31 ⟨by decide, by decide⟩ (by decide) (by decide) rfl rfl ?_ e31_6
      subst e31_6
      refine v_ald0 (pc := 185) dX5_count_185 ?_
      refine v_getf KX5 1 (pc := 186) dX5_count_186 (lw_all_tbl q1995) (Or.inl rfl) (Nat.le_of_ble_eq_true rfl) (mw_obj hM) rfl ?_
      refine v_ild1 (pc := 189) dX5_count_189 ?_
      refine v_ldM_now hM (pc := 190) dX5_count_190 (by omega) ?_
      refine v_ret_n (pc := 191) dX5_count_191 rfl ?_
      first | (exfalso; omega) | exact qi_ok ⟨by rw [if_pos (by omega)] <;> (first | rfl | (show (_ : Int) = (if _ then 1 else 0); first | rw [if_pos (by omega)] | rw [if_neg (by omega)])), mw_thr hM (by rw [if_pos (by omega)])⟩ | exact qi_ok ⟨by rw [if_neg (by omega)], mw_thr hM (by rw [if_neg (by omega)] <;> (first | rw [if_pos (by omega)] | rw [if_neg (by omega)]))⟩ | exact qi_ok ⟨by rw [if_neg (by omega)], mw_thr hM (by rw [if_neg (by omega)])⟩
    refine v_case (pc := 31) 6 (fun e31_7 => ?_) (fun e31_7 => ?_)
    · refine v_tableK 6 (pc := 31) (tgt := 185) dX5_count_31 ⟨by decide, by decide⟩ (by decide) (by decide) rfl rfl ?_ e31_7
      subst e31_7
      refine v_ald0 (pc := 185) dX5_count_185 ?_
      refine v_getf KX5 1 (pc := 186) dX5_count_186 (lw_all_tbl q1995) (Or.inl rfl) (Nat.le_of_ble_eq_true rfl) (mw_obj hM) rfl ?_
      refine v_ild1 (pc := 189) dX5_count_189 ?_
      refine v_ldM_now hM (pc := 190) dX5_count_190 (by omega) ?_
      refine v_ret_n (pc := 191) dX5_count_191 rfl ?_
      first | (exfalso; omega) | exact qi_ok ⟨by rw [if_pos (by omega)] <;> (first | rfl | (show (_ : Int) = (if _ then 1 else 0); first | rw [if_pos (by omega)] | rw [if_neg (by omega)])), mw_thr hM (by rw [if_pos (by omega)])⟩ | exact qi_ok ⟨by rw [if_neg (by omega)], mw_thr hM (by rw [if_neg (by omega)] <;> (first | rw [if_pos (by omega)] | rw [if_neg (by omega)]))⟩ | exact qi_ok ⟨by rw [if_neg (by omega)], mw_thr hM (by rw [if_neg (by omega)])⟩
    refine v_case (pc := 31) 7 (fun e31_8 => ?_) (fun e31_8 => ?_)
    · refine v_tableK 7 (pc := 31) (tgt := 185) dX5_count_31 ⟨by decide, by decide⟩ (by decide) (by decide) rfl rfl ?_ e31_8
      subst e31_8
      refine v_ald0 (pc := 185) dX5_count_185 ?_
      refine v_getf KX5 1 (pc := 186) dX5_count_186 (lw_all_tbl q1995) (Or.inl rfl) (Nat.le_of_ble_eq_true rfl) (mw_obj hM) rfl ?_
      refine v_ild1 (pc := 189) dX5_count_189 ?_
      refine v_ldM_now hM (pc := 190) dX5_count_190 (by omega) ?_
      refine v_ret_n (pc := 191) dX5_count_191 rfl ?_
      first | (exfalso; omega) | exact qi_ok ⟨by rw [if_pos (by omega)] <;> (first | rfl | (show (_ : Int) = (if _ then 1 else 0); first | rw [if_pos (by omega)] | rw [if_neg (by omega)])), mw_thr hM (by rw [if_pos (by omega)])⟩ | exact qi_ok ⟨by rw [if_neg (by omega)], mw_thr hM (by rw [if_neg (by omega)] <;> (first | rw [if_pos (by omega)] | rw [if_neg (by omega)]))⟩ | exact qi_ok ⟨by rw [if_neg (by omega)], mw_thr hM (by rw [if_neg (by omega)])⟩
    refine v_case (pc := 31) 8 (fun e31_9 => ?_) (fun e31_9 => ?_)
    · refine v_tableK 8 (pc := 31) (tgt := 122) dX5_count_31 ⟨by decide, by decide⟩ (by decide) (by decide) rfl rfl ?_ e31_9
      subst e31_9
      refine v_ald0 (pc := 122) dX5_count_122 ?_
      refine v_ce0 (pc := 123) (v_runV0 okX5_livingUnits rfl (sp_X5_livingUnits hM (by omega)) dX5_count_123 (lw_all_tbl q2096) (lw_all_tbl q2098) (lw_all_tbl qs49) rfl (mw_obj hM) (Nat.le_of_ble_eq_true rfl) ⟨Nat.zero_le _, Nat.zero_le _⟩ (Nat.le_of_ble_eq_true rfl)) ?_
      refine v_ret_n (pc := 126) dX5_count_126 rfl ?_
      first | (exfalso; omega) | exact qi_ok ⟨by rw [if_pos (by omega)] <;> (first | rfl | (show (_ : Int) = (if _ then 1 else 0); first | rw [if_pos (by omega)] | rw [if_neg (by omega)])), mw_thr hM (by rw [if_pos (by omega)])⟩ | exact qi_ok ⟨by rw [if_neg (by omega)], mw_thr hM (by rw [if_neg (by omega)] <;> (first | rw [if_pos (by omega)] | rw [if_neg (by omega)]))⟩ | exact qi_ok ⟨by rw [if_neg (by omega)], mw_thr hM (by rw [if_neg (by omega)])⟩
    refine v_case (pc := 31) 9 (fun e31_10 => ?_) (fun e31_10 => ?_)
    · refine v_tableK 9 (pc := 31) (tgt := 127) dX5_count_31 ⟨by decide, by decide⟩ (by decide) (by decide) rfl rfl ?_ e31_10
      subst e31_10
      refine v_ald0 (pc := 127) dX5_count_127 ?_
      refine v_ce0 (pc := 128) (v_runV0 okX5_freeZones rfl (sp_X5_freeZones hM (by omega)) dX5_count_128 (lw_all_tbl q2111) (lw_all_tbl q2113) (lw_all_tbl qs52) rfl (mw_obj hM) (Nat.le_of_ble_eq_true rfl) ⟨Nat.zero_le _, Nat.zero_le _⟩ (Nat.le_of_ble_eq_true rfl)) ?_
      refine v_ret_n (pc := 131) dX5_count_131 rfl ?_
      first | (exfalso; omega) | exact qi_ok ⟨by rw [if_pos (by omega)] <;> (first | rfl | (show (_ : Int) = (if _ then 1 else 0); first | rw [if_pos (by omega)] | rw [if_neg (by omega)])), mw_thr hM (by rw [if_pos (by omega)])⟩ | exact qi_ok ⟨by rw [if_neg (by omega)], mw_thr hM (by rw [if_neg (by omega)] <;> (first | rw [if_pos (by omega)] | rw [if_neg (by omega)]))⟩ | exact qi_ok ⟨by rw [if_neg (by omega)], mw_thr hM (by rw [if_neg (by omega)])⟩
    refine v_case (pc := 31) 10 (fun e31_11 => ?_) (fun e31_11 => ?_)
    · refine v_tableK 10 (pc := 31) (tgt := 132) dX5_count_31 ⟨by decide, by decide⟩ (by decide) (by decide) rfl rfl ?_ e31_11
      subst e31_11
      refine v_ald0 (pc := 132) dX5_count_132 ?_
      refine v_getf KX5 1 (pc := 133) dX5_count_133 (lw_all_tbl q1995) (Or.inl rfl) (Nat.le_of_ble_eq_true rfl) (mw_obj hM) rfl ?_
      refine v_bipush (pc := 136) dX5_count_136 ⟨by decide, by decide⟩ ?_
      refine v_ldM_now hM (pc := 138) dX5_count_138 (by omega) ?_
      refine v_ret_n (pc := 139) dX5_count_139 rfl ?_
      first | (exfalso; omega) | exact qi_ok ⟨by rw [if_pos (by omega)] <;> (first | rfl | (show (_ : Int) = (if _ then 1 else 0); first | rw [if_pos (by omega)] | rw [if_neg (by omega)])), mw_thr hM (by rw [if_pos (by omega)])⟩ | exact qi_ok ⟨by rw [if_neg (by omega)], mw_thr hM (by rw [if_neg (by omega)] <;> (first | rw [if_pos (by omega)] | rw [if_neg (by omega)]))⟩ | exact qi_ok ⟨by rw [if_neg (by omega)], mw_thr hM (by rw [if_neg (by omega)])⟩
    refine v_case (pc := 31) 11 (fun e31_12 => ?_) (fun e31_12 => ?_)
    · refine v_tableK 11 (pc := 31) (tgt := 140) dX5_count_31 ⟨by decide, by decide⟩ (by decide) (by decide) rfl rfl ?_ e31_12
      subst e31_12
      refine v_ald0 (pc := 140) dX5_count_140 ?_
      refine v_getf KX5 1 (pc := 141) dX5_count_141 (lw_all_tbl q1995) (Or.inl rfl) (Nat.le_of_ble_eq_true rfl) (mw_obj hM) rfl ?_
      refine v_bipush (pc := 144) dX5_count_144 ⟨by decide, by decide⟩ ?_
      refine v_ldM_now hM (pc := 146) dX5_count_146 (by omega) ?_
      refine v_ret_n (pc := 147) dX5_count_147 rfl ?_
      first | (exfalso; omega) | exact qi_ok ⟨by rw [if_pos (by omega)] <;> (first | rfl | (show (_ : Int) = (if _ then 1 else 0); first | rw [if_pos (by omega)] | rw [if_neg (by omega)])), mw_thr hM (by rw [if_pos (by omega)])⟩ | exact qi_ok ⟨by rw [if_neg (by omega)], mw_thr hM (by rw [if_neg (by omega)] <;> (first | rw [if_pos (by omega)] | rw [if_neg (by omega)]))⟩ | exact qi_ok ⟨by rw [if_neg (by omega)], mw_thr hM (by rw [if_neg (by omega)])⟩
    refine v_case (pc := 31) 12 (fun e31_13 => ?_) (fun e31_13 => ?_)
    · refine v_tableK 12 (pc := 31) (tgt := 148) dX5_count_31 ⟨by decide, by decide⟩ (by decide) (by decide) rfl rfl ?_ e31_13
      subst e31_13
      refine v_ald0 (pc := 148) dX5_count_148 ?_
      refine v_ce0 (pc := 149) (v_runV0 okX5_leader rfl (sp_X5_leader hM (by omega) (by omega)) dX5_count_149 (lw_all_tbl q2123) (lw_all_tbl q2125) (lw_all_tbl qs55) rfl (mw_obj hM) (Nat.le_of_ble_eq_true rfl) ⟨Nat.zero_le _, Nat.zero_le _⟩ (Nat.le_of_ble_eq_true rfl)) ?_
      refine v_ret_n (pc := 152) dX5_count_152 rfl ?_
      first | (exfalso; omega) | exact qi_ok ⟨by rw [if_pos (by omega)] <;> (first | rfl | (show (_ : Int) = (if _ then 1 else 0); first | rw [if_pos (by omega)] | rw [if_neg (by omega)])), mw_thr hM (by rw [if_pos (by omega)])⟩ | exact qi_ok ⟨by rw [if_neg (by omega)], mw_thr hM (by rw [if_neg (by omega)] <;> (first | rw [if_pos (by omega)] | rw [if_neg (by omega)]))⟩ | exact qi_ok ⟨by rw [if_neg (by omega)], mw_thr hM (by rw [if_neg (by omega)])⟩
    refine v_case (pc := 31) 13 (fun e31_14 => ?_) (fun e31_14 => ?_)
    · refine v_tableK 13 (pc := 31) (tgt := 153) dX5_count_31 ⟨by decide, by decide⟩ (by decide) (by decide) rfl rfl ?_ e31_14
      subst e31_14
      refine v_ald0 (pc := 153) dX5_count_153 ?_
      refine v_getf KX5 1 (pc := 154) dX5_count_154 (lw_all_tbl q1995) (Or.inl rfl) (Nat.le_of_ble_eq_true rfl) (mw_obj hM) rfl ?_
      refine v_bipush (pc := 157) dX5_count_157 ⟨by decide, by decide⟩ ?_
      refine v_ldM_now hM (pc := 159) dX5_count_159 (by omega) ?_
      refine v_ret_n (pc := 160) dX5_count_160 rfl ?_
      first | (exfalso; omega) | exact qi_ok ⟨by rw [if_pos (by omega)] <;> (first | rfl | (show (_ : Int) = (if _ then 1 else 0); first | rw [if_pos (by omega)] | rw [if_neg (by omega)])), mw_thr hM (by rw [if_pos (by omega)])⟩ | exact qi_ok ⟨by rw [if_neg (by omega)], mw_thr hM (by rw [if_neg (by omega)] <;> (first | rw [if_pos (by omega)] | rw [if_neg (by omega)]))⟩ | exact qi_ok ⟨by rw [if_neg (by omega)], mw_thr hM (by rw [if_neg (by omega)])⟩
    refine v_case (pc := 31) 14 (fun e31_15 => ?_) (fun e31_15 => ?_)
    · refine v_tableK 14 (pc := 31) (tgt := 161) dX5_count_31 ⟨by decide, by decide⟩ (by decide) (by decide) rfl rfl ?_ e31_15
      subst e31_15
      refine v_ald0 (pc := 161) dX5_count_161 ?_
      refine v_getf KX5 1 (pc := 162) dX5_count_162 (lw_all_tbl q1995) (Or.inl rfl) (Nat.le_of_ble_eq_true rfl) (mw_obj hM) rfl ?_
      refine v_bipush (pc := 165) dX5_count_165 ⟨by decide, by decide⟩ ?_
      refine v_ldM_now hM (pc := 167) dX5_count_167 (by omega) ?_
      refine v_ret_n (pc := 168) dX5_count_168 rfl ?_
      first | (exfalso; omega) | exact qi_ok ⟨by rw [if_pos (by omega)] <;> (first | rfl | (show (_ : Int) = (if _ then 1 else 0); first | rw [if_pos (by omega)] | rw [if_neg (by omega)])), mw_thr hM (by rw [if_pos (by omega)])⟩ | exact qi_ok ⟨by rw [if_neg (by omega)], mw_thr hM (by rw [if_neg (by omega)] <;> (first | rw [if_pos (by omega)] | rw [if_neg (by omega)]))⟩ | exact qi_ok ⟨by rw [if_neg (by omega)], mw_thr hM (by rw [if_neg (by omega)])⟩
    refine v_case (pc := 31) 15 (fun e31_16 => ?_) (fun e31_16 => ?_)
    · refine v_tableK 15 (pc := 31) (tgt := 169) dX5_count_31 ⟨by decide, by decide⟩ (by decide) (by decide) rfl rfl ?_ e31_16
      subst e31_16
      refine v_ald0 (pc := 169) dX5_count_169 ?_
      refine v_getf KX5 5 (pc := 170) dX5_count_170 (lw_all_tbl q1999) (Or.inl rfl) (Nat.le_of_ble_eq_true rfl) (mw_obj hM) rfl ?_
      refine v_ret_n (pc := 173) dX5_count_173 rfl ?_
      first | (exfalso; omega) | exact qi_ok ⟨by rw [if_pos (by omega)] <;> (first | rfl | (show (_ : Int) = (if _ then 1 else 0); first | rw [if_pos (by omega)] | rw [if_neg (by omega)])), mw_thr hM (by rw [if_pos (by omega)])⟩ | exact qi_ok ⟨by rw [if_neg (by omega)], mw_thr hM (by rw [if_neg (by omega)] <;> (first | rw [if_pos (by omega)] | rw [if_neg (by omega)]))⟩ | exact qi_ok ⟨by rw [if_neg (by omega)], mw_thr hM (by rw [if_neg (by omega)])⟩
    refine v_case (pc := 31) 16 (fun e31_17 => ?_) (fun e31_17 => ?_)
    · refine v_tableK 16 (pc := 31) (tgt := 174) dX5_count_31 ⟨by decide, by decide⟩ (by decide) (by decide) rfl rfl ?_ e31_17
      subst e31_17
      refine v_ald0 (pc := 174) dX5_count_174 ?_
      refine v_ce0 (pc := 175) (v_runV0 okX5_filledPlaces rfl (sp_X5_filledPlaces hM (by omega)) dX5_count_175 (lw_all_tbl q2127) (lw_all_tbl q2129) (lw_all_tbl qs56) rfl (mw_obj hM) (Nat.le_of_ble_eq_true rfl) ⟨Nat.zero_le _, Nat.zero_le _⟩ (Nat.le_of_ble_eq_true rfl)) ?_
      refine v_ret_n (pc := 178) dX5_count_178 rfl ?_
      first | (exfalso; omega) | exact qi_ok ⟨by rw [if_pos (by omega)] <;> (first | rfl | (show (_ : Int) = (if _ then 1 else 0); first | rw [if_pos (by omega)] | rw [if_neg (by omega)])), mw_thr hM (by rw [if_pos (by omega)])⟩ | exact qi_ok ⟨by rw [if_neg (by omega)], mw_thr hM (by rw [if_neg (by omega)] <;> (first | rw [if_pos (by omega)] | rw [if_neg (by omega)]))⟩ | exact qi_ok ⟨by rw [if_neg (by omega)], mw_thr hM (by rw [if_neg (by omega)])⟩
    refine v_case (pc := 31) 17 (fun e31_18 => ?_) (fun e31_18 => ?_)
    · refine v_tableK 17 (pc := 31) (tgt := 179) dX5_count_31 ⟨by decide, by decide⟩ (by decide) (by decide) rfl rfl ?_ e31_18
      subst e31_18
      refine v_ald0 (pc := 179) dX5_count_179 ?_
      refine v_iconst (pc := 180) dX5_count_180 ?_
      refine v_ce0 (pc := 181) (v_runV1 okX5_livingPlaces rfl (sp_X5_livingPlaces hM (by omega) (by omega)) dX5_count_181 (lw_all_tbl q2131) (lw_all_tbl q2133) (lw_all_tbl qs57) rfl (mw_obj hM) (Nat.le_of_ble_eq_true rfl) ⟨Nat.zero_le _, Nat.zero_le _⟩ (Nat.le_of_ble_eq_true rfl)) ?_
      refine v_ret_n (pc := 184) dX5_count_184 rfl ?_
      first | (exfalso; omega) | exact qi_ok ⟨by rw [if_pos (by omega)] <;> (first | rfl | (show (_ : Int) = (if _ then 1 else 0); first | rw [if_pos (by omega)] | rw [if_neg (by omega)])), mw_thr hM (by rw [if_pos (by omega)])⟩ | exact qi_ok ⟨by rw [if_neg (by omega)], mw_thr hM (by rw [if_neg (by omega)] <;> (first | rw [if_pos (by omega)] | rw [if_neg (by omega)]))⟩ | exact qi_ok ⟨by rw [if_neg (by omega)], mw_thr hM (by rw [if_neg (by omega)])⟩
    exfalso; omega
  · refine v_if_eq0 (pc := 8) (tgt := 15) dX5_count_8 rfl ?_
    refine v_iconst (pc := 15) dX5_count_15 ?_
    refine v_ptM_thrown hM (pc := 16) dX5_count_16 (lw_all_tbl q1994) (fun h hM => ?_)
    refine v_ald0 (pc := 19) dX5_count_19 ?_
    refine v_getf KX5 0 (pc := 20) dX5_count_20 (lw_all_tbl q1994) (Or.inl rfl) (Nat.le_of_ble_eq_true rfl) (mw_obj hM) rfl ?_
    refine v_if_le (pc := 23) (tgt := 30) dX5_count_23 rfl (by omega) (fun c => absurd c (by decide)) (fun _ => ?_)
    refine v_iconst (pc := 26) dX5_count_26 ?_
    refine v_goto (pc := 27) (tgt := 31) dX5_count_27 rfl ?_
    refine v_tableK (-1) (pc := 31) (tgt := 120) dX5_count_31 ⟨by decide, by decide⟩ (by decide) (by decide) rfl rfl ?_ rfl
    refine v_iconst (pc := 120) dX5_count_120 ?_
    refine v_ret_n (pc := 121) dX5_count_121 rfl ?_
    first | (exfalso; omega) | exact qi_ok ⟨by rw [if_pos (by omega)] <;> (first | rfl | (show (_ : Int) = (if _ then 1 else 0); first | rw [if_pos (by omega)] | rw [if_neg (by omega)])), mw_thr hM (by rw [if_pos (by omega)])⟩ | exact qi_ok ⟨by rw [if_neg (by omega)], mw_thr hM (by rw [if_neg (by omega)] <;> (first | rw [if_pos (by omega)] | rw [if_neg (by omega)]))⟩ | exact qi_ok ⟨by rw [if_neg (by omega)], mw_thr hM (by rw [if_neg (by omega)])⟩
theorem sp_X5_zone {Γ : Cx} {t : Nat} {α : Nat → Nat} {h0 h : AH} {thrown : Int} {now : Int → Int} {aside : Int → Int} {tried : Int → Int} {undos : Int → Int} {undoMany : Int} {saved : Int → Int} {isSaved : Int → Int} {accounts : Int → Int} {way : Int} {leftOut : Int} {here : Int → Int} {text : Int → Int} {length : Int} {atp : Int} {frm : Int} {token : Int} {number : Int} {error : Int} {errorAt : Int} {commands : Int} {command : Int → Int} {out : Int → Int} {outLong : Int} {c : Int} {z k : Int} (hM : MW t α h0 h thrown now aside tried undos undoMany saved isSaved accounts way leftOut here text length atp frm token number error errorAt commands command out outLong) (hR : ROK now c) (hz : -2147483648 ≤ z ∧ z ≤ 2147483647) (hk : -2147483648 ≤ k ∧ k ≤ 2147483647) : Sp Γ yX5_zone mX5_zone 5 0 0 [.ref (α 0), vi z, vi k] h (Qi (fun x h' => x = (if (0 ≤ z ∧ z < now 0) ∧ 0 ≤ k ∧ k ≤ 6 then aZone now z k else 0) ∧ MW t α h0 h' ((if (0 ≤ z ∧ z < now 0) ∧ 0 ≤ k ∧ k ≤ 6 then 0 else (if 0 ≤ z ∧ z < now 0 then 2 else 1))) now aside tried undos undoMany saved isSaved accounts way leftOut here text length atp frm token number error errorAt commands command out outLong)) NoX := by
  refine sp_of okX5_zone (cat_all rfl) (Nat.le_of_ble_eq_true rfl) rfl ?_
  have hs0 := hR.s0
  have hc0 := hR.c0
  have hs2 := hR.s2
  have hs3 := hR.s3
  have h6 := hR.s6
  refine v_ald0 (pc := 0) dX5_zone_0 ?_
  refine v_ald0 (pc := 1) dX5_zone_1 ?_
  refine v_ild1 (pc := 2) dX5_zone_2 ?_
  refine v_cb0 (pc := 3) (v_runV1 okX5_isZone rfl (sp_X5_isZone hM (by omega) (by omega)) dX5_zone_3 (lw_all_tbl q2139) (lw_all_tbl q2141) (lw_all_tbl qs58) rfl (mw_obj hM) (Nat.le_of_ble_eq_true rfl) ⟨Nat.zero_le _, Nat.zero_le _⟩ (Nat.le_of_ble_eq_true rfl)) (fun c3 => ?_) (fun c3 => ?_)
  · have hzw := hR.zW z ⟨by omega, by omega⟩
    have hzp := hR.zP z ⟨by omega, by omega⟩
    refine v_if_ne1 (pc := 6) (tgt := 13) dX5_zone_6 rfl ?_
    refine v_ild2 (pc := 13) dX5_zone_13 ?_
    refine v_iconst (pc := 14) dX5_zone_14 ?_
    refine v_bipush (pc := 15) dX5_zone_15 ⟨by decide, by decide⟩ ?_
    refine v_cb0 (pc := 17) (v_runS3 okX5_in rfl (sp_X5_in (by omega) (by omega) (by omega)) dX5_zone_17 (lw_all_tbl q2079) (lw_all_tbl q2080) (Nat.le_of_ble_eq_true rfl) ⟨Nat.zero_le _, Nat.zero_le _⟩ (Nat.le_of_ble_eq_true rfl)) (fun c17 => ?_) (fun c17 => ?_)
    · refine v_if_eq1 (pc := 20) (tgt := 27) dX5_zone_20 rfl ?_
      refine v_iconst (pc := 23) dX5_zone_23 ?_
      refine v_goto (pc := 24) (tgt := 28) dX5_zone_24 rfl ?_
      refine v_ptM_thrown hM (pc := 28) dX5_zone_28 (lw_all_tbl q1994) (fun h hM => ?_)
      refine v_ald0 (pc := 31) dX5_zone_31 ?_
      refine v_getf KX5 0 (pc := 32) dX5_zone_32 (lw_all_tbl q1994) (Or.inl rfl) (Nat.le_of_ble_eq_true rfl) (mw_obj hM) rfl ?_
      refine v_if_le (pc := 35) (tgt := 42) dX5_zone_35 rfl (by omega) (fun _ => ?_) (fun c => absurd c (by decide))
      refine v_ild2 (pc := 42) dX5_zone_42 ?_
      refine v_case (pc := 43) (-1) (fun e43_0 => ?_) (fun e43_0 => ?_)
      · refine v_tableK (-1) (pc := 43) (tgt := 84) dX5_zone_43 ⟨by decide, by decide⟩ (by decide) (by decide) rfl rfl ?_ e43_0
        subst e43_0
        refine v_iconst (pc := 84) dX5_zone_84 ?_
        refine v_ret_n (pc := 85) dX5_zone_85 rfl ?_
        first | (exfalso; omega) | exact qi_ok ⟨by rw [if_pos (by omega)] <;> (first | rfl | (show (_ : Int) = (if _ then 1 else 0); first | rw [if_pos (by omega)] | rw [if_neg (by omega)])), mw_thr hM (by rw [if_pos (by omega)])⟩ | exact qi_ok ⟨by rw [if_neg (by omega)], mw_thr hM (by rw [if_neg (by omega)] <;> (first | rw [if_pos (by omega)] | rw [if_neg (by omega)]))⟩ | exact qi_ok ⟨by rw [if_neg (by omega)], mw_thr hM (by rw [if_neg (by omega)])⟩
      refine v_case (pc := 43) 0 (fun e43_1 => ?_) (fun e43_1 => ?_)
      · refine v_tableK 0 (pc := 43) (tgt := 86) dX5_zone_43 ⟨by decide, by decide⟩ (by decide) (by decide) rfl rfl ?_ e43_1
        subst e43_1
        refine v_ald0 (pc := 86) dX5_zone_86 ?_
        refine v_ild1 (pc := 87) dX5_zone_87 ?_
        refine v_ce0 (pc := 88) (v_runV1 okX5_windowOf rfl (sp_X5_windowOf hM (by omega)) dX5_zone_88 (lw_all_tbl q2119) (lw_all_tbl q2121) (lw_all_tbl qs54) rfl (mw_obj hM) (Nat.le_of_ble_eq_true rfl) ⟨Nat.zero_le _, Nat.zero_le _⟩ (Nat.le_of_ble_eq_true rfl)) ?_
        refine v_ret_n (pc := 91) dX5_zone_91 rfl ?_
        first | (exfalso; omega) | exact qi_ok ⟨by rw [if_pos (by omega)] <;> (first | rfl | (show (_ : Int) = (if _ then 1 else 0); first | rw [if_pos (by omega)] | rw [if_neg (by omega)])), mw_thr hM (by rw [if_pos (by omega)])⟩ | exact qi_ok ⟨by rw [if_neg (by omega)], mw_thr hM (by rw [if_neg (by omega)] <;> (first | rw [if_pos (by omega)] | rw [if_neg (by omega)]))⟩ | exact qi_ok ⟨by rw [if_neg (by omega)], mw_thr hM (by rw [if_neg (by omega)])⟩
      refine v_case (pc := 43) 1 (fun e43_2 => ?_) (fun e43_2 => ?_)
      · refine v_tableK 1 (pc := 43) (tgt := 92) dX5_zone_43 ⟨by decide, by decide⟩ (by decide) (by decide) rfl rfl ?_ e43_2
        subst e43_2
        refine v_ald0 (pc := 92) dX5_zone_92 ?_
        refine v_getf KX5 1 (pc := 93) dX5_zone_93 (lw_all_tbl q1995) (Or.inl rfl) (Nat.le_of_ble_eq_true rfl) (mw_obj hM) rfl ?_
        refine v_ild1 (pc := 96) dX5_zone_96 ?_
        refine v_ce0 (pc := 97) (v_runS1 okX5_zoneAt rfl (sp_X5_zoneAt) dX5_zone_97 (lw_all_tbl q1991) (lw_all_tbl q1992) (Nat.le_of_ble_eq_true rfl) ⟨Nat.zero_le _, Nat.zero_le _⟩ (Nat.le_of_ble_eq_true rfl)) ?_
        refine v_iconst (pc := 100) dX5_zone_100 ?_
        refine v_iadd (pc := 101) dX5_zone_101 ?_
        refine v_ldM_now hM (pc := 102) dX5_zone_102 (by omega) ?_
        refine v_ret_n (pc := 103) dX5_zone_103 rfl ?_
        first | (exfalso; omega) | exact qi_ok ⟨by rw [if_pos (by omega)] <;> (first | rfl | (show (_ : Int) = (if _ then 1 else 0); first | rw [if_pos (by omega)] | rw [if_neg (by omega)])), mw_thr hM (by rw [if_pos (by omega)])⟩ | exact qi_ok ⟨by rw [if_neg (by omega)], mw_thr hM (by rw [if_neg (by omega)] <;> (first | rw [if_pos (by omega)] | rw [if_neg (by omega)]))⟩ | exact qi_ok ⟨by rw [if_neg (by omega)], mw_thr hM (by rw [if_neg (by omega)])⟩
      refine v_case (pc := 43) 2 (fun e43_3 => ?_) (fun e43_3 => ?_)
      · refine v_tableK 2 (pc := 43) (tgt := 104) dX5_zone_43 ⟨by decide, by decide⟩ (by decide) (by decide) rfl rfl ?_ e43_3
        subst e43_3
        refine v_ald0 (pc := 104) dX5_zone_104 ?_
        refine v_ild1 (pc := 105) dX5_zone_105 ?_
        refine v_ce0 (pc := 106) (v_runV1 okX5_livingIn rfl (sp_X5_livingIn hM (by omega) (by omega)) dX5_zone_106 (lw_all_tbl q2143) (lw_all_tbl q2145) (lw_all_tbl qs59) rfl (mw_obj hM) (Nat.le_of_ble_eq_true rfl) ⟨Nat.zero_le _, Nat.zero_le _⟩ (Nat.le_of_ble_eq_true rfl)) ?_
        refine v_ret_n (pc := 109) dX5_zone_109 rfl ?_
        first | (exfalso; omega) | exact qi_ok ⟨by rw [if_pos (by omega)] <;> (first | rfl | (show (_ : Int) = (if _ then 1 else 0); first | rw [if_pos (by omega)] | rw [if_neg (by omega)])), mw_thr hM (by rw [if_pos (by omega)])⟩ | exact qi_ok ⟨by rw [if_neg (by omega)], mw_thr hM (by rw [if_neg (by omega)] <;> (first | rw [if_pos (by omega)] | rw [if_neg (by omega)]))⟩ | exact qi_ok ⟨by rw [if_neg (by omega)], mw_thr hM (by rw [if_neg (by omega)])⟩
      refine v_case (pc := 43) 3 (fun e43_4 => ?_) (fun e43_4 => ?_)
      · refine v_tableK 3 (pc := 43) (tgt := 110) dX5_zone_43 ⟨by decide, by decide⟩ (by decide) (by decide) rfl rfl ?_ e43_4
        subst e43_4
        refine v_ald0 (pc := 110) dX5_zone_110 ?_
        refine v_ild1 (pc := 111) dX5_zone_111 ?_
        refine v_ce0 (pc := 112) (v_runV1 okX5_livingPlaces rfl (sp_X5_livingPlaces hM (by omega) (by omega)) dX5_zone_112 (lw_all_tbl q2131) (lw_all_tbl q2133) (lw_all_tbl qs57) rfl (mw_obj hM) (Nat.le_of_ble_eq_true rfl) ⟨Nat.zero_le _, Nat.zero_le _⟩ (Nat.le_of_ble_eq_true rfl)) ?_
        refine v_ret_n (pc := 115) dX5_zone_115 rfl ?_
        first | (exfalso; omega) | exact qi_ok ⟨by rw [if_pos (by omega)] <;> (first | rfl | (show (_ : Int) = (if _ then 1 else 0); first | rw [if_pos (by omega)] | rw [if_neg (by omega)])), mw_thr hM (by rw [if_pos (by omega)])⟩ | exact qi_ok ⟨by rw [if_neg (by omega)], mw_thr hM (by rw [if_neg (by omega)] <;> (first | rw [if_pos (by omega)] | rw [if_neg (by omega)]))⟩ | exact qi_ok ⟨by rw [if_neg (by omega)], mw_thr hM (by rw [if_neg (by omega)])⟩
      refine v_case (pc := 43) 4 (fun e43_5 => ?_) (fun e43_5 => ?_)
      · refine v_tableK 4 (pc := 43) (tgt := 116) dX5_zone_43 ⟨by decide, by decide⟩ (by decide) (by decide) rfl rfl ?_ e43_5
        subst e43_5
        refine v_ald0 (pc := 116) dX5_zone_116 ?_
        refine v_getf KX5 1 (pc := 117) dX5_zone_117 (lw_all_tbl q1995) (Or.inl rfl) (Nat.le_of_ble_eq_true rfl) (mw_obj hM) rfl ?_
        refine v_ild1 (pc := 120) dX5_zone_120 ?_
        refine v_ce0 (pc := 121) (v_runS1 okX5_zoneAt rfl (sp_X5_zoneAt) dX5_zone_121 (lw_all_tbl q1991) (lw_all_tbl q1992) (Nat.le_of_ble_eq_true rfl) ⟨Nat.zero_le _, Nat.zero_le _⟩ (Nat.le_of_ble_eq_true rfl)) ?_
        refine v_iconst (pc := 124) dX5_zone_124 ?_
        refine v_iadd (pc := 125) dX5_zone_125 ?_
        refine v_ldM_now hM (pc := 126) dX5_zone_126 (by omega) ?_
        refine v_ret_n (pc := 127) dX5_zone_127 rfl ?_
        first | (exfalso; omega) | exact qi_ok ⟨by rw [if_pos (by omega)] <;> (first | rfl | (show (_ : Int) = (if _ then 1 else 0); first | rw [if_pos (by omega)] | rw [if_neg (by omega)])), mw_thr hM (by rw [if_pos (by omega)])⟩ | exact qi_ok ⟨by rw [if_neg (by omega)], mw_thr hM (by rw [if_neg (by omega)] <;> (first | rw [if_pos (by omega)] | rw [if_neg (by omega)]))⟩ | exact qi_ok ⟨by rw [if_neg (by omega)], mw_thr hM (by rw [if_neg (by omega)])⟩
      refine v_case (pc := 43) 5 (fun e43_6 => ?_) (fun e43_6 => ?_)
      · refine v_tableK 5 (pc := 43) (tgt := 128) dX5_zone_43 ⟨by decide, by decide⟩ (by decide) (by decide) rfl rfl ?_ e43_6
        subst e43_6
        refine v_ald0 (pc := 128) dX5_zone_128 ?_
        refine v_ild1 (pc := 129) dX5_zone_129 ?_
        refine v_cb0 (pc := 130) (v_runV1 okX5_isFree rfl (sp_X5_isFree hM (by omega) (by omega)) dX5_zone_130 (lw_all_tbl q2115) (lw_all_tbl q2117) (lw_all_tbl qs53) rfl (mw_obj hM) (Nat.le_of_ble_eq_true rfl) ⟨Nat.zero_le _, Nat.zero_le _⟩ (Nat.le_of_ble_eq_true rfl)) (fun c130 => ?_) (fun c130 => ?_)
        · refine v_if_ne1 (pc := 133) (tgt := 155) dX5_zone_133 rfl ?_
          refine v_iconst (pc := 155) dX5_zone_155 ?_
          refine v_ret_n (pc := 156) dX5_zone_156 rfl ?_
          first | (exfalso; omega) | exact qi_ok ⟨by rw [if_pos (by omega)] <;> (first | rfl | (show (_ : Int) = (if _ then 1 else 0); first | rw [if_pos (by omega)] | rw [if_neg (by omega)])), mw_thr hM (by rw [if_pos (by omega)])⟩ | exact qi_ok ⟨by rw [if_neg (by omega)], mw_thr hM (by rw [if_neg (by omega)] <;> (first | rw [if_pos (by omega)] | rw [if_neg (by omega)]))⟩ | exact qi_ok ⟨by rw [if_neg (by omega)], mw_thr hM (by rw [if_neg (by omega)])⟩
        · refine v_if_ne0 (pc := 133) (tgt := 155) dX5_zone_133 rfl ?_
          refine v_ald0 (pc := 136) dX5_zone_136 ?_
          refine v_ild1 (pc := 137) dX5_zone_137 ?_
          refine v_ce0 (pc := 138) (v_runV1 okX5_lastDay rfl (sp_X5_lastDay hM (by omega)) dX5_zone_138 (lw_all_tbl q2147) (lw_all_tbl q2149) (lw_all_tbl qs60) rfl (mw_obj hM) (Nat.le_of_ble_eq_true rfl) ⟨Nat.zero_le _, Nat.zero_le _⟩ (Nat.le_of_ble_eq_true rfl)) ?_
          refine v_ald0 (pc := 141) dX5_zone_141 ?_
          refine v_getf KX5 1 (pc := 142) dX5_zone_142 (lw_all_tbl q1995) (Or.inl rfl) (Nat.le_of_ble_eq_true rfl) (mw_obj hM) rfl ?_
          refine v_bipush (pc := 145) dX5_zone_145 ⟨by decide, by decide⟩ ?_
          refine v_ldM_now hM (pc := 147) dX5_zone_147 (by omega) ?_
          refine v_icmp_ge (pc := 148) (tgt := 155) dX5_zone_148 rfl (by omega) (by omega) (fun c148 => ?_) (fun c148 => ?_)
          · refine v_iconst (pc := 155) dX5_zone_155 ?_
            refine v_ret_n (pc := 156) dX5_zone_156 rfl ?_
            first | (exfalso; omega) | exact qi_ok ⟨by rw [if_pos (by omega)] <;> (first | rfl | (show (_ : Int) = (if _ then 1 else 0); first | rw [if_pos (by omega)] | rw [if_neg (by omega)])), mw_thr hM (by rw [if_pos (by omega)])⟩ | exact qi_ok ⟨by rw [if_neg (by omega)], mw_thr hM (by rw [if_neg (by omega)] <;> (first | rw [if_pos (by omega)] | rw [if_neg (by omega)]))⟩ | exact qi_ok ⟨by rw [if_neg (by omega)], mw_thr hM (by rw [if_neg (by omega)])⟩
          · refine v_iconst (pc := 151) dX5_zone_151 ?_
            refine v_goto (pc := 152) (tgt := 156) dX5_zone_152 rfl ?_
            refine v_ret_n (pc := 156) dX5_zone_156 rfl ?_
            first | (exfalso; omega) | exact qi_ok ⟨by rw [if_pos (by omega)] <;> (first | rfl | (show (_ : Int) = (if _ then 1 else 0); first | rw [if_pos (by omega)] | rw [if_neg (by omega)])), mw_thr hM (by rw [if_pos (by omega)])⟩ | exact qi_ok ⟨by rw [if_neg (by omega)], mw_thr hM (by rw [if_neg (by omega)] <;> (first | rw [if_pos (by omega)] | rw [if_neg (by omega)]))⟩ | exact qi_ok ⟨by rw [if_neg (by omega)], mw_thr hM (by rw [if_neg (by omega)])⟩
      refine v_tableOut (pc := 43) (tgt := 157) dX5_zone_43 (by omega) (by omega) rfl ?_
      have hk6 : k = 6 := by omega
      subst hk6
      refine v_ald0 (pc := 157) dX5_zone_157 ?_
      refine v_ild1 (pc := 158) dX5_zone_158 ?_
      refine v_ce0 (pc := 159) (v_runV1 okX5_lowestIn rfl (sp_X5_lowestIn hM (by omega) (by omega)) dX5_zone_159 (lw_all_tbl q2151) (lw_all_tbl q2153) (lw_all_tbl qs61) rfl (mw_obj hM) (Nat.le_of_ble_eq_true rfl) ⟨Nat.zero_le _, Nat.zero_le _⟩ (Nat.le_of_ble_eq_true rfl)) ?_
      refine v_ret_n (pc := 162) dX5_zone_162 rfl ?_
      first | (exfalso; omega) | exact qi_ok ⟨by rw [if_pos (by omega)] <;> (first | rfl | (show (_ : Int) = (if _ then 1 else 0); first | rw [if_pos (by omega)] | rw [if_neg (by omega)])), mw_thr hM (by rw [if_pos (by omega)])⟩ | exact qi_ok ⟨by rw [if_neg (by omega)], mw_thr hM (by rw [if_neg (by omega)] <;> (first | rw [if_pos (by omega)] | rw [if_neg (by omega)]))⟩ | exact qi_ok ⟨by rw [if_neg (by omega)], mw_thr hM (by rw [if_neg (by omega)])⟩
    · refine v_if_eq0 (pc := 20) (tgt := 27) dX5_zone_20 rfl ?_
      refine v_iconst (pc := 27) dX5_zone_27 ?_
      refine v_ptM_thrown hM (pc := 28) dX5_zone_28 (lw_all_tbl q1994) (fun h hM => ?_)
      refine v_ald0 (pc := 31) dX5_zone_31 ?_
      refine v_getf KX5 0 (pc := 32) dX5_zone_32 (lw_all_tbl q1994) (Or.inl rfl) (Nat.le_of_ble_eq_true rfl) (mw_obj hM) rfl ?_
      refine v_if_le (pc := 35) (tgt := 42) dX5_zone_35 rfl (by omega) (fun c => absurd c (by decide)) (fun _ => ?_)
      refine v_iconst (pc := 38) dX5_zone_38 ?_
      refine v_goto (pc := 39) (tgt := 43) dX5_zone_39 rfl ?_
      refine v_tableK (-1) (pc := 43) (tgt := 84) dX5_zone_43 ⟨by decide, by decide⟩ (by decide) (by decide) rfl rfl ?_ rfl
      refine v_iconst (pc := 84) dX5_zone_84 ?_
      refine v_ret_n (pc := 85) dX5_zone_85 rfl ?_
      first | (exfalso; omega) | exact qi_ok ⟨by rw [if_pos (by omega)] <;> (first | rfl | (show (_ : Int) = (if _ then 1 else 0); first | rw [if_pos (by omega)] | rw [if_neg (by omega)])), mw_thr hM (by rw [if_pos (by omega)])⟩ | exact qi_ok ⟨by rw [if_neg (by omega)], mw_thr hM (by rw [if_neg (by omega)] <;> (first | rw [if_pos (by omega)] | rw [if_neg (by omega)]))⟩ | exact qi_ok ⟨by rw [if_neg (by omega)], mw_thr hM (by rw [if_neg (by omega)])⟩
  · refine v_if_ne0 (pc := 6) (tgt := 13) dX5_zone_6 rfl ?_
    refine v_iconst (pc := 9) dX5_zone_9 ?_
    refine v_goto (pc := 10) (tgt := 28) dX5_zone_10 rfl ?_
    refine v_ptM_thrown hM (pc := 28) dX5_zone_28 (lw_all_tbl q1994) (fun h hM => ?_)
    refine v_ald0 (pc := 31) dX5_zone_31 ?_
    refine v_getf KX5 0 (pc := 32) dX5_zone_32 (lw_all_tbl q1994) (Or.inl rfl) (Nat.le_of_ble_eq_true rfl) (mw_obj hM) rfl ?_
    refine v_if_le (pc := 35) (tgt := 42) dX5_zone_35 rfl (by omega) (fun c => absurd c (by decide)) (fun _ => ?_)
    refine v_iconst (pc := 38) dX5_zone_38 ?_
    refine v_goto (pc := 39) (tgt := 43) dX5_zone_39 rfl ?_
    refine v_tableK (-1) (pc := 43) (tgt := 84) dX5_zone_43 ⟨by decide, by decide⟩ (by decide) (by decide) rfl rfl ?_ rfl
    refine v_iconst (pc := 84) dX5_zone_84 ?_
    refine v_ret_n (pc := 85) dX5_zone_85 rfl ?_
    first | (exfalso; omega) | exact qi_ok ⟨by rw [if_pos (by omega)] <;> (first | rfl | (show (_ : Int) = (if _ then 1 else 0); first | rw [if_pos (by omega)] | rw [if_neg (by omega)])), mw_thr hM (by rw [if_pos (by omega)])⟩ | exact qi_ok ⟨by rw [if_neg (by omega)], mw_thr hM (by rw [if_neg (by omega)] <;> (first | rw [if_pos (by omega)] | rw [if_neg (by omega)]))⟩ | exact qi_ok ⟨by rw [if_neg (by omega)], mw_thr hM (by rw [if_neg (by omega)])⟩
theorem sp_X5_unit {Γ : Cx} {t : Nat} {α : Nat → Nat} {h0 h : AH} {thrown : Int} {now : Int → Int} {aside : Int → Int} {tried : Int → Int} {undos : Int → Int} {undoMany : Int} {saved : Int → Int} {isSaved : Int → Int} {accounts : Int → Int} {way : Int} {leftOut : Int} {here : Int → Int} {text : Int → Int} {length : Int} {atp : Int} {frm : Int} {token : Int} {number : Int} {error : Int} {errorAt : Int} {commands : Int} {command : Int → Int} {out : Int → Int} {outLong : Int} {c : Int} {u k : Int} (hM : MW t α h0 h thrown now aside tried undos undoMany saved isSaved accounts way leftOut here text length atp frm token number error errorAt commands command out outLong) (hR : ROK now c) (hu : -2147483648 ≤ u ∧ u ≤ 2147483647) (hk : -2147483648 ≤ k ∧ k ≤ 2147483647) : Sp Γ yX5_unit mX5_unit 3 0 0 [.ref (α 0), vi u, vi k] h (Qi (fun x h' => x = (if (0 ≤ u ∧ u < now 7) ∧ 0 ≤ k ∧ k ≤ 14 then now (23 + 17 * u + k) else 0) ∧ MW t α h0 h' ((if (0 ≤ u ∧ u < now 7) ∧ 0 ≤ k ∧ k ≤ 14 then 0 else (if 0 ≤ u ∧ u < now 7 then 2 else 1))) now aside tried undos undoMany saved isSaved accounts way leftOut here text length atp frm token number error errorAt commands command out outLong)) NoX := by
  refine sp_of okX5_unit (cat_all rfl) (Nat.le_of_ble_eq_true rfl) rfl ?_
  have h7 := hR.s7
  refine v_ald0 (pc := 0) dX5_unit_0 ?_
  refine v_ald0 (pc := 1) dX5_unit_1 ?_
  refine v_ild1 (pc := 2) dX5_unit_2 ?_
  refine v_cb0 (pc := 3) (v_runV1 okX5_isUnit rfl (sp_X5_isUnit hM (by omega) (by omega)) dX5_unit_3 (lw_all_tbl q2159) (lw_all_tbl q2161) (lw_all_tbl qs62) rfl (mw_obj hM) (Nat.le_of_ble_eq_true rfl) ⟨Nat.zero_le _, Nat.zero_le _⟩ (Nat.le_of_ble_eq_true rfl)) (fun c3 => ?_) (fun c3 => ?_)
  · refine v_if_ne1 (pc := 6) (tgt := 13) dX5_unit_6 rfl ?_
    refine v_ild2 (pc := 13) dX5_unit_13 ?_
    refine v_iconst (pc := 14) dX5_unit_14 ?_
    refine v_bipush (pc := 15) dX5_unit_15 ⟨by decide, by decide⟩ ?_
    refine v_cb0 (pc := 17) (v_runS3 okX5_in rfl (sp_X5_in (by omega) (by omega) (by omega)) dX5_unit_17 (lw_all_tbl q2079) (lw_all_tbl q2080) (Nat.le_of_ble_eq_true rfl) ⟨Nat.zero_le _, Nat.zero_le _⟩ (Nat.le_of_ble_eq_true rfl)) (fun c17 => ?_) (fun c17 => ?_)
    · refine v_if_eq1 (pc := 20) (tgt := 27) dX5_unit_20 rfl ?_
      refine v_iconst (pc := 23) dX5_unit_23 ?_
      refine v_goto (pc := 24) (tgt := 28) dX5_unit_24 rfl ?_
      refine v_ptM_thrown hM (pc := 28) dX5_unit_28 (lw_all_tbl q1994) (fun h hM => ?_)
      refine v_ald0 (pc := 31) dX5_unit_31 ?_
      refine v_getf KX5 0 (pc := 32) dX5_unit_32 (lw_all_tbl q1994) (Or.inl rfl) (Nat.le_of_ble_eq_true rfl) (mw_obj hM) rfl ?_
      refine v_if_le (pc := 35) (tgt := 42) dX5_unit_35 rfl (by omega) (fun _ => ?_) (fun c => absurd c (by decide))
      refine v_ald0 (pc := 42) dX5_unit_42 ?_
      refine v_ild1 (pc := 43) dX5_unit_43 ?_
      refine v_ild2 (pc := 44) dX5_unit_44 ?_
      refine v_ce0 (pc := 45) (v_runV2 okX5_ofUnit rfl (sp_X5_ofUnit hM (by omega) (by omega)) dX5_unit_45 (lw_all_tbl q2104) (lw_all_tbl q2106) (lw_all_tbl qs51) rfl (mw_obj hM) (Nat.le_of_ble_eq_true rfl) ⟨Nat.zero_le _, Nat.zero_le _⟩ (Nat.le_of_ble_eq_true rfl)) ?_
      refine v_ret_n (pc := 48) dX5_unit_48 rfl ?_
      first | (exfalso; omega) | exact qi_ok ⟨by rw [if_pos (by omega)] <;> (first | rfl | (show (_ : Int) = (if _ then 1 else 0); first | rw [if_pos (by omega)] | rw [if_neg (by omega)])), mw_thr hM (by rw [if_pos (by omega)])⟩ | exact qi_ok ⟨by rw [if_neg (by omega)], mw_thr hM (by rw [if_neg (by omega)] <;> (first | rw [if_pos (by omega)] | rw [if_neg (by omega)]))⟩ | exact qi_ok ⟨by rw [if_neg (by omega)], mw_thr hM (by rw [if_neg (by omega)])⟩
    · refine v_if_eq0 (pc := 20) (tgt := 27) dX5_unit_20 rfl ?_
      refine v_iconst (pc := 27) dX5_unit_27 ?_
      refine v_ptM_thrown hM (pc := 28) dX5_unit_28 (lw_all_tbl q1994) (fun h hM => ?_)
      refine v_ald0 (pc := 31) dX5_unit_31 ?_
      refine v_getf KX5 0 (pc := 32) dX5_unit_32 (lw_all_tbl q1994) (Or.inl rfl) (Nat.le_of_ble_eq_true rfl) (mw_obj hM) rfl ?_
      refine v_if_le (pc := 35) (tgt := 42) dX5_unit_35 rfl (by omega) (fun c => absurd c (by decide)) (fun _ => ?_)
      refine v_iconst (pc := 38) dX5_unit_38 ?_
      refine v_goto (pc := 39) (tgt := 48) dX5_unit_39 rfl ?_
      refine v_ret_n (pc := 48) dX5_unit_48 rfl ?_
      first | (exfalso; omega) | exact qi_ok ⟨by rw [if_pos (by omega)] <;> (first | rfl | (show (_ : Int) = (if _ then 1 else 0); first | rw [if_pos (by omega)] | rw [if_neg (by omega)])), mw_thr hM (by rw [if_pos (by omega)])⟩ | exact qi_ok ⟨by rw [if_neg (by omega)], mw_thr hM (by rw [if_neg (by omega)] <;> (first | rw [if_pos (by omega)] | rw [if_neg (by omega)]))⟩ | exact qi_ok ⟨by rw [if_neg (by omega)], mw_thr hM (by rw [if_neg (by omega)])⟩
  · refine v_if_ne0 (pc := 6) (tgt := 13) dX5_unit_6 rfl ?_
    refine v_iconst (pc := 9) dX5_unit_9 ?_
    refine v_goto (pc := 10) (tgt := 28) dX5_unit_10 rfl ?_
    refine v_ptM_thrown hM (pc := 28) dX5_unit_28 (lw_all_tbl q1994) (fun h hM => ?_)
    refine v_ald0 (pc := 31) dX5_unit_31 ?_
    refine v_getf KX5 0 (pc := 32) dX5_unit_32 (lw_all_tbl q1994) (Or.inl rfl) (Nat.le_of_ble_eq_true rfl) (mw_obj hM) rfl ?_
    refine v_if_le (pc := 35) (tgt := 42) dX5_unit_35 rfl (by omega) (fun c => absurd c (by decide)) (fun _ => ?_)
    refine v_iconst (pc := 38) dX5_unit_38 ?_
    refine v_goto (pc := 39) (tgt := 48) dX5_unit_39 rfl ?_
    refine v_ret_n (pc := 48) dX5_unit_48 rfl ?_
    first | (exfalso; omega) | exact qi_ok ⟨by rw [if_pos (by omega)] <;> (first | rfl | (show (_ : Int) = (if _ then 1 else 0); first | rw [if_pos (by omega)] | rw [if_neg (by omega)])), mw_thr hM (by rw [if_pos (by omega)])⟩ | exact qi_ok ⟨by rw [if_neg (by omega)], mw_thr hM (by rw [if_neg (by omega)] <;> (first | rw [if_pos (by omega)] | rw [if_neg (by omega)]))⟩ | exact qi_ok ⟨by rw [if_neg (by omega)], mw_thr hM (by rw [if_neg (by omega)])⟩
theorem sp_X5_guess {Γ : Cx} {t : Nat} {α : Nat → Nat} {h0 h : AH} {thrown : Int} {now : Int → Int} {aside : Int → Int} {tried : Int → Int} {undos : Int → Int} {undoMany : Int} {saved : Int → Int} {isSaved : Int → Int} {accounts : Int → Int} {way : Int} {leftOut : Int} {here : Int → Int} {text : Int → Int} {length : Int} {atp : Int} {frm : Int} {token : Int} {number : Int} {error : Int} {errorAt : Int} {commands : Int} {command : Int → Int} {out : Int → Int} {outLong : Int} {c : Int} {g wr sz : Int} (hM : MW t α h0 h thrown now aside tried undos undoMany saved isSaved accounts way leftOut here text length atp frm token number error errorAt commands command out outLong) (hR : ROK now c) (hg : -2147483648 ≤ g ∧ g ≤ 2147483647) (hwr : -2147483648 ≤ wr ∧ wr ≤ 2147483647) (hsz : -2147483648 ≤ sz ∧ sz ≤ 2147483647) : Sp Γ yX5_guess mX5_guess 6 0 0 [.ref (α 0), vi g, vi wr, vi sz] h (Qi (fun x h' => x = (if (0 ≤ g ∧ g ≤ 4) ∧ (0 ≤ wr ∧ wr ≤ 7) ∧ 1 ≤ sz ∧ sz ≤ 3 then mTells now g wr sz else 0) ∧ MW t α h0 h' ((if (0 ≤ g ∧ g ≤ 4) ∧ (0 ≤ wr ∧ wr ≤ 7) ∧ 1 ≤ sz ∧ sz ≤ 3 then 0 else (if 0 ≤ g ∧ g ≤ 4 then 2 else 1))) now aside tried undos undoMany saved isSaved accounts way leftOut here text length atp frm token number error errorAt commands command out outLong)) NoX := by
  refine sp_of okX5_guess (cat_all rfl) (Nat.le_of_ble_eq_true rfl) rfl ?_
  refine v_ald0 (pc := 0) dX5_guess_0 ?_
  refine v_ild1 (pc := 1) dX5_guess_1 ?_
  refine v_cb0 (pc := 2) (v_runS1 okX5_isGuesser rfl (sp_X5_isGuesser (by omega)) dX5_guess_2 (lw_all_tbl q2167) (lw_all_tbl q2168) (Nat.le_of_ble_eq_true rfl) ⟨Nat.zero_le _, Nat.zero_le _⟩ (Nat.le_of_ble_eq_true rfl)) (fun c2 => ?_) (fun c2 => ?_)
  · refine v_if_ne1 (pc := 5) (tgt := 12) dX5_guess_5 rfl ?_
    refine v_ild2 (pc := 12) dX5_guess_12 ?_
    refine v_ild3 (pc := 13) dX5_guess_13 ?_
    refine v_cb0 (pc := 14) (v_runS2 okX5_isKind rfl (sp_X5_isKind (by omega) (by omega)) dX5_guess_14 (lw_all_tbl q2174) (lw_all_tbl q2175) (Nat.le_of_ble_eq_true rfl) ⟨Nat.zero_le _, Nat.zero_le _⟩ (Nat.le_of_ble_eq_true rfl)) (fun c14 => ?_) (fun c14 => ?_)
    · refine v_if_eq1 (pc := 17) (tgt := 24) dX5_guess_17 rfl ?_
      refine v_iconst (pc := 20) dX5_guess_20 ?_
      refine v_goto (pc := 21) (tgt := 25) dX5_guess_21 rfl ?_
      refine v_ptM_thrown hM (pc := 25) dX5_guess_25 (lw_all_tbl q1994) (fun h hM => ?_)
      refine v_ald0 (pc := 28) dX5_guess_28 ?_
      refine v_getf KX5 0 (pc := 29) dX5_guess_29 (lw_all_tbl q1994) (Or.inl rfl) (Nat.le_of_ble_eq_true rfl) (mw_obj hM) rfl ?_
      refine v_if_le (pc := 32) (tgt := 39) dX5_guess_32 rfl (by omega) (fun _ => ?_) (fun c => absurd c (by decide))
      refine v_ald0 (pc := 39) dX5_guess_39 ?_
      refine v_ild1 (pc := 40) dX5_guess_40 ?_
      refine v_ild2 (pc := 41) dX5_guess_41 ?_
      refine v_ild3 (pc := 42) dX5_guess_42 ?_
      refine v_ce0 (pc := 43) (v_runV3 okX5_tells rfl (sp_X5_tells hM (by omega) (by omega) (by omega) (by omega)) dX5_guess_43 (lw_all_tbl q2177) (lw_all_tbl q2179) (lw_all_tbl qs63) rfl (mw_obj hM) (Nat.le_of_ble_eq_true rfl) ⟨Nat.zero_le _, Nat.zero_le _⟩ (Nat.le_of_ble_eq_true rfl)) ?_
      refine v_ret_n (pc := 46) dX5_guess_46 rfl ?_
      first | (exfalso; omega) | exact qi_ok ⟨by rw [if_pos (by omega)] <;> (first | rfl | (show (_ : Int) = (if _ then 1 else 0); first | rw [if_pos (by omega)] | rw [if_neg (by omega)])), mw_thr hM (by rw [if_pos (by omega)])⟩ | exact qi_ok ⟨by rw [if_neg (by omega)], mw_thr hM (by rw [if_neg (by omega)] <;> (first | rw [if_pos (by omega)] | rw [if_neg (by omega)]))⟩ | exact qi_ok ⟨by rw [if_neg (by omega)], mw_thr hM (by rw [if_neg (by omega)])⟩
    · refine v_if_eq0 (pc := 17) (tgt := 24) dX5_guess_17 rfl ?_
      refine v_iconst (pc := 24) dX5_guess_24 ?_
      refine v_ptM_thrown hM (pc := 25) dX5_guess_25 (lw_all_tbl q1994) (fun h hM => ?_)
      refine v_ald0 (pc := 28) dX5_guess_28 ?_
      refine v_getf KX5 0 (pc := 29) dX5_guess_29 (lw_all_tbl q1994) (Or.inl rfl) (Nat.le_of_ble_eq_true rfl) (mw_obj hM) rfl ?_
      refine v_if_le (pc := 32) (tgt := 39) dX5_guess_32 rfl (by omega) (fun c => absurd c (by decide)) (fun _ => ?_)
      refine v_iconst (pc := 35) dX5_guess_35 ?_
      refine v_goto (pc := 36) (tgt := 46) dX5_guess_36 rfl ?_
      refine v_ret_n (pc := 46) dX5_guess_46 rfl ?_
      first | (exfalso; omega) | exact qi_ok ⟨by rw [if_pos (by omega)] <;> (first | rfl | (show (_ : Int) = (if _ then 1 else 0); first | rw [if_pos (by omega)] | rw [if_neg (by omega)])), mw_thr hM (by rw [if_pos (by omega)])⟩ | exact qi_ok ⟨by rw [if_neg (by omega)], mw_thr hM (by rw [if_neg (by omega)] <;> (first | rw [if_pos (by omega)] | rw [if_neg (by omega)]))⟩ | exact qi_ok ⟨by rw [if_neg (by omega)], mw_thr hM (by rw [if_neg (by omega)])⟩
  · refine v_if_ne0 (pc := 5) (tgt := 12) dX5_guess_5 rfl ?_
    refine v_iconst (pc := 8) dX5_guess_8 ?_
    refine v_goto (pc := 9) (tgt := 25) dX5_guess_9 rfl ?_
    refine v_ptM_thrown hM (pc := 25) dX5_guess_25 (lw_all_tbl q1994) (fun h hM => ?_)
    refine v_ald0 (pc := 28) dX5_guess_28 ?_
    refine v_getf KX5 0 (pc := 29) dX5_guess_29 (lw_all_tbl q1994) (Or.inl rfl) (Nat.le_of_ble_eq_true rfl) (mw_obj hM) rfl ?_
    refine v_if_le (pc := 32) (tgt := 39) dX5_guess_32 rfl (by omega) (fun c => absurd c (by decide)) (fun _ => ?_)
    refine v_iconst (pc := 35) dX5_guess_35 ?_
    refine v_goto (pc := 36) (tgt := 46) dX5_guess_36 rfl ?_
    refine v_ret_n (pc := 46) dX5_guess_46 rfl ?_
    first | (exfalso; omega) | exact qi_ok ⟨by rw [if_pos (by omega)] <;> (first | rfl | (show (_ : Int) = (if _ then 1 else 0); first | rw [if_pos (by omega)] | rw [if_neg (by omega)])), mw_thr hM (by rw [if_pos (by omega)])⟩ | exact qi_ok ⟨by rw [if_neg (by omega)], mw_thr hM (by rw [if_neg (by omega)] <;> (first | rw [if_pos (by omega)] | rw [if_neg (by omega)]))⟩ | exact qi_ok ⟨by rw [if_neg (by omega)], mw_thr hM (by rw [if_neg (by omega)])⟩
theorem sp_X5_write {Γ : Cx} {t : Nat} {α : Nat → Nat} {h0 h : AH} {thrown : Int} {now : Int → Int} {aside : Int → Int} {tried : Int → Int} {undos : Int → Int} {undoMany : Int} {saved : Int → Int} {isSaved : Int → Int} {accounts : Int → Int} {way : Int} {leftOut : Int} {here : Int → Int} {text : Int → Int} {length : Int} {atp : Int} {frm : Int} {token : Int} {number : Int} {error : Int} {errorAt : Int} {commands : Int} {command : Int → Int} {out : Int → Int} {outLong : Int} {c : Int} {wr sz fa : Int} (hM : MW t α h0 h thrown now aside tried undos undoMany saved isSaved accounts way leftOut here text length atp frm token number error errorAt commands command out outLong) (hR : ROK now c) (hum : 0 ≤ undoMany ∧ undoMany ≤ 8) (hw5 : way = 5) (hwr : -2147483648 ≤ wr ∧ wr ≤ 2147483647) (hsz : -2147483648 ≤ sz ∧ sz ≤ 2147483647) (hfa : -2147483648 ≤ fa ∧ fa ≤ 2147483647) : Sp Γ yX5_write mX5_write 9 0 0 [.ref (α 0), vi wr, vi sz, vi fa] h (Qi (fun x h' => (¬ (((0 ≤ wr ∧ wr ≤ 7) ∧ 1 ≤ sz ∧ sz ≤ 3) ∧ 0 ≤ fa ∧ fa ≤ 99) ∧ x = 0 ∧ MW t α h0 h' 1 now aside tried undos undoMany saved isSaved accounts way leftOut here text length atp frm token number error errorAt commands command out outLong) ∨ ((((0 ≤ wr ∧ wr ≤ 7) ∧ 1 ≤ sz ∧ sz ≤ 3) ∧ 0 ≤ fa ∧ fa ≤ 99) ∧ x = (rWrite now aside way wr sz) ∧ ((0 < (rWrite now aside way wr sz) ∧ MW t α h0 h' 0 now aside tried undos undoMany saved isSaved ((upi accounts ((rWrite now aside way wr sz)) (accounts ((rWrite now aside way wr sz)) + 1))) way leftOut here text length atp frm token number error errorAt commands command out outLong) ∨ ((rWrite now aside way wr sz) = 0 ∧ MW t α h0 h' 0 ((mWrites (mHist now 0 wr sz fa) aside way wr sz fa (now 7))) aside tried ((kUndos now undos undoMany)) ((kMany undoMany)) saved isSaved ((upi accounts 0 (accounts 0 + 1))) way leftOut here text length atp frm token number error errorAt commands command out outLong))))) NoX := by
  refine sp_of okX5_write (cat_all rfl) (Nat.le_of_ble_eq_true rfl) rfl ?_
  refine v_ald0 (pc := 0) dX5_write_0 ?_
  refine v_ild1 (pc := 1) dX5_write_1 ?_
  refine v_ild2 (pc := 2) dX5_write_2 ?_
  refine v_cb0 (pc := 3) (v_runS2 okX5_isKind rfl (sp_X5_isKind (by omega) (by omega)) dX5_write_3 (lw_all_tbl q2174) (lw_all_tbl q2175) (Nat.le_of_ble_eq_true rfl) ⟨Nat.zero_le _, Nat.zero_le _⟩ (Nat.le_of_ble_eq_true rfl)) (fun c3 => ?_) (fun c3 => ?_)
  · refine v_if_eq1 (pc := 6) (tgt := 23) dX5_write_6 rfl ?_
    refine v_ild3 (pc := 9) dX5_write_9 ?_
    refine v_iconst (pc := 10) dX5_write_10 ?_
    refine v_bipush (pc := 11) dX5_write_11 ⟨by decide, by decide⟩ ?_
    refine v_cb0 (pc := 13) (v_runS3 okX5_in rfl (sp_X5_in (by omega) (by omega) (by omega)) dX5_write_13 (lw_all_tbl q2079) (lw_all_tbl q2080) (Nat.le_of_ble_eq_true rfl) ⟨Nat.zero_le _, Nat.zero_le _⟩ (Nat.le_of_ble_eq_true rfl)) (fun c13 => ?_) (fun c13 => ?_)
    · refine v_if_eq1 (pc := 16) (tgt := 23) dX5_write_16 rfl ?_
      refine v_iconst (pc := 19) dX5_write_19 ?_
      refine v_goto (pc := 20) (tgt := 24) dX5_write_20 rfl ?_
      refine v_ptM_thrown hM (pc := 24) dX5_write_24 (lw_all_tbl q1994) (fun h hM => ?_)
      refine v_ald0 (pc := 27) dX5_write_27 ?_
      refine v_getf KX5 0 (pc := 28) dX5_write_28 (lw_all_tbl q1994) (Or.inl rfl) (Nat.le_of_ble_eq_true rfl) (mw_obj hM) rfl ?_
      refine v_if_le (pc := 31) (tgt := 38) dX5_write_31 rfl (by omega) (fun _ => ?_) (fun c => absurd c (by decide))
      refine v_ald0 (pc := 38) dX5_write_38 ?_
      refine v_ild1 (pc := 39) dX5_write_39 ?_
      refine v_ild2 (pc := 40) dX5_write_40 ?_
      refine v_ild3 (pc := 41) dX5_write_41 ?_
      refine v_ci0 (pc := 42) (v_runV3 okX5_actsWrite rfl (sp_X5_actsWrite hM (by omega) (by omega) (by omega) (by omega) (by omega) (by omega)) dX5_write_42 (lw_all_tbl q2351) (lw_all_tbl q2353) (lw_all_tbl qs89) rfl (mw_obj hM) (Nat.le_of_ble_eq_true rfl) ⟨Nat.zero_le _, Nat.zero_le _⟩ (Nat.le_of_ble_eq_true rfl)) (fun x42 h hq42 => ?_)
      refine v_ret_n (pc := 45) dX5_write_45 rfl ?_
      first | (exfalso; omega) | exact qi_ok (Or.inl ⟨by omega, rfl, hM⟩) | exact qi_ok (Or.inr ⟨by omega, hq42⟩)
    · refine v_if_eq0 (pc := 16) (tgt := 23) dX5_write_16 rfl ?_
      refine v_iconst (pc := 23) dX5_write_23 ?_
      refine v_ptM_thrown hM (pc := 24) dX5_write_24 (lw_all_tbl q1994) (fun h hM => ?_)
      refine v_ald0 (pc := 27) dX5_write_27 ?_
      refine v_getf KX5 0 (pc := 28) dX5_write_28 (lw_all_tbl q1994) (Or.inl rfl) (Nat.le_of_ble_eq_true rfl) (mw_obj hM) rfl ?_
      refine v_if_le (pc := 31) (tgt := 38) dX5_write_31 rfl (by omega) (fun c => absurd c (by decide)) (fun _ => ?_)
      refine v_iconst (pc := 34) dX5_write_34 ?_
      refine v_goto (pc := 35) (tgt := 45) dX5_write_35 rfl ?_
      refine v_ret_n (pc := 45) dX5_write_45 rfl ?_
      first | (exfalso; omega) | exact qi_ok (Or.inl ⟨by omega, rfl, hM⟩) | exact qi_ok (Or.inr ⟨by omega, hq42⟩)
  · refine v_if_eq0 (pc := 6) (tgt := 23) dX5_write_6 rfl ?_
    refine v_iconst (pc := 23) dX5_write_23 ?_
    refine v_ptM_thrown hM (pc := 24) dX5_write_24 (lw_all_tbl q1994) (fun h hM => ?_)
    refine v_ald0 (pc := 27) dX5_write_27 ?_
    refine v_getf KX5 0 (pc := 28) dX5_write_28 (lw_all_tbl q1994) (Or.inl rfl) (Nat.le_of_ble_eq_true rfl) (mw_obj hM) rfl ?_
    refine v_if_le (pc := 31) (tgt := 38) dX5_write_31 rfl (by omega) (fun c => absurd c (by decide)) (fun _ => ?_)
    refine v_iconst (pc := 34) dX5_write_34 ?_
    refine v_goto (pc := 35) (tgt := 45) dX5_write_35 rfl ?_
    refine v_ret_n (pc := 45) dX5_write_45 rfl ?_
    first | (exfalso; omega) | exact qi_ok (Or.inl ⟨by omega, rfl, hM⟩) | exact qi_ok (Or.inr ⟨by omega, hq42⟩)
theorem sp_X5_die {Γ : Cx} {t : Nat} {α : Nat → Nat} {h0 h : AH} {thrown : Int} {now : Int → Int} {aside : Int → Int} {tried : Int → Int} {undos : Int → Int} {undoMany : Int} {saved : Int → Int} {isSaved : Int → Int} {accounts : Int → Int} {way : Int} {leftOut : Int} {here : Int → Int} {text : Int → Int} {length : Int} {atp : Int} {frm : Int} {token : Int} {number : Int} {error : Int} {errorAt : Int} {commands : Int} {command : Int → Int} {out : Int → Int} {outLong : Int} {c : Int} {u : Int} (hM : MW t α h0 h thrown now aside tried undos undoMany saved isSaved accounts way leftOut here text length atp frm token number error errorAt commands command out outLong) (hR : ROK now c) (hum : 0 ≤ undoMany ∧ undoMany ≤ 8) (hw5 : way = 5) (hu : -2147483648 ≤ u ∧ u ≤ 2147483647) : Sp Γ yX5_die mX5_die 7 0 0 [.ref (α 0), vi u] h (Qi (fun x h' => (¬ (0 ≤ u ∧ u < now 7) ∧ x = 0 ∧ MW t α h0 h' 1 now aside tried undos undoMany saved isSaved accounts way leftOut here text length atp frm token number error errorAt commands command out outLong) ∨ ((0 ≤ u ∧ u < now 7) ∧ x = (rDie now u) ∧ ((0 < (rDie now u) ∧ MW t α h0 h' 0 now aside tried undos undoMany saved isSaved ((upi accounts ((rDie now u)) (accounts ((rDie now u)) + 1))) way leftOut here text length atp frm token number error errorAt commands command out outLong) ∨ ((rDie now u) = 0 ∧ MW t α h0 h' 0 ((mDies (mHist now 1 u (-1) (-1)) u)) aside tried ((kUndos now undos undoMany)) ((kMany undoMany)) saved isSaved ((upi accounts 0 (accounts 0 + 1))) way leftOut here text length atp frm token number error errorAt commands command out outLong))))) NoX := by
  refine sp_of okX5_die (cat_all rfl) (Nat.le_of_ble_eq_true rfl) rfl ?_
  refine v_ald0 (pc := 0) dX5_die_0 ?_
  refine v_ald0 (pc := 1) dX5_die_1 ?_
  refine v_ild1 (pc := 2) dX5_die_2 ?_
  refine v_cb0 (pc := 3) (v_runV1 okX5_isUnit rfl (sp_X5_isUnit hM (by omega) (by omega)) dX5_die_3 (lw_all_tbl q2159) (lw_all_tbl q2161) (lw_all_tbl qs62) rfl (mw_obj hM) (Nat.le_of_ble_eq_true rfl) ⟨Nat.zero_le _, Nat.zero_le _⟩ (Nat.le_of_ble_eq_true rfl)) (fun c3 => ?_) (fun c3 => ?_)
  · refine v_if_eq1 (pc := 6) (tgt := 13) dX5_die_6 rfl ?_
    refine v_iconst (pc := 9) dX5_die_9 ?_
    refine v_goto (pc := 10) (tgt := 14) dX5_die_10 rfl ?_
    refine v_ptM_thrown hM (pc := 14) dX5_die_14 (lw_all_tbl q1994) (fun h hM => ?_)
    refine v_ald0 (pc := 17) dX5_die_17 ?_
    refine v_getf KX5 0 (pc := 18) dX5_die_18 (lw_all_tbl q1994) (Or.inl rfl) (Nat.le_of_ble_eq_true rfl) (mw_obj hM) rfl ?_
    refine v_if_le (pc := 21) (tgt := 28) dX5_die_21 rfl (by omega) (fun _ => ?_) (fun c => absurd c (by decide))
    refine v_ald0 (pc := 28) dX5_die_28 ?_
    refine v_ild1 (pc := 29) dX5_die_29 ?_
    refine v_ci0 (pc := 30) (v_runV1 okX5_actsDie rfl (sp_X5_actsDie hM (by omega) (by omega) (by omega) (by omega)) dX5_die_30 (lw_all_tbl q2375) (lw_all_tbl q2377) (lw_all_tbl qs94) rfl (mw_obj hM) (Nat.le_of_ble_eq_true rfl) ⟨Nat.zero_le _, Nat.zero_le _⟩ (Nat.le_of_ble_eq_true rfl)) (fun x30 h hq30 => ?_)
    refine v_ret_n (pc := 33) dX5_die_33 rfl ?_
    first | (exfalso; omega) | exact qi_ok (Or.inl ⟨by omega, rfl, hM⟩) | exact qi_ok (Or.inr ⟨by omega, hq30⟩)
  · refine v_if_eq0 (pc := 6) (tgt := 13) dX5_die_6 rfl ?_
    refine v_iconst (pc := 13) dX5_die_13 ?_
    refine v_ptM_thrown hM (pc := 14) dX5_die_14 (lw_all_tbl q1994) (fun h hM => ?_)
    refine v_ald0 (pc := 17) dX5_die_17 ?_
    refine v_getf KX5 0 (pc := 18) dX5_die_18 (lw_all_tbl q1994) (Or.inl rfl) (Nat.le_of_ble_eq_true rfl) (mw_obj hM) rfl ?_
    refine v_if_le (pc := 21) (tgt := 28) dX5_die_21 rfl (by omega) (fun c => absurd c (by decide)) (fun _ => ?_)
    refine v_iconst (pc := 24) dX5_die_24 ?_
    refine v_goto (pc := 25) (tgt := 33) dX5_die_25 rfl ?_
    refine v_ret_n (pc := 33) dX5_die_33 rfl ?_
    first | (exfalso; omega) | exact qi_ok (Or.inl ⟨by omega, rfl, hM⟩) | exact qi_ok (Or.inr ⟨by omega, hq30⟩)
theorem sp_X5_reset {Γ : Cx} {t : Nat} {α : Nat → Nat} {h0 h : AH} {thrown : Int} {now : Int → Int} {aside : Int → Int} {tried : Int → Int} {undos : Int → Int} {undoMany : Int} {saved : Int → Int} {isSaved : Int → Int} {accounts : Int → Int} {way : Int} {leftOut : Int} {here : Int → Int} {text : Int → Int} {length : Int} {atp : Int} {frm : Int} {token : Int} {number : Int} {error : Int} {errorAt : Int} {commands : Int} {command : Int → Int} {out : Int → Int} {outLong : Int} {c : Int} {z : Int} (hM : MW t α h0 h thrown now aside tried undos undoMany saved isSaved accounts way leftOut here text length atp frm token number error errorAt commands command out outLong) (hR : ROK now c) (hum : 0 ≤ undoMany ∧ undoMany ≤ 8) (hw5 : way = 5) (hz : -2147483648 ≤ z ∧ z ≤ 2147483647) : Sp Γ yX5_reset mX5_reset 7 0 0 [.ref (α 0), vi z] h (Qi (fun x h' => (¬ (0 ≤ z ∧ z < now 0) ∧ x = 0 ∧ MW t α h0 h' 1 now aside tried undos undoMany saved isSaved accounts way leftOut here text length atp frm token number error errorAt commands command out outLong) ∨ ((0 ≤ z ∧ z < now 0) ∧ x = (rReset now z) ∧ ((0 < (rReset now z) ∧ MW t α h0 h' 0 now aside tried undos undoMany saved isSaved ((upi accounts ((rReset now z)) (accounts ((rReset now z)) + 1))) way leftOut here text length atp frm token number error errorAt commands command out outLong) ∨ ((rReset now z) = 0 ∧ MW t α h0 h' 0 ((mResets (mHist now 2 z (-1) (-1)) z)) aside tried ((kUndos now undos undoMany)) ((kMany undoMany)) saved isSaved ((upi accounts 0 (accounts 0 + 1))) way leftOut here text length atp frm token number error errorAt commands command out outLong))))) NoX := by
  refine sp_of okX5_reset (cat_all rfl) (Nat.le_of_ble_eq_true rfl) rfl ?_
  have hs0 := hR.s0
  refine v_ald0 (pc := 0) dX5_reset_0 ?_
  refine v_ald0 (pc := 1) dX5_reset_1 ?_
  refine v_ild1 (pc := 2) dX5_reset_2 ?_
  refine v_cb0 (pc := 3) (v_runV1 okX5_isZone rfl (sp_X5_isZone hM (by omega) (by omega)) dX5_reset_3 (lw_all_tbl q2139) (lw_all_tbl q2141) (lw_all_tbl qs58) rfl (mw_obj hM) (Nat.le_of_ble_eq_true rfl) ⟨Nat.zero_le _, Nat.zero_le _⟩ (Nat.le_of_ble_eq_true rfl)) (fun c3 => ?_) (fun c3 => ?_)
  · refine v_if_eq1 (pc := 6) (tgt := 13) dX5_reset_6 rfl ?_
    refine v_iconst (pc := 9) dX5_reset_9 ?_
    refine v_goto (pc := 10) (tgt := 14) dX5_reset_10 rfl ?_
    refine v_ptM_thrown hM (pc := 14) dX5_reset_14 (lw_all_tbl q1994) (fun h hM => ?_)
    refine v_ald0 (pc := 17) dX5_reset_17 ?_
    refine v_getf KX5 0 (pc := 18) dX5_reset_18 (lw_all_tbl q1994) (Or.inl rfl) (Nat.le_of_ble_eq_true rfl) (mw_obj hM) rfl ?_
    refine v_if_le (pc := 21) (tgt := 28) dX5_reset_21 rfl (by omega) (fun _ => ?_) (fun c => absurd c (by decide))
    refine v_ald0 (pc := 28) dX5_reset_28 ?_
    refine v_ild1 (pc := 29) dX5_reset_29 ?_
    refine v_ci0 (pc := 30) (v_runV1 okX5_actsReset rfl (sp_X5_actsReset hM (by omega) (by omega) (by omega) (by omega)) dX5_reset_30 (lw_all_tbl q2383) (lw_all_tbl q2385) (lw_all_tbl qs95) rfl (mw_obj hM) (Nat.le_of_ble_eq_true rfl) ⟨Nat.zero_le _, Nat.zero_le _⟩ (Nat.le_of_ble_eq_true rfl)) (fun x30 h hq30 => ?_)
    refine v_ret_n (pc := 33) dX5_reset_33 rfl ?_
    first | (exfalso; omega) | exact qi_ok (Or.inl ⟨by omega, rfl, hM⟩) | exact qi_ok (Or.inr ⟨by omega, hq30⟩)
  · refine v_if_eq0 (pc := 6) (tgt := 13) dX5_reset_6 rfl ?_
    refine v_iconst (pc := 13) dX5_reset_13 ?_
    refine v_ptM_thrown hM (pc := 14) dX5_reset_14 (lw_all_tbl q1994) (fun h hM => ?_)
    refine v_ald0 (pc := 17) dX5_reset_17 ?_
    refine v_getf KX5 0 (pc := 18) dX5_reset_18 (lw_all_tbl q1994) (Or.inl rfl) (Nat.le_of_ble_eq_true rfl) (mw_obj hM) rfl ?_
    refine v_if_le (pc := 21) (tgt := 28) dX5_reset_21 rfl (by omega) (fun c => absurd c (by decide)) (fun _ => ?_)
    refine v_iconst (pc := 24) dX5_reset_24 ?_
    refine v_goto (pc := 25) (tgt := 33) dX5_reset_25 rfl ?_
    refine v_ret_n (pc := 33) dX5_reset_33 rfl ?_
    first | (exfalso; omega) | exact qi_ok (Or.inl ⟨by omega, rfl, hM⟩) | exact qi_ok (Or.inr ⟨by omega, hq30⟩)
theorem sp_X5_bury {Γ : Cx} {t : Nat} {α : Nat → Nat} {h0 h : AH} {thrown : Int} {now : Int → Int} {aside : Int → Int} {tried : Int → Int} {undos : Int → Int} {undoMany : Int} {saved : Int → Int} {isSaved : Int → Int} {accounts : Int → Int} {way : Int} {leftOut : Int} {here : Int → Int} {text : Int → Int} {length : Int} {atp : Int} {frm : Int} {token : Int} {number : Int} {error : Int} {errorAt : Int} {commands : Int} {command : Int → Int} {out : Int → Int} {outLong : Int} {c : Int} {z : Int} (hM : MW t α h0 h thrown now aside tried undos undoMany saved isSaved accounts way leftOut here text length atp frm token number error errorAt commands command out outLong) (hR : ROK now c) (hum : 0 ≤ undoMany ∧ undoMany ≤ 8) (hw5 : way = 5) (hz : -2147483648 ≤ z ∧ z ≤ 2147483647) (hc : c + 200 ≤ 14000000) : Sp Γ yX5_bury mX5_bury 10 0 0 [.ref (α 0), vi z] h (Qi (fun x h' => (¬ (0 ≤ z ∧ z < now 0) ∧ x = 0 ∧ MW t α h0 h' 1 now aside tried undos undoMany saved isSaved accounts way leftOut here text length atp frm token number error errorAt commands command out outLong) ∨ ((0 ≤ z ∧ z < now 0) ∧ x = (rBury now aside way z) ∧ ∃ tr, ((0 < (rBury now aside way z) ∧ MW t α h0 h' 0 now aside tr undos undoMany saved isSaved ((upi accounts ((rBury now aside way z)) (accounts ((rBury now aside way z)) + 1))) way leftOut here text length atp frm token number error errorAt commands command out outLong) ∨ ((rBury now aside way z) = 0 ∧ MW t α h0 h' 0 (((mBuries (mHist now 3 z (-1) (-1)) aside way z).getD (mHist now 3 z (-1) (-1)))) aside tr ((kUndos now undos undoMany)) ((kMany undoMany)) saved isSaved ((upi accounts 0 (accounts 0 + 1))) way leftOut here text length atp frm token number error errorAt commands command out outLong))))) NoX := by
  refine sp_of okX5_bury (cat_all rfl) (Nat.le_of_ble_eq_true rfl) rfl ?_
  have hs0 := hR.s0
  refine v_ald0 (pc := 0) dX5_bury_0 ?_
  refine v_ald0 (pc := 1) dX5_bury_1 ?_
  refine v_ild1 (pc := 2) dX5_bury_2 ?_
  refine v_cb0 (pc := 3) (v_runV1 okX5_isZone rfl (sp_X5_isZone hM (by omega) (by omega)) dX5_bury_3 (lw_all_tbl q2139) (lw_all_tbl q2141) (lw_all_tbl qs58) rfl (mw_obj hM) (Nat.le_of_ble_eq_true rfl) ⟨Nat.zero_le _, Nat.zero_le _⟩ (Nat.le_of_ble_eq_true rfl)) (fun c3 => ?_) (fun c3 => ?_)
  · refine v_if_eq1 (pc := 6) (tgt := 13) dX5_bury_6 rfl ?_
    refine v_iconst (pc := 9) dX5_bury_9 ?_
    refine v_goto (pc := 10) (tgt := 14) dX5_bury_10 rfl ?_
    refine v_ptM_thrown hM (pc := 14) dX5_bury_14 (lw_all_tbl q1994) (fun h hM => ?_)
    refine v_ald0 (pc := 17) dX5_bury_17 ?_
    refine v_getf KX5 0 (pc := 18) dX5_bury_18 (lw_all_tbl q1994) (Or.inl rfl) (Nat.le_of_ble_eq_true rfl) (mw_obj hM) rfl ?_
    refine v_if_le (pc := 21) (tgt := 28) dX5_bury_21 rfl (by omega) (fun _ => ?_) (fun c => absurd c (by decide))
    refine v_ald0 (pc := 28) dX5_bury_28 ?_
    refine v_ild1 (pc := 29) dX5_bury_29 ?_
    refine v_ci0 (pc := 30) (v_runV1 okX5_actsBury rfl (sp_X5_actsBury hM (by omega) (by omega) (by omega) (by omega) (by omega)) dX5_bury_30 (lw_all_tbl q2391) (lw_all_tbl q2393) (lw_all_tbl qs96) rfl (mw_obj hM) (Nat.le_of_ble_eq_true rfl) ⟨Nat.zero_le _, Nat.zero_le _⟩ (Nat.le_of_ble_eq_true rfl)) (fun x30 h hq30 => ?_)
    refine v_ret_n (pc := 33) dX5_bury_33 rfl ?_
    first | (exfalso; omega) | exact qi_ok (Or.inl ⟨by omega, rfl, hM⟩) | exact qi_ok (Or.inr ⟨by omega, hq30⟩)
  · refine v_if_eq0 (pc := 6) (tgt := 13) dX5_bury_6 rfl ?_
    refine v_iconst (pc := 13) dX5_bury_13 ?_
    refine v_ptM_thrown hM (pc := 14) dX5_bury_14 (lw_all_tbl q1994) (fun h hM => ?_)
    refine v_ald0 (pc := 17) dX5_bury_17 ?_
    refine v_getf KX5 0 (pc := 18) dX5_bury_18 (lw_all_tbl q1994) (Or.inl rfl) (Nat.le_of_ble_eq_true rfl) (mw_obj hM) rfl ?_
    refine v_if_le (pc := 21) (tgt := 28) dX5_bury_21 rfl (by omega) (fun c => absurd c (by decide)) (fun _ => ?_)
    refine v_iconst (pc := 24) dX5_bury_24 ?_
    refine v_goto (pc := 25) (tgt := 33) dX5_bury_25 rfl ?_
    refine v_ret_n (pc := 33) dX5_bury_33 rfl ?_
    first | (exfalso; omega) | exact qi_ok (Or.inl ⟨by omega, rfl, hM⟩) | exact qi_ok (Or.inr ⟨by omega, hq30⟩)
theorem sp_X5_days {Γ : Cx} {t : Nat} {α : Nat → Nat} {h0 h : AH} {thrown : Int} {now : Int → Int} {aside : Int → Int} {tried : Int → Int} {undos : Int → Int} {undoMany : Int} {saved : Int → Int} {isSaved : Int → Int} {accounts : Int → Int} {way : Int} {leftOut : Int} {here : Int → Int} {text : Int → Int} {length : Int} {atp : Int} {frm : Int} {token : Int} {number : Int} {error : Int} {errorAt : Int} {commands : Int} {command : Int → Int} {out : Int → Int} {outLong : Int} {c : Int} {days : Int} (hM : MW t α h0 h thrown now aside tried undos undoMany saved isSaved accounts way leftOut here text length atp frm token number error errorAt commands command out outLong) (hR : ROK now c) (hum : 0 ≤ undoMany ∧ undoMany ≤ 8) (hw5 : way = 5) (hdays : -2147483648 ≤ days ∧ days ≤ 2147483647) (hc : c + 78000 ≤ 14000000) : Sp Γ yX5_days mX5_days 11 0 0 [.ref (α 0), vi days] h (Qi (fun x h' => (¬ (1 ≤ days ∧ days ≤ 60) ∧ x = 0 ∧ MW t α h0 h' 1 now aside tried undos undoMany saved isSaved accounts way leftOut here text length atp frm token number error errorAt commands command out outLong) ∨ ((1 ≤ days ∧ days ≤ 60) ∧ x = (rDays now) ∧ ∃ tr, ((0 < (rDays now) ∧ MW t α h0 h' 0 now aside tr undos undoMany saved isSaved ((upi accounts ((rDays now)) (accounts ((rDays now)) + 1))) way leftOut here text length atp frm token number error errorAt commands command out outLong) ∨ ((rDays now) = 0 ∧ MW t α h0 h' 0 ((mDays (mHist now 4 days (-1) (-1)) aside way days)) aside tr ((kUndos now undos undoMany)) ((kMany undoMany)) saved isSaved ((upi accounts 0 (accounts 0 + 1))) way leftOut here text length atp frm token number error errorAt commands command out outLong))))) NoX := by
  refine sp_of okX5_days (cat_all rfl) (Nat.le_of_ble_eq_true rfl) rfl ?_
  refine v_ald0 (pc := 0) dX5_days_0 ?_
  refine v_ild1 (pc := 1) dX5_days_1 ?_
  refine v_cb0 (pc := 2) (v_runS1 okX5_areDays rfl (sp_X5_areDays (by omega)) dX5_days_2 (lw_all_tbl q2403) (lw_all_tbl q2404) (Nat.le_of_ble_eq_true rfl) ⟨Nat.zero_le _, Nat.zero_le _⟩ (Nat.le_of_ble_eq_true rfl)) (fun c2 => ?_) (fun c2 => ?_)
  · refine v_if_eq1 (pc := 5) (tgt := 12) dX5_days_5 rfl ?_
    refine v_iconst (pc := 8) dX5_days_8 ?_
    refine v_goto (pc := 9) (tgt := 13) dX5_days_9 rfl ?_
    refine v_ptM_thrown hM (pc := 13) dX5_days_13 (lw_all_tbl q1994) (fun h hM => ?_)
    refine v_ald0 (pc := 16) dX5_days_16 ?_
    refine v_getf KX5 0 (pc := 17) dX5_days_17 (lw_all_tbl q1994) (Or.inl rfl) (Nat.le_of_ble_eq_true rfl) (mw_obj hM) rfl ?_
    refine v_if_le (pc := 20) (tgt := 27) dX5_days_20 rfl (by omega) (fun _ => ?_) (fun c => absurd c (by decide))
    refine v_ald0 (pc := 27) dX5_days_27 ?_
    refine v_ild1 (pc := 28) dX5_days_28 ?_
    refine v_ci0 (pc := 29) (v_runV1 okX5_actsDays rfl (sp_X5_actsDays hM (by omega) (by omega) (by omega) (by omega) (by omega)) dX5_days_29 (lw_all_tbl q2406) (lw_all_tbl q2408) (lw_all_tbl qs98) rfl (mw_obj hM) (Nat.le_of_ble_eq_true rfl) ⟨Nat.zero_le _, Nat.zero_le _⟩ (Nat.le_of_ble_eq_true rfl)) (fun x29 h hq29 => ?_)
    refine v_ret_n (pc := 32) dX5_days_32 rfl ?_
    first | (exfalso; omega) | exact qi_ok (Or.inl ⟨by omega, rfl, hM⟩) | exact qi_ok (Or.inr ⟨by omega, hq29⟩)
  · refine v_if_eq0 (pc := 5) (tgt := 12) dX5_days_5 rfl ?_
    refine v_iconst (pc := 12) dX5_days_12 ?_
    refine v_ptM_thrown hM (pc := 13) dX5_days_13 (lw_all_tbl q1994) (fun h hM => ?_)
    refine v_ald0 (pc := 16) dX5_days_16 ?_
    refine v_getf KX5 0 (pc := 17) dX5_days_17 (lw_all_tbl q1994) (Or.inl rfl) (Nat.le_of_ble_eq_true rfl) (mw_obj hM) rfl ?_
    refine v_if_le (pc := 20) (tgt := 27) dX5_days_20 rfl (by omega) (fun c => absurd c (by decide)) (fun _ => ?_)
    refine v_iconst (pc := 23) dX5_days_23 ?_
    refine v_goto (pc := 24) (tgt := 32) dX5_days_24 rfl ?_
    refine v_ret_n (pc := 32) dX5_days_32 rfl ?_
    first | (exfalso; omega) | exact qi_ok (Or.inl ⟨by omega, rfl, hM⟩) | exact qi_ok (Or.inr ⟨by omega, hq29⟩)
