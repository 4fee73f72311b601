/-! FlashZonesModel: walks, 10 (printed by gen) -/
set_option maxRecDepth 100000
theorem sp_X5_ahead {Γ : Cx} {t : Nat} {α : Nat → Nat} {h0 h : AH} {thrown : Int} {now : Int → Int} {aside : Int → Int} {tried : Int → Int} {undos : Int → Int} {undoMany : Int} {saved : Int → Int} {isSaved : Int → Int} {accounts : Int → Int} {way : Int} {leftOut : Int} {here : Int → Int} {text : Int → Int} {length : Int} {atp : Int} {frm : Int} {token : Int} {number : Int} {error : Int} {errorAt : Int} {commands : Int} {command : Int → Int} {out : Int → Int} {outLong : Int} {c : Int} {days k : Int} (hM : MW t α h0 h thrown now aside tried undos undoMany saved isSaved accounts way leftOut here text length atp frm token number error errorAt commands command out outLong) (hR : ROK now c) (hway : 0 ≤ way ∧ way ≤ 6) (hw5 : way = 5) (hd : -2147483648 ≤ days ∧ days ≤ 2147483647) (hk : -2147483648 ≤ k ∧ k ≤ 2147483647) (hc : c + 78000 ≤ 14000000) : Sp Γ yX5_ahead mX5_ahead 10 0 0 [.ref (α 0), vi days, vi k] h (Qi (fun x h' => x = (if (1 ≤ days ∧ days ≤ 60) ∧ 0 ≤ k ∧ k ≤ 3 then mDays now now way days (aPlace k) - now (aPlace k) else 0) ∧ ∃ tr as, MW t α h0 h' ((if (1 ≤ days ∧ days ≤ 60) ∧ 0 ≤ k ∧ k ≤ 3 then 0 else 1)) now as tr undos undoMany saved isSaved accounts way leftOut here text length atp frm token number error errorAt commands command out outLong)) NoX := by
  refine sp_of okX5_ahead (cat_all rfl) (Nat.le_of_ble_eq_true rfl) rfl ?_
  refine v_ald0 (pc := 0) dX5_ahead_0 ?_
  refine v_ild1 (pc := 1) dX5_ahead_1 ?_
  refine v_cb0 (pc := 2) (v_runS1 okX5_areDays rfl (sp_X5_areDays (by omega)) dX5_ahead_2 (lw_all_tbl q2403) (lw_all_tbl q2404) (Nat.le_of_ble_eq_true rfl) ⟨Nat.zero_le _, Nat.zero_le _⟩ (Nat.le_of_ble_eq_true rfl)) (fun c2 => ?_) (fun c2 => ?_)
  · refine v_if_eq1 (pc := 5) (tgt := 21) dX5_ahead_5 rfl ?_
    refine v_ild2 (pc := 8) dX5_ahead_8 ?_
    refine v_iconst (pc := 9) dX5_ahead_9 ?_
    refine v_iconst (pc := 10) dX5_ahead_10 ?_
    refine v_cb0 (pc := 11) (v_runS3 okX5_in rfl (sp_X5_in (by omega) (by omega) (by omega)) dX5_ahead_11 (lw_all_tbl q2079) (lw_all_tbl q2080) (Nat.le_of_ble_eq_true rfl) ⟨Nat.zero_le _, Nat.zero_le _⟩ (Nat.le_of_ble_eq_true rfl)) (fun c11 => ?_) (fun c11 => ?_)
    · refine v_if_eq1 (pc := 14) (tgt := 21) dX5_ahead_14 rfl ?_
      refine v_iconst (pc := 17) dX5_ahead_17 ?_
      refine v_goto (pc := 18) (tgt := 22) dX5_ahead_18 rfl ?_
      refine v_ptM_thrown hM (pc := 22) dX5_ahead_22 (lw_all_tbl q1994) (fun h hM => ?_)
      refine v_ald0 (pc := 25) dX5_ahead_25 ?_
      refine v_getf KX5 0 (pc := 26) dX5_ahead_26 (lw_all_tbl q1994) (Or.inl rfl) (Nat.le_of_ble_eq_true rfl) (mw_obj hM) rfl ?_
      refine v_if_le (pc := 29) (tgt := 34) dX5_ahead_29 rfl (by omega) (fun _ => ?_) (fun c => absurd c (by decide))
      refine v_ald0 (pc := 34) dX5_ahead_34 ?_
      refine v_getf KX5 1 (pc := 35) dX5_ahead_35 (lw_all_tbl q1995) (Or.inl rfl) (Nat.le_of_ble_eq_true rfl) (mw_obj hM) rfl ?_
      refine v_iconst (pc := 38) dX5_ahead_38 ?_
      refine v_ald0 (pc := 39) dX5_ahead_39 ?_
      refine v_getf KX5 2 (pc := 40) dX5_ahead_40 (lw_all_tbl q1996) (Or.inl rfl) (Nat.le_of_ble_eq_true rfl) (mw_obj hM) rfl ?_
      refine v_iconst (pc := 43) dX5_ahead_43 ?_
      refine v_cv0 (pc := 44) (v_runS4 okX5_copies rfl (sp_cp_now_aside hM) dX5_ahead_44 (lw_all_tbl q2253) (lw_all_tbl q2254) (Nat.le_of_ble_eq_true rfl) ⟨Nat.zero_le _, Nat.zero_le _⟩ (Nat.le_of_ble_eq_true rfl)) (fun h hM => ?_)
      refine v_ald0 (pc := 47) dX5_ahead_47 ?_
      refine v_ild1 (pc := 48) dX5_ahead_48 ?_
      refine v_cv0 (pc := 49) (v_runV1 okX5_passesDays rfl (sp_X5_passesDays (ca := 0) hM hR hway (fun q => by omega) (by omega) (by omega)) dX5_ahead_49 (lw_all_tbl q2324) (lw_all_tbl q2326) (lw_all_tbl qs86) rfl (mw_obj hM) (Nat.le_of_ble_eq_true rfl) ⟨Nat.zero_le _, Nat.zero_le _⟩ (Nat.le_of_ble_eq_true rfl)) (fun h ⟨tried, hM⟩ => ?_)
      obtain ⟨hR2, -⟩ := mDays_inv (as := cpy now 0 aside 0) (way := way) (m := days) hR (by omega) days (by omega) (Int.le_refl _)
      refine v_ild2 (pc := 52) dX5_ahead_52 ?_
      refine v_if_ne (pc := 53) (tgt := 61) dX5_ahead_53 rfl (by omega) (fun c53 => ?_) (fun c53 => ?_)
      · refine v_ild2 (pc := 61) dX5_ahead_61 ?_
        refine v_iconst (pc := 62) dX5_ahead_62 ?_
        refine v_icmp_ne (pc := 63) (tgt := 71) dX5_ahead_63 rfl (by omega) (by omega) (fun c63 => ?_) (fun c63 => ?_)
        · refine v_ild2 (pc := 71) dX5_ahead_71 ?_
          refine v_iconst (pc := 72) dX5_ahead_72 ?_
          refine v_icmp_ne (pc := 73) (tgt := 81) dX5_ahead_73 rfl (by omega) (by omega) (fun c73 => ?_) (fun c73 => ?_)
          · refine v_bipush (pc := 81) dX5_ahead_81 ⟨by decide, by decide⟩ ?_
            refine v_ist3 (pc := 83) dX5_ahead_83 rfl ?_
            refine v_ald0 (pc := 84) dX5_ahead_84 ?_
            refine v_getf KX5 1 (pc := 85) dX5_ahead_85 (lw_all_tbl q1995) (Or.inl rfl) (Nat.le_of_ble_eq_true rfl) (mw_obj hM) rfl ?_
            refine v_ild3 (pc := 88) dX5_ahead_88 ?_
            refine v_ldM_now hM (pc := 89) dX5_ahead_89 (by omega) ?_
            refine v_ald0 (pc := 90) dX5_ahead_90 ?_
            refine v_getf KX5 2 (pc := 91) dX5_ahead_91 (lw_all_tbl q1996) (Or.inl rfl) (Nat.le_of_ble_eq_true rfl) (mw_obj hM) rfl ?_
            refine v_ild3 (pc := 94) dX5_ahead_94 ?_
            refine v_ldM_aside hM (pc := 95) dX5_ahead_95 (by omega) ?_
            refine v_isub (pc := 96) dX5_ahead_96 ?_
            refine v_ist4 (pc := 97) dX5_ahead_97 rfl ?_
            refine v_ald0 (pc := 99) dX5_ahead_99 ?_
            refine v_getf KX5 2 (pc := 100) dX5_ahead_100 (lw_all_tbl q1996) (Or.inl rfl) (Nat.le_of_ble_eq_true rfl) (mw_obj hM) rfl ?_
            refine v_iconst (pc := 103) dX5_ahead_103 ?_
            refine v_ald0 (pc := 104) dX5_ahead_104 ?_
            refine v_getf KX5 1 (pc := 105) dX5_ahead_105 (lw_all_tbl q1995) (Or.inl rfl) (Nat.le_of_ble_eq_true rfl) (mw_obj hM) rfl ?_
            refine v_iconst (pc := 108) dX5_ahead_108 ?_
            refine v_cv0 (pc := 109) (v_runS4 okX5_copies rfl (sp_cp_aside_now hM) dX5_ahead_109 (lw_all_tbl q2253) (lw_all_tbl q2254) (Nat.le_of_ble_eq_true rfl) ⟨Nat.zero_le _, Nat.zero_le _⟩ (Nat.le_of_ble_eq_true rfl)) (fun h hM => ?_)
            refine v_ild4 (pc := 112) dX5_ahead_112 ?_
            refine v_ret_n (pc := 114) dX5_ahead_114 rfl ?_
            have hpl := aPlace_r k
            rw [cpy_back hR.sup hR2.sup] at hM
            exact qi_ok ⟨by rw [if_pos (by omega)]; unfold aPlace; first | rw [if_pos (by omega), cpy_at (by omega), mDays_as (as := now) (as' := cpy now 0 aside 0) (by omega)] | rw [if_neg (by omega), if_pos (by omega), cpy_at (by omega), mDays_as (as := now) (as' := cpy now 0 aside 0) (by omega)] | rw [if_neg (by omega), if_neg (by omega), if_pos (by omega), cpy_at (by omega), mDays_as (as := now) (as' := cpy now 0 aside 0) (by omega)] | rw [if_neg (by omega), if_neg (by omega), if_neg (by omega), cpy_at (by omega), mDays_as (as := now) (as' := cpy now 0 aside 0) (by omega)], _, _, mw_thr hM (by rw [if_pos (by omega)])⟩
          · refine v_bipush (pc := 76) dX5_ahead_76 ⟨by decide, by decide⟩ ?_
            refine v_goto (pc := 78) (tgt := 83) dX5_ahead_78 rfl ?_
            refine v_ist3 (pc := 83) dX5_ahead_83 rfl ?_
            refine v_ald0 (pc := 84) dX5_ahead_84 ?_
            refine v_getf KX5 1 (pc := 85) dX5_ahead_85 (lw_all_tbl q1995) (Or.inl rfl) (Nat.le_of_ble_eq_true rfl) (mw_obj hM) rfl ?_
            refine v_ild3 (pc := 88) dX5_ahead_88 ?_
            refine v_ldM_now hM (pc := 89) dX5_ahead_89 (by omega) ?_
            refine v_ald0 (pc := 90) dX5_ahead_90 ?_
            refine v_getf KX5 2 (pc := 91) dX5_ahead_91 (lw_all_tbl q1996) (Or.inl rfl) (Nat.le_of_ble_eq_true rfl) (mw_obj hM) rfl ?_
            refine v_ild3 (pc := 94) dX5_ahead_94 ?_
            refine v_ldM_aside hM (pc := 95) dX5_ahead_95 (by omega) ?_
            refine v_isub (pc := 96) dX5_ahead_96 ?_
            refine v_ist4 (pc := 97) dX5_ahead_97 rfl ?_
            refine v_ald0 (pc := 99) dX5_ahead_99 ?_
            refine v_getf KX5 2 (pc := 100) dX5_ahead_100 (lw_all_tbl q1996) (Or.inl rfl) (Nat.le_of_ble_eq_true rfl) (mw_obj hM) rfl ?_
            refine v_iconst (pc := 103) dX5_ahead_103 ?_
            refine v_ald0 (pc := 104) dX5_ahead_104 ?_
            refine v_getf KX5 1 (pc := 105) dX5_ahead_105 (lw_all_tbl q1995) (Or.inl rfl) (Nat.le_of_ble_eq_true rfl) (mw_obj hM) rfl ?_
            refine v_iconst (pc := 108) dX5_ahead_108 ?_
            refine v_cv0 (pc := 109) (v_runS4 okX5_copies rfl (sp_cp_aside_now hM) dX5_ahead_109 (lw_all_tbl q2253) (lw_all_tbl q2254) (Nat.le_of_ble_eq_true rfl) ⟨Nat.zero_le _, Nat.zero_le _⟩ (Nat.le_of_ble_eq_true rfl)) (fun h hM => ?_)
            refine v_ild4 (pc := 112) dX5_ahead_112 ?_
            refine v_ret_n (pc := 114) dX5_ahead_114 rfl ?_
            have hpl := aPlace_r k
            rw [cpy_back hR.sup hR2.sup] at hM
            exact qi_ok ⟨by rw [if_pos (by omega)]; unfold aPlace; first | rw [if_pos (by omega), cpy_at (by omega), mDays_as (as := now) (as' := cpy now 0 aside 0) (by omega)] | rw [if_neg (by omega), if_pos (by omega), cpy_at (by omega), mDays_as (as := now) (as' := cpy now 0 aside 0) (by omega)] | rw [if_neg (by omega), if_neg (by omega), if_pos (by omega), cpy_at (by omega), mDays_as (as := now) (as' := cpy now 0 aside 0) (by omega)] | rw [if_neg (by omega), if_neg (by omega), if_neg (by omega), cpy_at (by omega), mDays_as (as := now) (as' := cpy now 0 aside 0) (by omega)], _, _, mw_thr hM (by rw [if_pos (by omega)])⟩
        · refine v_bipush (pc := 66) dX5_ahead_66 ⟨by decide, by decide⟩ ?_
          refine v_goto (pc := 68) (tgt := 83) dX5_ahead_68 rfl ?_
          refine v_ist3 (pc := 83) dX5_ahead_83 rfl ?_
          refine v_ald0 (pc := 84) dX5_ahead_84 ?_
          refine v_getf KX5 1 (pc := 85) dX5_ahead_85 (lw_all_tbl q1995) (Or.inl rfl) (Nat.le_of_ble_eq_true rfl) (mw_obj hM) rfl ?_
          refine v_ild3 (pc := 88) dX5_ahead_88 ?_
          refine v_ldM_now hM (pc := 89) dX5_ahead_89 (by omega) ?_
          refine v_ald0 (pc := 90) dX5_ahead_90 ?_
          refine v_getf KX5 2 (pc := 91) dX5_ahead_91 (lw_all_tbl q1996) (Or.inl rfl) (Nat.le_of_ble_eq_true rfl) (mw_obj hM) rfl ?_
          refine v_ild3 (pc := 94) dX5_ahead_94 ?_
          refine v_ldM_aside hM (pc := 95) dX5_ahead_95 (by omega) ?_
          refine v_isub (pc := 96) dX5_ahead_96 ?_
          refine v_ist4 (pc := 97) dX5_ahead_97 rfl ?_
          refine v_ald0 (pc := 99) dX5_ahead_99 ?_
          refine v_getf KX5 2 (pc := 100) dX5_ahead_100 (lw_all_tbl q1996) (Or.inl rfl) (Nat.le_of_ble_eq_true rfl) (mw_obj hM) rfl ?_
          refine v_iconst (pc := 103) dX5_ahead_103 ?_
          refine v_ald0 (pc := 104) dX5_ahead_104 ?_
          refine v_getf KX5 1 (pc := 105) dX5_ahead_105 (lw_all_tbl q1995) (Or.inl rfl) (Nat.le_of_ble_eq_true rfl) (mw_obj hM) rfl ?_
          refine v_iconst (pc := 108) dX5_ahead_108 ?_
          refine v_cv0 (pc := 109) (v_runS4 okX5_copies rfl (sp_cp_aside_now hM) dX5_ahead_109 (lw_all_tbl q2253) (lw_all_tbl q2254) (Nat.le_of_ble_eq_true rfl) ⟨Nat.zero_le _, Nat.zero_le _⟩ (Nat.le_of_ble_eq_true rfl)) (fun h hM => ?_)
          refine v_ild4 (pc := 112) dX5_ahead_112 ?_
          refine v_ret_n (pc := 114) dX5_ahead_114 rfl ?_
          have hpl := aPlace_r k
          rw [cpy_back hR.sup hR2.sup] at hM
          exact qi_ok ⟨by rw [if_pos (by omega)]; unfold aPlace; first | rw [if_pos (by omega), cpy_at (by omega), mDays_as (as := now) (as' := cpy now 0 aside 0) (by omega)] | rw [if_neg (by omega), if_pos (by omega), cpy_at (by omega), mDays_as (as := now) (as' := cpy now 0 aside 0) (by omega)] | rw [if_neg (by omega), if_neg (by omega), if_pos (by omega), cpy_at (by omega), mDays_as (as := now) (as' := cpy now 0 aside 0) (by omega)] | rw [if_neg (by omega), if_neg (by omega), if_neg (by omega), cpy_at (by omega), mDays_as (as := now) (as' := cpy now 0 aside 0) (by omega)], _, _, mw_thr hM (by rw [if_pos (by omega)])⟩
      · refine v_bipush (pc := 56) dX5_ahead_56 ⟨by decide, by decide⟩ ?_
        refine v_goto (pc := 58) (tgt := 83) dX5_ahead_58 rfl ?_
        refine v_ist3 (pc := 83) dX5_ahead_83 rfl ?_
        refine v_ald0 (pc := 84) dX5_ahead_84 ?_
        refine v_getf KX5 1 (pc := 85) dX5_ahead_85 (lw_all_tbl q1995) (Or.inl rfl) (Nat.le_of_ble_eq_true rfl) (mw_obj hM) rfl ?_
        refine v_ild3 (pc := 88) dX5_ahead_88 ?_
        refine v_ldM_now hM (pc := 89) dX5_ahead_89 (by omega) ?_
        refine v_ald0 (pc := 90) dX5_ahead_90 ?_
        refine v_getf KX5 2 (pc := 91) dX5_ahead_91 (lw_all_tbl q1996) (Or.inl rfl) (Nat.le_of_ble_eq_true rfl) (mw_obj hM) rfl ?_
        refine v_ild3 (pc := 94) dX5_ahead_94 ?_
        refine v_ldM_aside hM (pc := 95) dX5_ahead_95 (by omega) ?_
        refine v_isub (pc := 96) dX5_ahead_96 ?_
        refine v_ist4 (pc := 97) dX5_ahead_97 rfl ?_
        refine v_ald0 (pc := 99) dX5_ahead_99 ?_
        refine v_getf KX5 2 (pc := 100) dX5_ahead_100 (lw_all_tbl q1996) (Or.inl rfl) (Nat.le_of_ble_eq_true rfl) (mw_obj hM) rfl ?_
        refine v_iconst (pc := 103) dX5_ahead_103 ?_
        refine v_ald0 (pc := 104) dX5_ahead_104 ?_
        refine v_getf KX5 1 (pc := 105) dX5_ahead_105 (lw_all_tbl q1995) (Or.inl rfl) (Nat.le_of_ble_eq_true rfl) (mw_obj hM) rfl ?_
        refine v_iconst (pc := 108) dX5_ahead_108 ?_
        refine v_cv0 (pc := 109) (v_runS4 okX5_copies rfl (sp_cp_aside_now hM) dX5_ahead_109 (lw_all_tbl q2253) (lw_all_tbl q2254) (Nat.le_of_ble_eq_true rfl) ⟨Nat.zero_le _, Nat.zero_le _⟩ (Nat.le_of_ble_eq_true rfl)) (fun h hM => ?_)
        refine v_ild4 (pc := 112) dX5_ahead_112 ?_
        refine v_ret_n (pc := 114) dX5_ahead_114 rfl ?_
        have hpl := aPlace_r k
        rw [cpy_back hR.sup hR2.sup] at hM
        exact qi_ok ⟨by rw [if_pos (by omega)]; unfold aPlace; first | rw [if_pos (by omega), cpy_at (by omega), mDays_as (as := now) (as' := cpy now 0 aside 0) (by omega)] | rw [if_neg (by omega), if_pos (by omega), cpy_at (by omega), mDays_as (as := now) (as' := cpy now 0 aside 0) (by omega)] | rw [if_neg (by omega), if_neg (by omega), if_pos (by omega), cpy_at (by omega), mDays_as (as := now) (as' := cpy now 0 aside 0) (by omega)] | rw [if_neg (by omega), if_neg (by omega), if_neg (by omega), cpy_at (by omega), mDays_as (as := now) (as' := cpy now 0 aside 0) (by omega)], _, _, mw_thr hM (by rw [if_pos (by omega)])⟩
    · refine v_if_eq0 (pc := 14) (tgt := 21) dX5_ahead_14 rfl ?_
      refine v_iconst (pc := 21) dX5_ahead_21 ?_
      refine v_ptM_thrown hM (pc := 22) dX5_ahead_22 (lw_all_tbl q1994) (fun h hM => ?_)
      refine v_ald0 (pc := 25) dX5_ahead_25 ?_
      refine v_getf KX5 0 (pc := 26) dX5_ahead_26 (lw_all_tbl q1994) (Or.inl rfl) (Nat.le_of_ble_eq_true rfl) (mw_obj hM) rfl ?_
      refine v_if_le (pc := 29) (tgt := 34) dX5_ahead_29 rfl (by omega) (fun c => absurd c (by decide)) (fun _ => ?_)
      refine v_iconst (pc := 32) dX5_ahead_32 ?_
      refine v_ret_n (pc := 33) dX5_ahead_33 rfl ?_
      exact qi_ok ⟨by rw [if_neg (by omega)], _, _, mw_thr hM (by rw [if_neg (by omega)])⟩
  · refine v_if_eq0 (pc := 5) (tgt := 21) dX5_ahead_5 rfl ?_
    refine v_iconst (pc := 21) dX5_ahead_21 ?_
    refine v_ptM_thrown hM (pc := 22) dX5_ahead_22 (lw_all_tbl q1994) (fun h hM => ?_)
    refine v_ald0 (pc := 25) dX5_ahead_25 ?_
    refine v_getf KX5 0 (pc := 26) dX5_ahead_26 (lw_all_tbl q1994) (Or.inl rfl) (Nat.le_of_ble_eq_true rfl) (mw_obj hM) rfl ?_
    refine v_if_le (pc := 29) (tgt := 34) dX5_ahead_29 rfl (by omega) (fun c => absurd c (by decide)) (fun _ => ?_)
    refine v_iconst (pc := 32) dX5_ahead_32 ?_
    refine v_ret_n (pc := 33) dX5_ahead_33 rfl ?_
    exact qi_ok ⟨by rw [if_neg (by omega)], _, _, mw_thr hM (by rw [if_neg (by omega)])⟩
theorem sp_X5_regret {Γ : Cx} {t : Nat} {α : Nat → Nat} {h0 h : AH} {thrown : Int} {now : Int → Int} {aside : Int → Int} {tried : Int → Int} {undos : Int → Int} {undoMany : Int} {saved : Int → Int} {isSaved : Int → Int} {accounts : Int → Int} {way : Int} {leftOut : Int} {here : Int → Int} {text : Int → Int} {length : Int} {atp : Int} {frm : Int} {token : Int} {number : Int} {error : Int} {errorAt : Int} {commands : Int} {command : Int → Int} {out : Int → Int} {outLong : Int} {c : Int}  (hM : MW t α h0 h thrown now aside tried undos undoMany saved isSaved accounts way leftOut here text length atp frm token number error errorAt commands command out outLong) (hR : ROK now c) : Sp Γ yX5_regret mX5_regret 1 0 0 [.ref (α 0)] h (Qi (fun x h' => x = now 10 - mLeast now 5 ∧ MW t α h0 h' 0 now aside tried undos undoMany saved isSaved accounts way leftOut here text length atp frm token number error errorAt commands command out outLong)) NoX := by
  refine sp_of okX5_regret (cat_all rfl) (Nat.le_of_ble_eq_true rfl) rfl ?_
  have hc0 := hR.c0
  have hl0 := hR.gL 0 (by omega)
  have L15 : ∀ (n9 : Nat) (h1 : AH) (b : Int) (g : Int), (5 - g).toNat = n9 → (MW t α h0 h1 0 now aside tried undos undoMany saved isSaved accounts way leftOut here text length atp frm token number error errorAt commands command out outLong) → (1 ≤ g ∧ g ≤ 5) → (0 ≤ b ∧ b ≤ 20 * c) → (b = mLeast now g) → V Γ mX5_regret 1 0 0 (Qi (fun x h' => x = now 10 - mLeast now 5 ∧ MW t α h0 h' 0 now aside tried undos undoMany saved isSaved accounts way leftOut here text length atp frm token number error errorAt commands command out outLong)) (NoX) h1 0 0 15 [some (.ref (α 0)), some (vi b), some (vi g)] [] := by
    intro n9
    induction n9 using Nat.strongRecOn with
    | _ n9 ih =>
      intro h1 b g hn9 hM hg hbr hb
      refine v_ild2 (pc := 15) dX5_regret_15 ?_
      refine v_iconst (pc := 16) dX5_regret_16 ?_
      refine v_icmp_ge (pc := 17) (tgt := 53) dX5_regret_17 rfl (by omega) (by omega) (fun c17 => ?_) (fun c17 => ?_)
      · refine v_ald0 (pc := 53) dX5_regret_53 ?_
        refine v_getf KX5 1 (pc := 54) dX5_regret_54 (lw_all_tbl q1995) (Or.inl rfl) (Nat.le_of_ble_eq_true rfl) (mw_obj hM) rfl ?_
        refine v_bipush (pc := 57) dX5_regret_57 ⟨by decide, by decide⟩ ?_
        refine v_ldM_now hM (pc := 59) dX5_regret_59 (by omega) ?_
        refine v_ild1 (pc := 60) dX5_regret_60 ?_
        refine v_isub (pc := 61) dX5_regret_61 ?_
        refine v_ret_n (pc := 62) dX5_regret_62 rfl ?_
        exact qi_ok ⟨by rw [hb, show g = 5 by omega], hM⟩
      · have hl := hR.gL g ⟨by omega, by omega⟩
        refine v_ald0 (pc := 20) dX5_regret_20 ?_
        refine v_getf KX5 1 (pc := 21) dX5_regret_21 (lw_all_tbl q1995) (Or.inl rfl) (Nat.le_of_ble_eq_true rfl) (mw_obj hM) rfl ?_
        refine v_bipush (pc := 24) dX5_regret_24 ⟨by decide, by decide⟩ ?_
        refine v_ild2 (pc := 26) dX5_regret_26 ?_
        refine v_iadd (pc := 27) dX5_regret_27 ?_
        refine v_ldM_now hM (pc := 28) dX5_regret_28 (by omega) ?_
        refine v_ild1 (pc := 29) dX5_regret_29 ?_
        refine v_icmp_ge (pc := 30) (tgt := 45) dX5_regret_30 rfl (by omega) (by omega) (fun c30 => ?_) (fun c30 => ?_)
        · refine v_ild1 (pc := 45) dX5_regret_45 ?_
          refine v_ist1 (pc := 46) dX5_regret_46 rfl ?_
          refine v_iinc2 (pc := 47) dX5_regret_47 rfl ?_
          refine v_goto (pc := 50) (tgt := 15) dX5_regret_50 rfl ?_
          exact ih _ (by omega) _ _ _ rfl hM (by omega) (by omega) (by rw [mLeast_s (by omega), ← hb]; split <;> omega)
        · refine v_ald0 (pc := 33) dX5_regret_33 ?_
          refine v_getf KX5 1 (pc := 34) dX5_regret_34 (lw_all_tbl q1995) (Or.inl rfl) (Nat.le_of_ble_eq_true rfl) (mw_obj hM) rfl ?_
          refine v_bipush (pc := 37) dX5_regret_37 ⟨by decide, by decide⟩ ?_
          refine v_ild2 (pc := 39) dX5_regret_39 ?_
          refine v_iadd (pc := 40) dX5_regret_40 ?_
          refine v_ldM_now hM (pc := 41) dX5_regret_41 (by omega) ?_
          refine v_goto (pc := 42) (tgt := 46) dX5_regret_42 rfl ?_
          refine v_ist1 (pc := 46) dX5_regret_46 rfl ?_
          refine v_iinc2 (pc := 47) dX5_regret_47 rfl ?_
          refine v_goto (pc := 50) (tgt := 15) dX5_regret_50 rfl ?_
          exact ih _ (by omega) _ _ _ rfl hM (by omega) (by omega) (by rw [mLeast_s (by omega), ← hb]; split <;> omega)
  refine v_ald0 (pc := 0) dX5_regret_0 ?_
  refine v_iconst (pc := 1) dX5_regret_1 ?_
  refine v_ptM_thrown hM (pc := 2) dX5_regret_2 (lw_all_tbl q1994) (fun h hM => ?_)
  refine v_ald0 (pc := 5) dX5_regret_5 ?_
  refine v_getf KX5 1 (pc := 6) dX5_regret_6 (lw_all_tbl q1995) (Or.inl rfl) (Nat.le_of_ble_eq_true rfl) (mw_obj hM) rfl ?_
  refine v_bipush (pc := 9) dX5_regret_9 ⟨by decide, by decide⟩ ?_
  refine v_ldM_now hM (pc := 11) dX5_regret_11 (by omega) ?_
  refine v_ist1 (pc := 12) dX5_regret_12 rfl ?_
  refine v_iconst (pc := 13) dX5_regret_13 ?_
  refine v_ist2 (pc := 14) dX5_regret_14 rfl ?_
  exact L15 _ _ _ _ rfl hM (by omega) (by have : (18 : Int) + 0 = 18 := rfl; rw [this] at hl0; omega) (mLeast_1 now).symm
theorem sp_X5_expected {Γ : Cx} {t : Nat} {α : Nat → Nat} {h0 h : AH} {thrown : Int} {now : Int → Int} {aside : Int → Int} {tried : Int → Int} {undos : Int → Int} {undoMany : Int} {saved : Int → Int} {isSaved : Int → Int} {accounts : Int → Int} {way : Int} {leftOut : Int} {here : Int → Int} {text : Int → Int} {length : Int} {atp : Int} {frm : Int} {token : Int} {number : Int} {error : Int} {errorAt : Int} {commands : Int} {command : Int → Int} {out : Int → Int} {outLong : Int} {c : Int} {a b : Int} (hM : MW t α h0 h thrown now aside tried undos undoMany saved isSaved accounts way leftOut here text length atp frm token number error errorAt commands command out outLong) (hR : ROK now c) (ha : -2147483648 ≤ a ∧ a ≤ 2147483647) (hb : -2147483648 ≤ b ∧ b ≤ 2147483647) : Sp Γ yX5_expected mX5_expected 4 0 0 [.ref (α 0), vi a, vi b] h (Qi (fun x h' => x = (if 0 ≤ a ∧ a ≤ b then mExp now a b (now 7) else 0) ∧ MW t α h0 h' ((if 0 ≤ a ∧ a ≤ b then 0 else 1)) now aside tried undos undoMany saved isSaved accounts way leftOut here text length atp frm token number error errorAt commands command out outLong)) NoX := by
  refine sp_of okX5_expected (cat_all rfl) (Nat.le_of_ble_eq_true rfl) rfl ?_
  have h7 := hR.s7
  have hc0 := hR.c0
  have L23 : ∀ (n9 : Nat) (h1 : AH) (th : Int) (n : Int) (u : Int), (now 7 - u).toNat = n9 → (MW t α h0 h1 th now aside tried undos undoMany saved isSaved accounts way leftOut here text length atp frm token number error errorAt commands command out outLong) → (th = if 0 ≤ a ∧ a ≤ b then 0 else 1) → (0 ≤ u ∧ u ≤ now 7 ∧ (th = 0 ∨ u = 0)) → (n = mExp now a b u) → V Γ mX5_expected 4 0 0 (Qi (fun x h' => x = (if 0 ≤ a ∧ a ≤ b then mExp now a b (now 7) else 0) ∧ MW t α h0 h' ((if 0 ≤ a ∧ a ≤ b then 0 else 1)) now aside tried undos undoMany saved isSaved accounts way leftOut here text length atp frm token number error errorAt commands command out outLong)) (NoX) h1 0 0 23 [some (.ref (α 0)), some (vi a), some (vi b), some (vi n), some (vi u)] [] := by
    intro n9
    induction n9 using Nat.strongRecOn with
    | _ n9 ih =>
      intro h1 th n u hn9 hM hth hu hn
      have hth2 : th = 0 ∧ 0 ≤ a ∧ a ≤ b ∨ th = 1 ∧ ¬ (0 ≤ a ∧ a ≤ b) := by split at hth <;> omega
      refine v_ild4 (pc := 23) dX5_expected_23 ?_
      refine v_ald0 (pc := 25) dX5_expected_25 ?_
      refine v_getf KX5 1 (pc := 26) dX5_expected_26 (lw_all_tbl q1995) (Or.inl rfl) (Nat.le_of_ble_eq_true rfl) (mw_obj hM) rfl ?_
      refine v_bipush (pc := 29) dX5_expected_29 ⟨by decide, by decide⟩ ?_
      refine v_ldM_now hM (pc := 31) dX5_expected_31 (by omega) ?_
      refine v_icmp_ge (pc := 32) (tgt := 81) dX5_expected_32 rfl (by omega) (by omega) (fun c32 => ?_) (fun c32 => ?_)
      · refine v_ild3 (pc := 81) dX5_expected_81 ?_
        refine v_ret_n (pc := 82) dX5_expected_82 rfl ?_
        rcases hth2 with q | q
        · first | (exfalso; omega) | exact qi_ok ⟨by rw [hn, if_pos (by omega), show u = now 7 by omega], mw_thr hM hth⟩
        · first | (exfalso; omega) | exact qi_ok ⟨by rw [hn, if_neg (by omega), show u = 0 by omega]; rfl, mw_thr hM hth⟩
      · have hl := hR.uLv u ⟨by omega, by omega⟩
        have hgu := hR.uGu u ⟨by omega, by omega⟩
        refine v_ald0 (pc := 35) dX5_expected_35 ?_
        refine v_getf KX5 0 (pc := 36) dX5_expected_36 (lw_all_tbl q1994) (Or.inl rfl) (Nat.le_of_ble_eq_true rfl) (mw_obj hM) rfl ?_
        refine v_if_ne (pc := 39) (tgt := 81) dX5_expected_39 rfl (by omega) (fun c39 => ?_) (fun c39 => ?_)
        · refine v_ild3 (pc := 81) dX5_expected_81 ?_
          refine v_ret_n (pc := 82) dX5_expected_82 rfl ?_
          rcases hth2 with q | q
          · first | (exfalso; omega) | exact qi_ok ⟨by rw [hn, if_pos (by omega), show u = now 7 by omega], mw_thr hM hth⟩
          · first | (exfalso; omega) | exact qi_ok ⟨by rw [hn, if_neg (by omega), show u = 0 by omega]; rfl, mw_thr hM hth⟩
        · refine v_ild3 (pc := 42) dX5_expected_42 ?_
          refine v_ald0 (pc := 43) dX5_expected_43 ?_
          refine v_ild4 (pc := 44) dX5_expected_44 ?_
          refine v_cb0 (pc := 46) (v_runV1 okX5_lives rfl (sp_X5_lives hM (by omega) (by omega)) dX5_expected_46 (lw_all_tbl q2100) (lw_all_tbl q2102) (lw_all_tbl qs50) rfl (mw_obj hM) (Nat.le_of_ble_eq_true rfl) ⟨Nat.zero_le _, Nat.zero_le _⟩ (Nat.le_of_ble_eq_true rfl)) (fun c46 => ?_) (fun c46 => ?_)
          · refine v_if_eq1 (pc := 49) (tgt := 72) dX5_expected_49 rfl ?_
            refine v_ald0 (pc := 52) dX5_expected_52 ?_
            refine v_ild4 (pc := 53) dX5_expected_53 ?_
            refine v_bipush (pc := 55) dX5_expected_55 ⟨by decide, by decide⟩ ?_
            refine v_ce0 (pc := 57) (v_runV2 okX5_ofUnit rfl (sp_X5_ofUnit hM (by omega) (by omega)) dX5_expected_57 (lw_all_tbl q2104) (lw_all_tbl q2106) (lw_all_tbl qs51) rfl (mw_obj hM) (Nat.le_of_ble_eq_true rfl) ⟨Nat.zero_le _, Nat.zero_le _⟩ (Nat.le_of_ble_eq_true rfl)) ?_
            refine v_ild1 (pc := 60) dX5_expected_60 ?_
            refine v_ild2 (pc := 61) dX5_expected_61 ?_
            refine v_cb0 (pc := 62) (v_runS3 okX5_in rfl (sp_X5_in (by omega) (by omega) (by omega)) dX5_expected_62 (lw_all_tbl q2079) (lw_all_tbl q2080) (Nat.le_of_ble_eq_true rfl) ⟨Nat.zero_le _, Nat.zero_le _⟩ (Nat.le_of_ble_eq_true rfl)) (fun c62 => ?_) (fun c62 => ?_)
            · refine v_if_eq1 (pc := 65) (tgt := 72) dX5_expected_65 rfl ?_
              refine v_iconst (pc := 68) dX5_expected_68 ?_
              refine v_goto (pc := 69) (tgt := 73) dX5_expected_69 rfl ?_
              refine v_iadd (pc := 73) dX5_expected_73 ?_
              refine v_ist3 (pc := 74) dX5_expected_74 rfl ?_
              refine v_iinc4 (pc := 75) dX5_expected_75 rfl ?_
              refine v_goto (pc := 78) (tgt := 23) dX5_expected_78 rfl ?_
              exact ih _ (by omega) _ _ _ _ rfl hM hth (by omega) (by rw [mExp_s (by omega), ← hn]; split <;> omega)
            · refine v_if_eq0 (pc := 65) (tgt := 72) dX5_expected_65 rfl ?_
              refine v_iconst (pc := 72) dX5_expected_72 ?_
              refine v_iadd (pc := 73) dX5_expected_73 ?_
              refine v_ist3 (pc := 74) dX5_expected_74 rfl ?_
              refine v_iinc4 (pc := 75) dX5_expected_75 rfl ?_
              refine v_goto (pc := 78) (tgt := 23) dX5_expected_78 rfl ?_
              exact ih _ (by omega) _ _ _ _ rfl hM hth (by omega) (by rw [mExp_s (by omega), ← hn]; split <;> omega)
          · refine v_if_eq0 (pc := 49) (tgt := 72) dX5_expected_49 rfl ?_
            refine v_iconst (pc := 72) dX5_expected_72 ?_
            refine v_iadd (pc := 73) dX5_expected_73 ?_
            refine v_ist3 (pc := 74) dX5_expected_74 rfl ?_
            refine v_iinc4 (pc := 75) dX5_expected_75 rfl ?_
            refine v_goto (pc := 78) (tgt := 23) dX5_expected_78 rfl ?_
            exact ih _ (by omega) _ _ _ _ rfl hM hth (by omega) (by rw [mExp_s (by omega), ← hn]; split <;> omega)
  refine v_ald0 (pc := 0) dX5_expected_0 ?_
  refine v_ild1 (pc := 1) dX5_expected_1 ?_
  refine v_if_lt (pc := 2) (tgt := 10) dX5_expected_2 rfl (by omega) (fun c2 => ?_) (fun c2 => ?_)
  · refine v_iconst (pc := 10) dX5_expected_10 ?_
    refine v_goto (pc := 11) (tgt := 15) dX5_expected_11 rfl ?_
    refine v_ptM_thrown hM (pc := 15) dX5_expected_15 (lw_all_tbl q1994) (fun h hM => ?_)
    refine v_iconst (pc := 18) dX5_expected_18 ?_
    refine v_ist3 (pc := 19) dX5_expected_19 rfl ?_
    refine v_iconst (pc := 20) dX5_expected_20 ?_
    refine v_ist4 (pc := 21) dX5_expected_21 rfl ?_
    exact L23 _ _ _ _ _ rfl hM (by first | rw [if_pos (by omega)] | rw [if_neg (by omega)]) (by omega) rfl
  · refine v_ild2 (pc := 5) dX5_expected_5 ?_
    refine v_ild1 (pc := 6) dX5_expected_6 ?_
    refine v_icmp_ge (pc := 7) (tgt := 14) dX5_expected_7 rfl (by omega) (by omega) (fun c7 => ?_) (fun c7 => ?_)
    · refine v_iconst (pc := 14) dX5_expected_14 ?_
      refine v_ptM_thrown hM (pc := 15) dX5_expected_15 (lw_all_tbl q1994) (fun h hM => ?_)
      refine v_iconst (pc := 18) dX5_expected_18 ?_
      refine v_ist3 (pc := 19) dX5_expected_19 rfl ?_
      refine v_iconst (pc := 20) dX5_expected_20 ?_
      refine v_ist4 (pc := 21) dX5_expected_21 rfl ?_
      exact L23 _ _ _ _ _ rfl hM (by first | rw [if_pos (by omega)] | rw [if_neg (by omega)]) (by omega) rfl
    · refine v_iconst (pc := 10) dX5_expected_10 ?_
      refine v_goto (pc := 11) (tgt := 15) dX5_expected_11 rfl ?_
      refine v_ptM_thrown hM (pc := 15) dX5_expected_15 (lw_all_tbl q1994) (fun h hM => ?_)
      refine v_iconst (pc := 18) dX5_expected_18 ?_
      refine v_ist3 (pc := 19) dX5_expected_19 rfl ?_
      refine v_iconst (pc := 20) dX5_expected_20 ?_
      refine v_ist4 (pc := 21) dX5_expected_21 rfl ?_
      exact L23 _ _ _ _ _ rfl hM (by first | rw [if_pos (by omega)] | rw [if_neg (by omega)]) (by omega) rfl
theorem sp_X5_bin {Γ : Cx} {t : Nat} {α : Nat → Nat} {h0 h : AH} {thrown : Int} {now : Int → Int} {aside : Int → Int} {tried : Int → Int} {undos : Int → Int} {undoMany : Int} {saved : Int → Int} {isSaved : Int → Int} {accounts : Int → Int} {way : Int} {leftOut : Int} {here : Int → Int} {text : Int → Int} {length : Int} {atp : Int} {frm : Int} {token : Int} {number : Int} {error : Int} {errorAt : Int} {commands : Int} {command : Int → Int} {out : Int → Int} {outLong : Int} {c : Int} {g i : Int} (hM : MW t α h0 h thrown now aside tried undos undoMany saved isSaved accounts way leftOut here text length atp frm token number error errorAt commands command out outLong) (hR : ROK now c) (hg : -2147483648 ≤ g ∧ g ≤ 2147483647) (hi : -2147483648 ≤ i ∧ i ≤ 2147483647) : Sp Γ yX5_bin mX5_bin 4 0 0 [.ref (α 0), vi g, vi i] h (Qi (fun x h' => x = (if (0 ≤ g ∧ g ≤ 4) ∧ 0 ≤ i ∧ i ≤ 5 then mBins now g i (now 7) else 0) ∧ MW t α h0 h' ((if (0 ≤ g ∧ g ≤ 4) ∧ 0 ≤ i ∧ i ≤ 5 then 0 else 1)) now aside tried undos undoMany saved isSaved accounts way leftOut here text length atp frm token number error errorAt commands command out outLong)) NoX := by
  refine sp_of okX5_bin (cat_all rfl) (Nat.le_of_ble_eq_true rfl) rfl ?_
  have h7 := hR.s7
  have hc0 := hR.c0
  have L30 : ∀ (n9 : Nat) (h1 : AH) (th : Int) (n : Int) (u : Int), (now 7 - u).toNat = n9 → (MW t α h0 h1 th now aside tried undos undoMany saved isSaved accounts way leftOut here text length atp frm token number error errorAt commands command out outLong) → (th = if (0 ≤ g ∧ g ≤ 4) ∧ 0 ≤ i ∧ i ≤ 5 then 0 else 1) → (0 ≤ u ∧ u ≤ now 7 ∧ (th = 0 ∨ u = 0)) → (n = mBins now g i u) → V Γ mX5_bin 4 0 0 (Qi (fun x h' => x = (if (0 ≤ g ∧ g ≤ 4) ∧ 0 ≤ i ∧ i ≤ 5 then mBins now g i (now 7) else 0) ∧ MW t α h0 h' ((if (0 ≤ g ∧ g ≤ 4) ∧ 0 ≤ i ∧ i ≤ 5 then 0 else 1)) now aside tried undos undoMany saved isSaved accounts way leftOut here text length atp frm token number error errorAt commands command out outLong)) (NoX) h1 0 0 30 [some (.ref (α 0)), some (vi g), some (vi i), some (vi n), some (vi u)] [] := by
    intro n9
    induction n9 using Nat.strongRecOn with
    | _ n9 ih =>
      intro h1 th n u hn9 hM hth hu hn
      have hth2 : th = 0 ∧ ((0 ≤ g ∧ g ≤ 4) ∧ 0 ≤ i ∧ i ≤ 5) ∨ th = 1 ∧ ¬ ((0 ≤ g ∧ g ≤ 4) ∧ 0 ≤ i ∧ i ≤ 5) := by split at hth <;> omega
      refine v_ild4 (pc := 30) dX5_bin_30 ?_
      refine v_ald0 (pc := 32) dX5_bin_32 ?_
      refine v_getf KX5 1 (pc := 33) dX5_bin_33 (lw_all_tbl q1995) (Or.inl rfl) (Nat.le_of_ble_eq_true rfl) (mw_obj hM) rfl ?_
      refine v_bipush (pc := 36) dX5_bin_36 ⟨by decide, by decide⟩ ?_
      refine v_ldM_now hM (pc := 38) dX5_bin_38 (by omega) ?_
      refine v_icmp_ge (pc := 39) (tgt := 86) dX5_bin_39 rfl (by omega) (by omega) (fun c39 => ?_) (fun c39 => ?_)
      · refine v_ild3 (pc := 86) dX5_bin_86 ?_
        refine v_ret_n (pc := 87) dX5_bin_87 rfl ?_
        rcases hth2 with q | q
        · first | (exfalso; omega) | exact qi_ok ⟨by rw [hn, if_pos (by omega), show u = now 7 by omega], mw_thr hM hth⟩
        · first | (exfalso; omega) | exact qi_ok ⟨by rw [hn, if_neg (by omega), show u = 0 by omega]; rfl, mw_thr hM hth⟩
      · refine v_ald0 (pc := 42) dX5_bin_42 ?_
        refine v_getf KX5 0 (pc := 43) dX5_bin_43 (lw_all_tbl q1994) (Or.inl rfl) (Nat.le_of_ble_eq_true rfl) (mw_obj hM) rfl ?_
        refine v_if_ne (pc := 46) (tgt := 86) dX5_bin_46 rfl (by omega) (fun c46 => ?_) (fun c46 => ?_)
        · refine v_ild3 (pc := 86) dX5_bin_86 ?_
          refine v_ret_n (pc := 87) dX5_bin_87 rfl ?_
          rcases hth2 with q | q
          · first | (exfalso; omega) | exact qi_ok ⟨by rw [hn, if_pos (by omega), show u = now 7 by omega], mw_thr hM hth⟩
          · first | (exfalso; omega) | exact qi_ok ⟨by rw [hn, if_neg (by omega), show u = 0 by omega]; rfl, mw_thr hM hth⟩
        · have hl := hR.uLv u ⟨by omega, by omega⟩
          have hli := hR.uLi u ⟨by omega, by omega⟩
          have ht := hR.t u g ⟨by omega, by omega⟩ ⟨by omega, by omega⟩
          have hlo := mLoss_r now u g
          have hbi := mBin_r (mLoss now u g)
          refine v_ild3 (pc := 49) dX5_bin_49 ?_
          refine v_ald0 (pc := 50) dX5_bin_50 ?_
          refine v_ild4 (pc := 51) dX5_bin_51 ?_
          refine v_cb0 (pc := 53) (v_runV1 okX5_lives rfl (sp_X5_lives hM (by omega) (by omega)) dX5_bin_53 (lw_all_tbl q2100) (lw_all_tbl q2102) (lw_all_tbl qs50) rfl (mw_obj hM) (Nat.le_of_ble_eq_true rfl) ⟨Nat.zero_le _, Nat.zero_le _⟩ (Nat.le_of_ble_eq_true rfl)) (fun c53 => ?_) (fun c53 => ?_)
          · refine v_if_ne1 (pc := 56) (tgt := 77) dX5_bin_56 rfl ?_
            refine v_iconst (pc := 77) dX5_bin_77 ?_
            refine v_iadd (pc := 78) dX5_bin_78 ?_
            refine v_ist3 (pc := 79) dX5_bin_79 rfl ?_
            refine v_iinc4 (pc := 80) dX5_bin_80 rfl ?_
            refine v_goto (pc := 83) (tgt := 30) dX5_bin_83 rfl ?_
            exact ih _ (by omega) _ _ _ _ rfl hM hth (by omega) (by rw [mBins_s (by omega), ← hn]; split <;> omega)
          · refine v_if_ne0 (pc := 56) (tgt := 77) dX5_bin_56 rfl ?_
            refine v_ald0 (pc := 59) dX5_bin_59 ?_
            refine v_ild4 (pc := 60) dX5_bin_60 ?_
            refine v_ild1 (pc := 62) dX5_bin_62 ?_
            refine v_ce0 (pc := 63) (v_runV2 okX5_lossOf rfl (sp_X5_lossOf hM (by omega) (by omega) (by omega) (by omega)) dX5_bin_63 (lw_all_tbl q2217) (lw_all_tbl q2219) (lw_all_tbl qs67) rfl (mw_obj hM) (Nat.le_of_ble_eq_true rfl) ⟨Nat.zero_le _, Nat.zero_le _⟩ (Nat.le_of_ble_eq_true rfl)) ?_
            refine v_ce0 (pc := 66) (v_runS1 okX5_binOf rfl (sp_X5_binOf (by omega)) dX5_bin_66 (lw_all_tbl q2340) (lw_all_tbl q2341) (Nat.le_of_ble_eq_true rfl) ⟨Nat.zero_le _, Nat.zero_le _⟩ (Nat.le_of_ble_eq_true rfl)) ?_
            refine v_ild2 (pc := 69) dX5_bin_69 ?_
            refine v_icmp_ne (pc := 70) (tgt := 77) dX5_bin_70 rfl (by omega) (by omega) (fun c70 => ?_) (fun c70 => ?_)
            · refine v_iconst (pc := 77) dX5_bin_77 ?_
              refine v_iadd (pc := 78) dX5_bin_78 ?_
              refine v_ist3 (pc := 79) dX5_bin_79 rfl ?_
              refine v_iinc4 (pc := 80) dX5_bin_80 rfl ?_
              refine v_goto (pc := 83) (tgt := 30) dX5_bin_83 rfl ?_
              exact ih _ (by omega) _ _ _ _ rfl hM hth (by omega) (by rw [mBins_s (by omega), ← hn]; split <;> omega)
            · refine v_iconst (pc := 73) dX5_bin_73 ?_
              refine v_goto (pc := 74) (tgt := 78) dX5_bin_74 rfl ?_
              refine v_iadd (pc := 78) dX5_bin_78 ?_
              refine v_ist3 (pc := 79) dX5_bin_79 rfl ?_
              refine v_iinc4 (pc := 80) dX5_bin_80 rfl ?_
              refine v_goto (pc := 83) (tgt := 30) dX5_bin_83 rfl ?_
              exact ih _ (by omega) _ _ _ _ rfl hM hth (by omega) (by rw [mBins_s (by omega), ← hn]; split <;> omega)
  refine v_ald0 (pc := 0) dX5_bin_0 ?_
  refine v_ild1 (pc := 1) dX5_bin_1 ?_
  refine v_cb0 (pc := 2) (v_runS1 okX5_isGuesser rfl (sp_X5_isGuesser (by omega)) dX5_bin_2 (lw_all_tbl q2167) (lw_all_tbl q2168) (Nat.le_of_ble_eq_true rfl) ⟨Nat.zero_le _, Nat.zero_le _⟩ (Nat.le_of_ble_eq_true rfl)) (fun c2 => ?_) (fun c2 => ?_)
  · refine v_if_eq1 (pc := 5) (tgt := 21) dX5_bin_5 rfl ?_
    refine v_ild2 (pc := 8) dX5_bin_8 ?_
    refine v_iconst (pc := 9) dX5_bin_9 ?_
    refine v_iconst (pc := 10) dX5_bin_10 ?_
    refine v_cb0 (pc := 11) (v_runS3 okX5_in rfl (sp_X5_in (by omega) (by omega) (by omega)) dX5_bin_11 (lw_all_tbl q2079) (lw_all_tbl q2080) (Nat.le_of_ble_eq_true rfl) ⟨Nat.zero_le _, Nat.zero_le _⟩ (Nat.le_of_ble_eq_true rfl)) (fun c11 => ?_) (fun c11 => ?_)
    · refine v_if_eq1 (pc := 14) (tgt := 21) dX5_bin_14 rfl ?_
      refine v_iconst (pc := 17) dX5_bin_17 ?_
      refine v_goto (pc := 18) (tgt := 22) dX5_bin_18 rfl ?_
      refine v_ptM_thrown hM (pc := 22) dX5_bin_22 (lw_all_tbl q1994) (fun h hM => ?_)
      refine v_iconst (pc := 25) dX5_bin_25 ?_
      refine v_ist3 (pc := 26) dX5_bin_26 rfl ?_
      refine v_iconst (pc := 27) dX5_bin_27 ?_
      refine v_ist4 (pc := 28) dX5_bin_28 rfl ?_
      exact L30 _ _ _ _ _ rfl hM (by first | rw [if_pos (by omega)] | rw [if_neg (by omega)]) (by omega) rfl
    · refine v_if_eq0 (pc := 14) (tgt := 21) dX5_bin_14 rfl ?_
      refine v_iconst (pc := 21) dX5_bin_21 ?_
      refine v_ptM_thrown hM (pc := 22) dX5_bin_22 (lw_all_tbl q1994) (fun h hM => ?_)
      refine v_iconst (pc := 25) dX5_bin_25 ?_
      refine v_ist3 (pc := 26) dX5_bin_26 rfl ?_
      refine v_iconst (pc := 27) dX5_bin_27 ?_
      refine v_ist4 (pc := 28) dX5_bin_28 rfl ?_
      exact L30 _ _ _ _ _ rfl hM (by first | rw [if_pos (by omega)] | rw [if_neg (by omega)]) (by omega) rfl
  · refine v_if_eq0 (pc := 5) (tgt := 21) dX5_bin_5 rfl ?_
    refine v_iconst (pc := 21) dX5_bin_21 ?_
    refine v_ptM_thrown hM (pc := 22) dX5_bin_22 (lw_all_tbl q1994) (fun h hM => ?_)
    refine v_iconst (pc := 25) dX5_bin_25 ?_
    refine v_ist3 (pc := 26) dX5_bin_26 rfl ?_
    refine v_iconst (pc := 27) dX5_bin_27 ?_
    refine v_ist4 (pc := 28) dX5_bin_28 rfl ?_
    exact L30 _ _ _ _ _ rfl hM (by first | rw [if_pos (by omega)] | rw [if_neg (by omega)]) (by omega) rfl
theorem sp_X5_nextFate {Γ : Cx} {t : Nat} {α : Nat → Nat} {h0 h : AH} {thrown : Int} {now : Int → Int} {aside : Int → Int} {tried : Int → Int} {undos : Int → Int} {undoMany : Int} {saved : Int → Int} {isSaved : Int → Int} {accounts : Int → Int} {way : Int} {leftOut : Int} {here : Int → Int} {text : Int → Int} {length : Int} {atp : Int} {frm : Int} {token : Int} {number : Int} {error : Int} {errorAt : Int} {commands : Int} {command : Int → Int} {out : Int → Int} {outLong : Int} {c : Int}  (hM : MW t α h0 h thrown now aside tried undos undoMany saved isSaved accounts way leftOut here text length atp frm token number error errorAt commands command out outLong) (hR : ROK now c) : Sp Γ yX5_nextFate mX5_nextFate 4 0 0 [.ref (α 0)] h (Qi (fun x h' => x = mNext now (now 7) ∧ MW t α h0 h' 0 now aside tried undos undoMany saved isSaved accounts way leftOut here text length atp frm token number error errorAt commands command out outLong)) NoX := by
  refine sp_of okX5_nextFate (cat_all rfl) (Nat.le_of_ble_eq_true rfl) rfl ?_
  have h7 := hR.s7
  have hc0 := hR.c0
  have h6 := hR.s6
  have L9 : ∀ (n9 : Nat) (h1 : AH) (n : Int) (u : Int), (now 7 - u).toNat = n9 → (MW t α h0 h1 0 now aside tried undos undoMany saved isSaved accounts way leftOut here text length atp frm token number error errorAt commands command out outLong) → (0 ≤ u ∧ u ≤ now 7) → (-1 ≤ n ∧ n ≤ 20000000) → (n = mNext now u) → V Γ mX5_nextFate 4 0 0 (Qi (fun x h' => x = mNext now (now 7) ∧ MW t α h0 h' 0 now aside tried undos undoMany saved isSaved accounts way leftOut here text length atp frm token number error errorAt commands command out outLong)) (NoX) h1 0 0 9 [some (.ref (α 0)), some (vi n), some (vi u), none, none] [] := by
    intro n9
    induction n9 using Nat.strongRecOn with
    | _ n9 ih =>
      intro h1 n u hn9 hM hu hnr hn
      refine v_ild2 (pc := 9) dX5_nextFate_9 ?_
      refine v_ald0 (pc := 10) dX5_nextFate_10 ?_
      refine v_getf KX5 1 (pc := 11) dX5_nextFate_11 (lw_all_tbl q1995) (Or.inl rfl) (Nat.le_of_ble_eq_true rfl) (mw_obj hM) rfl ?_
      refine v_bipush (pc := 14) dX5_nextFate_14 ⟨by decide, by decide⟩ ?_
      refine v_ldM_now hM (pc := 16) dX5_nextFate_16 (by omega) ?_
      refine v_icmp_ge (pc := 17) (tgt := 85) dX5_nextFate_17 rfl (by omega) (by omega) (fun c17 => ?_) (fun c17 => ?_)
      · refine v_ild1 (pc := 85) dX5_nextFate_85 ?_
        refine v_ret_n (pc := 86) dX5_nextFate_86 rfl ?_
        exact qi_ok ⟨by rw [hn, show u = now 7 by omega], hM⟩
      · have hl := hR.uLv u ⟨by omega, by omega⟩
        have hfa := hR.uFa u ⟨by omega, by omega⟩
        have hwt := hR.uWt u ⟨by omega, by omega⟩
        refine v_ald0 (pc := 20) dX5_nextFate_20 ?_
        refine v_ild2 (pc := 21) dX5_nextFate_21 ?_
        refine v_iconst (pc := 22) dX5_nextFate_22 ?_
        refine v_ce0 (pc := 23) (v_runV2 okX5_ofUnit rfl (sp_X5_ofUnit hM (by omega) (by omega)) dX5_nextFate_23 (lw_all_tbl q2104) (lw_all_tbl q2106) (lw_all_tbl qs51) rfl (mw_obj hM) (Nat.le_of_ble_eq_true rfl) ⟨Nat.zero_le _, Nat.zero_le _⟩ (Nat.le_of_ble_eq_true rfl)) ?_
        refine v_ald0 (pc := 26) dX5_nextFate_26 ?_
        refine v_ild2 (pc := 27) dX5_nextFate_27 ?_
        refine v_iconst (pc := 28) dX5_nextFate_28 ?_
        refine v_ce0 (pc := 29) (v_runV2 okX5_ofUnit rfl (sp_X5_ofUnit hM (by omega) (by omega)) dX5_nextFate_29 (lw_all_tbl q2104) (lw_all_tbl q2106) (lw_all_tbl qs51) rfl (mw_obj hM) (Nat.le_of_ble_eq_true rfl) ⟨Nat.zero_le _, Nat.zero_le _⟩ (Nat.le_of_ble_eq_true rfl)) ?_
        refine v_iadd (pc := 32) dX5_nextFate_32 ?_
        refine v_ist3 (pc := 33) dX5_nextFate_33 rfl ?_
        refine v_ald0 (pc := 34) dX5_nextFate_34 ?_
        refine v_ild2 (pc := 35) dX5_nextFate_35 ?_
        refine v_cb0 (pc := 36) (v_runV1 okX5_lives rfl (sp_X5_lives hM (by omega) (by omega)) dX5_nextFate_36 (lw_all_tbl q2100) (lw_all_tbl q2102) (lw_all_tbl qs50) rfl (mw_obj hM) (Nat.le_of_ble_eq_true rfl) ⟨Nat.zero_le _, Nat.zero_le _⟩ (Nat.le_of_ble_eq_true rfl)) (fun c36 => ?_) (fun c36 => ?_)
        · refine v_if_eq1 (pc := 39) (tgt := 55) dX5_nextFate_39 rfl ?_
          refine v_ald0 (pc := 42) dX5_nextFate_42 ?_
          refine v_ild2 (pc := 43) dX5_nextFate_43 ?_
          refine v_iconst (pc := 44) dX5_nextFate_44 ?_
          refine v_ce0 (pc := 45) (v_runV2 okX5_ofUnit rfl (sp_X5_ofUnit hM (by omega) (by omega)) dX5_nextFate_45 (lw_all_tbl q2104) (lw_all_tbl q2106) (lw_all_tbl qs51) rfl (mw_obj hM) (Nat.le_of_ble_eq_true rfl) ⟨Nat.zero_le _, Nat.zero_le _⟩ (Nat.le_of_ble_eq_true rfl)) ?_
          refine v_if_le (pc := 48) (tgt := 55) dX5_nextFate_48 rfl (by omega) (fun c48 => ?_) (fun c48 => ?_)
          · refine v_iconst (pc := 55) dX5_nextFate_55 ?_
            refine v_ist4 (pc := 56) dX5_nextFate_56 rfl ?_
            refine v_ild4 (pc := 58) dX5_nextFate_58 ?_
            refine v_if_eq0 (pc := 60) (tgt := 77) dX5_nextFate_60 rfl ?_
            refine v_ild1 (pc := 77) dX5_nextFate_77 ?_
            refine v_ist1 (pc := 78) dX5_nextFate_78 rfl ?_
            refine v_iinc2 (pc := 79) dX5_nextFate_79 rfl ?_
            refine v_goto (pc := 82) (tgt := 9) dX5_nextFate_82 rfl ?_
            refine v_forget 3 ?_
            refine v_forget 4 ?_
            exact ih _ (by omega) _ _ _ rfl hM (by omega) (by omega) (by rw [mNext_s (by omega), ← hn]; split <;> omega)
          · refine v_iconst (pc := 51) dX5_nextFate_51 ?_
            refine v_goto (pc := 52) (tgt := 56) dX5_nextFate_52 rfl ?_
            refine v_ist4 (pc := 56) dX5_nextFate_56 rfl ?_
            refine v_ild4 (pc := 58) dX5_nextFate_58 ?_
            refine v_if_eq1 (pc := 60) (tgt := 77) dX5_nextFate_60 rfl ?_
            refine v_ild1 (pc := 63) dX5_nextFate_63 ?_
            refine v_iconst (pc := 64) dX5_nextFate_64 ?_
            refine v_icmp_eq (pc := 65) (tgt := 73) dX5_nextFate_65 rfl (by omega) (by omega) (fun c65 => ?_) (fun c65 => ?_)
            · refine v_ild3 (pc := 73) dX5_nextFate_73 ?_
              refine v_goto (pc := 74) (tgt := 78) dX5_nextFate_74 rfl ?_
              refine v_ist1 (pc := 78) dX5_nextFate_78 rfl ?_
              refine v_iinc2 (pc := 79) dX5_nextFate_79 rfl ?_
              refine v_goto (pc := 82) (tgt := 9) dX5_nextFate_82 rfl ?_
              refine v_forget 3 ?_
              refine v_forget 4 ?_
              exact ih _ (by omega) _ _ _ rfl hM (by omega) (by omega) (by rw [mNext_s (by omega), ← hn]; split <;> omega)
            · refine v_ild3 (pc := 68) dX5_nextFate_68 ?_
              refine v_ild1 (pc := 69) dX5_nextFate_69 ?_
              refine v_icmp_ge (pc := 70) (tgt := 77) dX5_nextFate_70 rfl (by omega) (by omega) (fun c70 => ?_) (fun c70 => ?_)
              · refine v_ild1 (pc := 77) dX5_nextFate_77 ?_
                refine v_ist1 (pc := 78) dX5_nextFate_78 rfl ?_
                refine v_iinc2 (pc := 79) dX5_nextFate_79 rfl ?_
                refine v_goto (pc := 82) (tgt := 9) dX5_nextFate_82 rfl ?_
                refine v_forget 3 ?_
                refine v_forget 4 ?_
                exact ih _ (by omega) _ _ _ rfl hM (by omega) (by omega) (by rw [mNext_s (by omega), ← hn]; split <;> omega)
              · refine v_ild3 (pc := 73) dX5_nextFate_73 ?_
                refine v_goto (pc := 74) (tgt := 78) dX5_nextFate_74 rfl ?_
                refine v_ist1 (pc := 78) dX5_nextFate_78 rfl ?_
                refine v_iinc2 (pc := 79) dX5_nextFate_79 rfl ?_
                refine v_goto (pc := 82) (tgt := 9) dX5_nextFate_82 rfl ?_
                refine v_forget 3 ?_
                refine v_forget 4 ?_
                exact ih _ (by omega) _ _ _ rfl hM (by omega) (by omega) (by rw [mNext_s (by omega), ← hn]; split <;> omega)
        · refine v_if_eq0 (pc := 39) (tgt := 55) dX5_nextFate_39 rfl ?_
          refine v_iconst (pc := 55) dX5_nextFate_55 ?_
          refine v_ist4 (pc := 56) dX5_nextFate_56 rfl ?_
          refine v_ild4 (pc := 58) dX5_nextFate_58 ?_
          refine v_if_eq0 (pc := 60) (tgt := 77) dX5_nextFate_60 rfl ?_
          refine v_ild1 (pc := 77) dX5_nextFate_77 ?_
          refine v_ist1 (pc := 78) dX5_nextFate_78 rfl ?_
          refine v_iinc2 (pc := 79) dX5_nextFate_79 rfl ?_
          refine v_goto (pc := 82) (tgt := 9) dX5_nextFate_82 rfl ?_
          refine v_forget 3 ?_
          refine v_forget 4 ?_
          exact ih _ (by omega) _ _ _ rfl hM (by omega) (by omega) (by rw [mNext_s (by omega), ← hn]; split <;> omega)
  refine v_ald0 (pc := 0) dX5_nextFate_0 ?_
  refine v_iconst (pc := 1) dX5_nextFate_1 ?_
  refine v_ptM_thrown hM (pc := 2) dX5_nextFate_2 (lw_all_tbl q1994) (fun h hM => ?_)
  refine v_iconst (pc := 5) dX5_nextFate_5 ?_
  refine v_ist1 (pc := 6) dX5_nextFate_6 rfl ?_
  refine v_iconst (pc := 7) dX5_nextFate_7 ?_
  refine v_ist2 (pc := 8) dX5_nextFate_8 rfl ?_
  exact L9 _ _ _ _ rfl hM (by omega) (by omega) rfl
