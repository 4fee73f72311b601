/-! FlashZonesModel: walks, 13 (printed by gen) -/
set_option maxRecDepth 100000
theorem sp_X5_better {Γ : Cx} {t : Nat} {α : Nat → Nat} {h0 h : AH} {thrown : Int} {now : Int → Int} {aside : Int → Int} {tried : Int → Int} {undos : Int → Int} {undoMany : Int} {saved : Int → Int} {isSaved : Int → Int} {accounts : Int → Int} {way : Int} {leftOut : Int} {here : Int → Int} {text : Int → Int} {length : Int} {atp : Int} {frm : Int} {token : Int} {number : Int} {error : Int} {errorAt : Int} {commands : Int} {command : Int → Int} {out : Int → Int} {outLong : Int} {c : Int} {a b : Int} (hM : MW t α h0 h thrown now aside tried undos undoMany saved isSaved accounts way leftOut here text length atp frm token number error errorAt commands command out outLong) (hR : ROK now c) (hS : Sup aside) (hH : HOK now) (ha : -2147483648 ≤ a ∧ a ≤ 2147483647) (hb : -2147483648 ≤ b ∧ b ≤ 2147483647) (hw5 : way = 5) : Sp Γ yX5_better mX5_better 11 0 0 [.ref (α 0), vi a, vi b] h (Qi (fun x h' => x = (if (0 ≤ a ∧ a ≤ 6) ∧ 0 ≤ b ∧ b ≤ 6 then mBetter now a b else 0) ∧ ∃ tr he as lo, Sup as ∧ MW t α h0 h' ((if (0 ≤ a ∧ a ≤ 6) ∧ 0 ≤ b ∧ b ≤ 6 then 0 else 1)) now as tr undos undoMany saved isSaved accounts way lo he text length atp frm token number error errorAt commands command out outLong)) NoX := by
  refine sp_of okX5_better (cat_all rfl) (Nat.le_of_ble_eq_true rfl) rfl ?_
  have h11 := hR.s11
  refine v_ald0 (pc := 0) dX5_better_0 ?_
  refine v_ild1 (pc := 1) dX5_better_1 ?_
  refine v_iconst (pc := 2) dX5_better_2 ?_
  refine v_bipush (pc := 3) dX5_better_3 ⟨by decide, by decide⟩ ?_
  refine v_cb0 (pc := 5) (v_runS3 okX5_in rfl (sp_X5_in (by omega) (by omega) (by omega)) dX5_better_5 (lw_all_tbl q2079) (lw_all_tbl q2080) (Nat.le_of_ble_eq_true rfl) ⟨Nat.zero_le _, Nat.zero_le _⟩ (Nat.le_of_ble_eq_true rfl)) (fun c5 => ?_) (fun c5 => ?_)
  · refine v_if_eq1 (pc := 8) (tgt := 25) dX5_better_8 rfl ?_
    refine v_ild2 (pc := 11) dX5_better_11 ?_
    refine v_iconst (pc := 12) dX5_better_12 ?_
    refine v_bipush (pc := 13) dX5_better_13 ⟨by decide, by decide⟩ ?_
    refine v_cb0 (pc := 15) (v_runS3 okX5_in rfl (sp_X5_in (by omega) (by omega) (by omega)) dX5_better_15 (lw_all_tbl q2079) (lw_all_tbl q2080) (Nat.le_of_ble_eq_true rfl) ⟨Nat.zero_le _, Nat.zero_le _⟩ (Nat.le_of_ble_eq_true rfl)) (fun c15 => ?_) (fun c15 => ?_)
    · refine v_if_eq1 (pc := 18) (tgt := 25) dX5_better_18 rfl ?_
      refine v_iconst (pc := 21) dX5_better_21 ?_
      refine v_goto (pc := 22) (tgt := 26) dX5_better_22 rfl ?_
      refine v_ptM_thrown hM (pc := 26) dX5_better_26 (lw_all_tbl q1994) (fun h hM => ?_)
      refine v_ald0 (pc := 29) dX5_better_29 ?_
      refine v_getf KX5 0 (pc := 30) dX5_better_30 (lw_all_tbl q1994) (Or.inl rfl) (Nat.le_of_ble_eq_true rfl) (mw_obj hM) rfl ?_
      refine v_if_le (pc := 33) (tgt := 38) dX5_better_33 rfl (by omega) (fun _ => ?_) (fun c => absurd c (by decide))
      refine v_ald0 (pc := 38) dX5_better_38 ?_
      refine v_ild1 (pc := 39) dX5_better_39 ?_
      refine v_cv0 (pc := 40) (v_runV1 okX5_livesAnew rfl (sp_livesAnew hM (by omega) (by omega) (by omega) (by omega)) dX5_better_40 (lw_all_tbl q2249) (lw_all_tbl q2251) (lw_all_tbl qs68) rfl (mw_obj hM) (Nat.le_of_ble_eq_true rfl) ⟨Nat.zero_le _, Nat.zero_le _⟩ (Nat.le_of_ble_eq_true rfl)) (fun h ⟨tried, here, hM⟩ => ?_)
      have hA := mLz_ok (way := a) hR (by omega) hH
      have hB := mLz_ok (way := b) hR (by omega) hH
      have a8 := hA.s8
      have a9 := hA.s9
      have b8 := hB.s8
      have b9 := hB.s9
      have al := mLz_left (A := now) (way := a) (by omega)
      have bl := mLz_left (A := now) (way := b) (by omega)
      refine v_ald0 (pc := 43) dX5_better_43 ?_
      refine v_getf KX5 1 (pc := 44) dX5_better_44 (lw_all_tbl q1995) (Or.inl rfl) (Nat.le_of_ble_eq_true rfl) (mw_obj hM) rfl ?_
      refine v_bipush (pc := 47) dX5_better_47 ⟨by decide, by decide⟩ ?_
      refine v_ldM_now hM (pc := 49) dX5_better_49 (by omega) ?_
      refine v_ist3 (pc := 50) dX5_better_50 rfl ?_
      refine v_ald0 (pc := 51) dX5_better_51 ?_
      refine v_getf KX5 1 (pc := 52) dX5_better_52 (lw_all_tbl q1995) (Or.inl rfl) (Nat.le_of_ble_eq_true rfl) (mw_obj hM) rfl ?_
      refine v_bipush (pc := 55) dX5_better_55 ⟨by decide, by decide⟩ ?_
      refine v_ldM_now hM (pc := 57) dX5_better_57 (by omega) ?_
      refine v_ist4 (pc := 58) dX5_better_58 rfl ?_
      refine v_ald0 (pc := 60) dX5_better_60 ?_
      refine v_getf KX5 10 (pc := 61) dX5_better_61 (lw_all_tbl q2004) (Or.inl rfl) (Nat.le_of_ble_eq_true rfl) (mw_obj hM) rfl ?_
      refine v_ist5 (pc := 64) dX5_better_64 rfl ?_
      refine v_ald0 (pc := 66) dX5_better_66 ?_
      refine v_getf KX5 2 (pc := 67) dX5_better_67 (lw_all_tbl q1996) (Or.inl rfl) (Nat.le_of_ble_eq_true rfl) (mw_obj hM) rfl ?_
      refine v_iconst (pc := 70) dX5_better_70 ?_
      refine v_ald0 (pc := 71) dX5_better_71 ?_
      refine v_getf KX5 1 (pc := 72) dX5_better_72 (lw_all_tbl q1995) (Or.inl rfl) (Nat.le_of_ble_eq_true rfl) (mw_obj hM) rfl ?_
      refine v_iconst (pc := 75) dX5_better_75 ?_
      refine v_cv0 (pc := 76) (v_runS4 okX5_copies rfl (sp_cp_aside_now hM) dX5_better_76 (lw_all_tbl q2253) (lw_all_tbl q2254) (Nat.le_of_ble_eq_true rfl) ⟨Nat.zero_le _, Nat.zero_le _⟩ (Nat.le_of_ble_eq_true rfl)) (fun h hM => ?_)
      rw [cpy_all hR.sup (mLz_ok hR (by omega) hH).sup] at hM
      refine v_ald0 (pc := 79) dX5_better_79 ?_
      refine v_ild2 (pc := 80) dX5_better_80 ?_
      refine v_cv0 (pc := 81) (v_runV1 okX5_livesAnew rfl (sp_livesAnew hM (by omega) hR.sup (by omega) (by omega)) dX5_better_81 (lw_all_tbl q2249) (lw_all_tbl q2251) (lw_all_tbl qs68) rfl (mw_obj hM) (Nat.le_of_ble_eq_true rfl) ⟨Nat.zero_le _, Nat.zero_le _⟩ (Nat.le_of_ble_eq_true rfl)) (fun h ⟨tried, here, hM⟩ => ?_)
      refine v_ald0 (pc := 84) dX5_better_84 ?_
      refine v_getf KX5 1 (pc := 85) dX5_better_85 (lw_all_tbl q1995) (Or.inl rfl) (Nat.le_of_ble_eq_true rfl) (mw_obj hM) rfl ?_
      refine v_bipush (pc := 88) dX5_better_88 ⟨by decide, by decide⟩ ?_
      refine v_ldM_now hM (pc := 90) dX5_better_90 (by omega) ?_
      refine v_ild3 (pc := 91) dX5_better_91 ?_
      refine v_isub (pc := 92) dX5_better_92 ?_
      refine v_ist6 (pc := 93) dX5_better_93 rfl ?_
      refine v_ild6 (pc := 95) dX5_better_95 ?_
      refine v_if_ne (pc := 97) (tgt := 113) dX5_better_97 rfl (by omega) (fun c97 => ?_) (fun c97 => ?_)
      · refine v_ild6 (pc := 113) dX5_better_113 ?_
        refine v_ist6 (pc := 115) dX5_better_115 rfl ?_
        refine v_ild6 (pc := 117) dX5_better_117 ?_
        refine v_if_ne (pc := 119) (tgt := 132) dX5_better_119 rfl (by omega) (fun c119 => ?_) (fun c119 => ?_)
        · refine v_ild6 (pc := 132) dX5_better_132 ?_
          refine v_ist6 (pc := 134) dX5_better_134 rfl ?_
          refine v_ald0 (pc := 136) dX5_better_136 ?_
          refine v_getf KX5 2 (pc := 137) dX5_better_137 (lw_all_tbl q1996) (Or.inl rfl) (Nat.le_of_ble_eq_true rfl) (mw_obj hM) rfl ?_
          refine v_iconst (pc := 140) dX5_better_140 ?_
          refine v_ald0 (pc := 141) dX5_better_141 ?_
          refine v_getf KX5 1 (pc := 142) dX5_better_142 (lw_all_tbl q1995) (Or.inl rfl) (Nat.le_of_ble_eq_true rfl) (mw_obj hM) rfl ?_
          refine v_iconst (pc := 145) dX5_better_145 ?_
          refine v_cv0 (pc := 146) (v_runS4 okX5_copies rfl (sp_cp_aside_now hM) dX5_better_146 (lw_all_tbl q2253) (lw_all_tbl q2254) (Nat.le_of_ble_eq_true rfl) ⟨Nat.zero_le _, Nat.zero_le _⟩ (Nat.le_of_ble_eq_true rfl)) (fun h hM => ?_)
          refine v_ild6 (pc := 149) dX5_better_149 ?_
          refine v_if_le (pc := 151) (tgt := 158) dX5_better_151 rfl (by omega) (fun c151 => ?_) (fun c151 => ?_)
          · refine v_ild6 (pc := 158) dX5_better_158 ?_
            refine v_if_ge (pc := 160) (tgt := 167) dX5_better_160 rfl (by omega) (fun c160 => ?_) (fun c160 => ?_)
            · refine v_iconst (pc := 167) dX5_better_167 ?_
              refine v_ret_n (pc := 168) dX5_better_168 rfl ?_
              first | (exfalso; omega) | (rw [cpy_all hR.sup (mLz_ok hR (by omega) hH).sup] at hM; rw [← hw5] at hM; exact qi_ok ⟨by rw [if_pos (by omega)]; unfold mBetter mMore; (repeat (any_goals split)) <;> first | rfl | omega, _, _, _, _, hR.sup, mw_thr hM (by rw [if_pos (by omega)])⟩)
            · refine v_ild2 (pc := 163) dX5_better_163 ?_
              refine v_goto (pc := 164) (tgt := 168) dX5_better_164 rfl ?_
              refine v_ret_n (pc := 168) dX5_better_168 rfl ?_
              first | (exfalso; omega) | (rw [cpy_all hR.sup (mLz_ok hR (by omega) hH).sup] at hM; rw [← hw5] at hM; exact qi_ok ⟨by rw [if_pos (by omega)]; unfold mBetter mMore; (repeat (any_goals split)) <;> first | rfl | omega, _, _, _, _, hR.sup, mw_thr hM (by rw [if_pos (by omega)])⟩)
          · refine v_ild1 (pc := 154) dX5_better_154 ?_
            refine v_goto (pc := 155) (tgt := 168) dX5_better_155 rfl ?_
            refine v_ret_n (pc := 168) dX5_better_168 rfl ?_
            first | (exfalso; omega) | (rw [cpy_all hR.sup (mLz_ok hR (by omega) hH).sup] at hM; rw [← hw5] at hM; exact qi_ok ⟨by rw [if_pos (by omega)]; unfold mBetter mMore; (repeat (any_goals split)) <;> first | rfl | omega, _, _, _, _, hR.sup, mw_thr hM (by rw [if_pos (by omega)])⟩)
        · refine v_ald0 (pc := 122) dX5_better_122 ?_
          refine v_getf KX5 10 (pc := 123) dX5_better_123 (lw_all_tbl q2004) (Or.inl rfl) (Nat.le_of_ble_eq_true rfl) (mw_obj hM) rfl ?_
          refine v_ild5 (pc := 126) dX5_better_126 ?_
          refine v_isub (pc := 128) dX5_better_128 ?_
          refine v_goto (pc := 129) (tgt := 134) dX5_better_129 rfl ?_
          refine v_ist6 (pc := 134) dX5_better_134 rfl ?_
          refine v_ald0 (pc := 136) dX5_better_136 ?_
          refine v_getf KX5 2 (pc := 137) dX5_better_137 (lw_all_tbl q1996) (Or.inl rfl) (Nat.le_of_ble_eq_true rfl) (mw_obj hM) rfl ?_
          refine v_iconst (pc := 140) dX5_better_140 ?_
          refine v_ald0 (pc := 141) dX5_better_141 ?_
          refine v_getf KX5 1 (pc := 142) dX5_better_142 (lw_all_tbl q1995) (Or.inl rfl) (Nat.le_of_ble_eq_true rfl) (mw_obj hM) rfl ?_
          refine v_iconst (pc := 145) dX5_better_145 ?_
          refine v_cv0 (pc := 146) (v_runS4 okX5_copies rfl (sp_cp_aside_now hM) dX5_better_146 (lw_all_tbl q2253) (lw_all_tbl q2254) (Nat.le_of_ble_eq_true rfl) ⟨Nat.zero_le _, Nat.zero_le _⟩ (Nat.le_of_ble_eq_true rfl)) (fun h hM => ?_)
          refine v_ild6 (pc := 149) dX5_better_149 ?_
          refine v_if_le (pc := 151) (tgt := 158) dX5_better_151 rfl (by omega) (fun c151 => ?_) (fun c151 => ?_)
          · refine v_ild6 (pc := 158) dX5_better_158 ?_
            refine v_if_ge (pc := 160) (tgt := 167) dX5_better_160 rfl (by omega) (fun c160 => ?_) (fun c160 => ?_)
            · refine v_iconst (pc := 167) dX5_better_167 ?_
              refine v_ret_n (pc := 168) dX5_better_168 rfl ?_
              first | (exfalso; omega) | (rw [cpy_all hR.sup (mLz_ok hR (by omega) hH).sup] at hM; rw [← hw5] at hM; exact qi_ok ⟨by rw [if_pos (by omega)]; unfold mBetter mMore; (repeat (any_goals split)) <;> first | rfl | omega, _, _, _, _, hR.sup, mw_thr hM (by rw [if_pos (by omega)])⟩)
            · refine v_ild2 (pc := 163) dX5_better_163 ?_
              refine v_goto (pc := 164) (tgt := 168) dX5_better_164 rfl ?_
              refine v_ret_n (pc := 168) dX5_better_168 rfl ?_
              first | (exfalso; omega) | (rw [cpy_all hR.sup (mLz_ok hR (by omega) hH).sup] at hM; rw [← hw5] at hM; exact qi_ok ⟨by rw [if_pos (by omega)]; unfold mBetter mMore; (repeat (any_goals split)) <;> first | rfl | omega, _, _, _, _, hR.sup, mw_thr hM (by rw [if_pos (by omega)])⟩)
          · refine v_ild1 (pc := 154) dX5_better_154 ?_
            refine v_goto (pc := 155) (tgt := 168) dX5_better_155 rfl ?_
            refine v_ret_n (pc := 168) dX5_better_168 rfl ?_
            first | (exfalso; omega) | (rw [cpy_all hR.sup (mLz_ok hR (by omega) hH).sup] at hM; rw [← hw5] at hM; exact qi_ok ⟨by rw [if_pos (by omega)]; unfold mBetter mMore; (repeat (any_goals split)) <;> first | rfl | omega, _, _, _, _, hR.sup, mw_thr hM (by rw [if_pos (by omega)])⟩)
      · refine v_ald0 (pc := 100) dX5_better_100 ?_
        refine v_getf KX5 1 (pc := 101) dX5_better_101 (lw_all_tbl q1995) (Or.inl rfl) (Nat.le_of_ble_eq_true rfl) (mw_obj hM) rfl ?_
        refine v_bipush (pc := 104) dX5_better_104 ⟨by decide, by decide⟩ ?_
        refine v_ldM_now hM (pc := 106) dX5_better_106 (by omega) ?_
        refine v_ild4 (pc := 107) dX5_better_107 ?_
        refine v_isub (pc := 109) dX5_better_109 ?_
        refine v_goto (pc := 110) (tgt := 115) dX5_better_110 rfl ?_
        refine v_ist6 (pc := 115) dX5_better_115 rfl ?_
        refine v_ild6 (pc := 117) dX5_better_117 ?_
        refine v_if_ne (pc := 119) (tgt := 132) dX5_better_119 rfl (by omega) (fun c119 => ?_) (fun c119 => ?_)
        · refine v_ild6 (pc := 132) dX5_better_132 ?_
          refine v_ist6 (pc := 134) dX5_better_134 rfl ?_
          refine v_ald0 (pc := 136) dX5_better_136 ?_
          refine v_getf KX5 2 (pc := 137) dX5_better_137 (lw_all_tbl q1996) (Or.inl rfl) (Nat.le_of_ble_eq_true rfl) (mw_obj hM) rfl ?_
          refine v_iconst (pc := 140) dX5_better_140 ?_
          refine v_ald0 (pc := 141) dX5_better_141 ?_
          refine v_getf KX5 1 (pc := 142) dX5_better_142 (lw_all_tbl q1995) (Or.inl rfl) (Nat.le_of_ble_eq_true rfl) (mw_obj hM) rfl ?_
          refine v_iconst (pc := 145) dX5_better_145 ?_
          refine v_cv0 (pc := 146) (v_runS4 okX5_copies rfl (sp_cp_aside_now hM) dX5_better_146 (lw_all_tbl q2253) (lw_all_tbl q2254) (Nat.le_of_ble_eq_true rfl) ⟨Nat.zero_le _, Nat.zero_le _⟩ (Nat.le_of_ble_eq_true rfl)) (fun h hM => ?_)
          refine v_ild6 (pc := 149) dX5_better_149 ?_
          refine v_if_le (pc := 151) (tgt := 158) dX5_better_151 rfl (by omega) (fun c151 => ?_) (fun c151 => ?_)
          · refine v_ild6 (pc := 158) dX5_better_158 ?_
            refine v_if_ge (pc := 160) (tgt := 167) dX5_better_160 rfl (by omega) (fun c160 => ?_) (fun c160 => ?_)
            · refine v_iconst (pc := 167) dX5_better_167 ?_
              refine v_ret_n (pc := 168) dX5_better_168 rfl ?_
              first | (exfalso; omega) | (rw [cpy_all hR.sup (mLz_ok hR (by omega) hH).sup] at hM; rw [← hw5] at hM; exact qi_ok ⟨by rw [if_pos (by omega)]; unfold mBetter mMore; (repeat (any_goals split)) <;> first | rfl | omega, _, _, _, _, hR.sup, mw_thr hM (by rw [if_pos (by omega)])⟩)
            · refine v_ild2 (pc := 163) dX5_better_163 ?_
              refine v_goto (pc := 164) (tgt := 168) dX5_better_164 rfl ?_
              refine v_ret_n (pc := 168) dX5_better_168 rfl ?_
              first | (exfalso; omega) | (rw [cpy_all hR.sup (mLz_ok hR (by omega) hH).sup] at hM; rw [← hw5] at hM; exact qi_ok ⟨by rw [if_pos (by omega)]; unfold mBetter mMore; (repeat (any_goals split)) <;> first | rfl | omega, _, _, _, _, hR.sup, mw_thr hM (by rw [if_pos (by omega)])⟩)
          · refine v_ild1 (pc := 154) dX5_better_154 ?_
            refine v_goto (pc := 155) (tgt := 168) dX5_better_155 rfl ?_
            refine v_ret_n (pc := 168) dX5_better_168 rfl ?_
            first | (exfalso; omega) | (rw [cpy_all hR.sup (mLz_ok hR (by omega) hH).sup] at hM; rw [← hw5] at hM; exact qi_ok ⟨by rw [if_pos (by omega)]; unfold mBetter mMore; (repeat (any_goals split)) <;> first | rfl | omega, _, _, _, _, hR.sup, mw_thr hM (by rw [if_pos (by omega)])⟩)
        · refine v_ald0 (pc := 122) dX5_better_122 ?_
          refine v_getf KX5 10 (pc := 123) dX5_better_123 (lw_all_tbl q2004) (Or.inl rfl) (Nat.le_of_ble_eq_true rfl) (mw_obj hM) rfl ?_
          refine v_ild5 (pc := 126) dX5_better_126 ?_
          refine v_isub (pc := 128) dX5_better_128 ?_
          refine v_goto (pc := 129) (tgt := 134) dX5_better_129 rfl ?_
          refine v_ist6 (pc := 134) dX5_better_134 rfl ?_
          refine v_ald0 (pc := 136) dX5_better_136 ?_
          refine v_getf KX5 2 (pc := 137) dX5_better_137 (lw_all_tbl q1996) (Or.inl rfl) (Nat.le_of_ble_eq_true rfl) (mw_obj hM) rfl ?_
          refine v_iconst (pc := 140) dX5_better_140 ?_
          refine v_ald0 (pc := 141) dX5_better_141 ?_
          refine v_getf KX5 1 (pc := 142) dX5_better_142 (lw_all_tbl q1995) (Or.inl rfl) (Nat.le_of_ble_eq_true rfl) (mw_obj hM) rfl ?_
          refine v_iconst (pc := 145) dX5_better_145 ?_
          refine v_cv0 (pc := 146) (v_runS4 okX5_copies rfl (sp_cp_aside_now hM) dX5_better_146 (lw_all_tbl q2253) (lw_all_tbl q2254) (Nat.le_of_ble_eq_true rfl) ⟨Nat.zero_le _, Nat.zero_le _⟩ (Nat.le_of_ble_eq_true rfl)) (fun h hM => ?_)
          refine v_ild6 (pc := 149) dX5_better_149 ?_
          refine v_if_le (pc := 151) (tgt := 158) dX5_better_151 rfl (by omega) (fun c151 => ?_) (fun c151 => ?_)
          · refine v_ild6 (pc := 158) dX5_better_158 ?_
            refine v_if_ge (pc := 160) (tgt := 167) dX5_better_160 rfl (by omega) (fun c160 => ?_) (fun c160 => ?_)
            · refine v_iconst (pc := 167) dX5_better_167 ?_
              refine v_ret_n (pc := 168) dX5_better_168 rfl ?_
              first | (exfalso; omega) | (rw [cpy_all hR.sup (mLz_ok hR (by omega) hH).sup] at hM; rw [← hw5] at hM; exact qi_ok ⟨by rw [if_pos (by omega)]; unfold mBetter mMore; (repeat (any_goals split)) <;> first | rfl | omega, _, _, _, _, hR.sup, mw_thr hM (by rw [if_pos (by omega)])⟩)
            · refine v_ild2 (pc := 163) dX5_better_163 ?_
              refine v_goto (pc := 164) (tgt := 168) dX5_better_164 rfl ?_
              refine v_ret_n (pc := 168) dX5_better_168 rfl ?_
              first | (exfalso; omega) | (rw [cpy_all hR.sup (mLz_ok hR (by omega) hH).sup] at hM; rw [← hw5] at hM; exact qi_ok ⟨by rw [if_pos (by omega)]; unfold mBetter mMore; (repeat (any_goals split)) <;> first | rfl | omega, _, _, _, _, hR.sup, mw_thr hM (by rw [if_pos (by omega)])⟩)
          · refine v_ild1 (pc := 154) dX5_better_154 ?_
            refine v_goto (pc := 155) (tgt := 168) dX5_better_155 rfl ?_
            refine v_ret_n (pc := 168) dX5_better_168 rfl ?_
            first | (exfalso; omega) | (rw [cpy_all hR.sup (mLz_ok hR (by omega) hH).sup] at hM; rw [← hw5] at hM; exact qi_ok ⟨by rw [if_pos (by omega)]; unfold mBetter mMore; (repeat (any_goals split)) <;> first | rfl | omega, _, _, _, _, hR.sup, mw_thr hM (by rw [if_pos (by omega)])⟩)
    · refine v_if_eq0 (pc := 18) (tgt := 25) dX5_better_18 rfl ?_
      refine v_iconst (pc := 25) dX5_better_25 ?_
      refine v_ptM_thrown hM (pc := 26) dX5_better_26 (lw_all_tbl q1994) (fun h hM => ?_)
      refine v_ald0 (pc := 29) dX5_better_29 ?_
      refine v_getf KX5 0 (pc := 30) dX5_better_30 (lw_all_tbl q1994) (Or.inl rfl) (Nat.le_of_ble_eq_true rfl) (mw_obj hM) rfl ?_
      refine v_if_le (pc := 33) (tgt := 38) dX5_better_33 rfl (by omega) (fun c => absurd c (by decide)) (fun _ => ?_)
      refine v_iconst (pc := 36) dX5_better_36 ?_
      refine v_ret_n (pc := 37) dX5_better_37 rfl ?_
      exact qi_ok ⟨by rw [if_neg (by omega)], _, _, _, _, hS, mw_thr hM (by rw [if_neg (by omega)])⟩
  · refine v_if_eq0 (pc := 8) (tgt := 25) dX5_better_8 rfl ?_
    refine v_iconst (pc := 25) dX5_better_25 ?_
    refine v_ptM_thrown hM (pc := 26) dX5_better_26 (lw_all_tbl q1994) (fun h hM => ?_)
    refine v_ald0 (pc := 29) dX5_better_29 ?_
    refine v_getf KX5 0 (pc := 30) dX5_better_30 (lw_all_tbl q1994) (Or.inl rfl) (Nat.le_of_ble_eq_true rfl) (mw_obj hM) rfl ?_
    refine v_if_le (pc := 33) (tgt := 38) dX5_better_33 rfl (by omega) (fun c => absurd c (by decide)) (fun _ => ?_)
    refine v_iconst (pc := 36) dX5_better_36 ?_
    refine v_ret_n (pc := 37) dX5_better_37 rfl ?_
    exact qi_ok ⟨by rw [if_neg (by omega)], _, _, _, _, hS, mw_thr hM (by rw [if_neg (by omega)])⟩
theorem sp_X5_hindsight {Γ : Cx} {t : Nat} {α : Nat → Nat} {h0 h : AH} {thrown : Int} {now : Int → Int} {aside : Int → Int} {tried : Int → Int} {undos : Int → Int} {undoMany : Int} {saved : Int → Int} {isSaved : Int → Int} {accounts : Int → Int} {way : Int} {leftOut : Int} {here : Int → Int} {text : Int → Int} {length : Int} {atp : Int} {frm : Int} {token : Int} {number : Int} {error : Int} {errorAt : Int} {commands : Int} {command : Int → Int} {out : Int → Int} {outLong : Int} {c : Int}  (hM : MW t α h0 h thrown now aside tried undos undoMany saved isSaved accounts way leftOut here text length atp frm token number error errorAt commands command out outLong) (hR : ROK now c) (hS : Sup aside) (hH : HOK now) (hw5 : way = 5) : Sp Γ yX5_hindsight mX5_hindsight 11 0 0 [.ref (α 0)] h (Qi (fun x h' => x = mHind now ∧ ∃ tr he as lo, Sup as ∧ MW t α h0 h' 0 now as tr undos undoMany saved isSaved accounts way lo he text length atp frm token number error errorAt commands command out outLong)) NoX := by
  refine sp_of okX5_hindsight (cat_all rfl) (Nat.le_of_ble_eq_true rfl) rfl ?_
  have h11 := hR.s11
  have L17 : ∀ (n9 : Nat) (h1 : AH) (tr1 : Int → Int) (he1 : Int → Int) (as1 : Int → Int) (lo1 : Int) (best : Int) (mv : Int) (rs : Int) (lf : Int) (g : Int), (5 - g).toNat = n9 → (MW t α h0 h1 0 now as1 tr1 undos undoMany saved isSaved accounts way lo1 he1 text length atp frm token number error errorAt commands command out outLong) → (Sup as1) → (0 ≤ g ∧ g ≤ 5) → ((-1 ≤ best ∧ best ≤ 4) ∧ (0 ≤ mv ∧ mv ≤ 14000000) ∧ (0 ≤ rs ∧ rs ≤ 14000000) ∧ (0 ≤ lf ∧ lf ≤ 150)) → (fI g (hStep now) (-1, 0, 0, 0) = (best, mv, rs, lf)) → V Γ mX5_hindsight 11 0 0 (Qi (fun x h' => x = mHind now ∧ ∃ tr he as lo, Sup as ∧ MW t α h0 h' 0 now as tr undos undoMany saved isSaved accounts way lo he text length atp frm token number error errorAt commands command out outLong)) (NoX) h1 0 0 17 [some (.ref (α 0)), some (vi best), some (vi mv), some (vi rs), some (vi lf), some (vi g), none] [] := by
    intro n9
    induction n9 using Nat.strongRecOn with
    | _ n9 ih =>
      intro h1 tr1 he1 as1 lo1 best mv rs lf g hn9 hM hS1 hg hr he
      refine v_ild5 (pc := 17) dX5_hindsight_17 ?_
      refine v_iconst (pc := 19) dX5_hindsight_19 ?_
      refine v_icmp_ge (pc := 20) (tgt := 143) dX5_hindsight_20 rfl (by omega) (by omega) (fun c20 => ?_) (fun c20 => ?_)
      · refine v_ild1 (pc := 143) dX5_hindsight_143 ?_
        refine v_ret_n (pc := 144) dX5_hindsight_144 rfl ?_
        have hx : g = 5 := by omega
        rw [hx] at he
        exact qi_ok ⟨by rw [mHind, he], _, _, _, _, hS1, hM⟩
      · have hA := mLz_ok (way := g) hR (by omega) hH
        have a8 := hA.s8
        have a9 := hA.s9
        have ac := hA.c0
        have al := mLz_left (A := now) (way := g) (by omega)
        refine v_ald0 (pc := 23) dX5_hindsight_23 ?_
        refine v_ild5 (pc := 24) dX5_hindsight_24 ?_
        refine v_cv0 (pc := 26) (v_runV1 okX5_livesAnew rfl (sp_livesAnew hM (by omega) hS1 (by omega) (by omega)) dX5_hindsight_26 (lw_all_tbl q2249) (lw_all_tbl q2251) (lw_all_tbl qs68) rfl (mw_obj hM) (Nat.le_of_ble_eq_true rfl) ⟨Nat.zero_le _, Nat.zero_le _⟩ (Nat.le_of_ble_eq_true rfl)) (fun h ⟨tried, here, hM⟩ => ?_)
        refine v_ald0 (pc := 29) dX5_hindsight_29 ?_
        refine v_getf KX5 1 (pc := 30) dX5_hindsight_30 (lw_all_tbl q1995) (Or.inl rfl) (Nat.le_of_ble_eq_true rfl) (mw_obj hM) rfl ?_
        refine v_bipush (pc := 33) dX5_hindsight_33 ⟨by decide, by decide⟩ ?_
        refine v_ldM_now hM (pc := 35) dX5_hindsight_35 (by omega) ?_
        refine v_ild3 (pc := 36) dX5_hindsight_36 ?_
        refine v_icmp_lt (pc := 37) (tgt := 60) dX5_hindsight_37 rfl (by omega) (by omega) (fun c37 => ?_) (fun c37 => ?_)
        · refine v_iconst (pc := 60) dX5_hindsight_60 ?_
          refine v_goto (pc := 61) (tgt := 65) dX5_hindsight_61 rfl ?_
          refine v_ist6 (pc := 65) dX5_hindsight_65 rfl ?_
          refine v_ild1 (pc := 67) dX5_hindsight_67 ?_
          refine v_iconst (pc := 68) dX5_hindsight_68 ?_
          refine v_icmp_eq (pc := 69) (tgt := 99) dX5_hindsight_69 rfl (by omega) (by omega) (fun c69 => ?_) (fun c69 => ?_)
          · refine v_ild5 (pc := 99) dX5_hindsight_99 ?_
            refine v_ist1 (pc := 101) dX5_hindsight_101 rfl ?_
            refine v_ald0 (pc := 102) dX5_hindsight_102 ?_
            refine v_getf KX5 1 (pc := 103) dX5_hindsight_103 (lw_all_tbl q1995) (Or.inl rfl) (Nat.le_of_ble_eq_true rfl) (mw_obj hM) rfl ?_
            refine v_bipush (pc := 106) dX5_hindsight_106 ⟨by decide, by decide⟩ ?_
            refine v_ldM_now hM (pc := 108) dX5_hindsight_108 (by omega) ?_
            refine v_ist2 (pc := 109) dX5_hindsight_109 rfl ?_
            refine v_ald0 (pc := 110) dX5_hindsight_110 ?_
            refine v_getf KX5 1 (pc := 111) dX5_hindsight_111 (lw_all_tbl q1995) (Or.inl rfl) (Nat.le_of_ble_eq_true rfl) (mw_obj hM) rfl ?_
            refine v_bipush (pc := 114) dX5_hindsight_114 ⟨by decide, by decide⟩ ?_
            refine v_ldM_now hM (pc := 116) dX5_hindsight_116 (by omega) ?_
            refine v_ist3 (pc := 117) dX5_hindsight_117 rfl ?_
            refine v_ald0 (pc := 118) dX5_hindsight_118 ?_
            refine v_getf KX5 10 (pc := 119) dX5_hindsight_119 (lw_all_tbl q2004) (Or.inl rfl) (Nat.le_of_ble_eq_true rfl) (mw_obj hM) rfl ?_
            refine v_ist4 (pc := 122) dX5_hindsight_122 rfl ?_
            refine v_ald0 (pc := 124) dX5_hindsight_124 ?_
            refine v_getf KX5 2 (pc := 125) dX5_hindsight_125 (lw_all_tbl q1996) (Or.inl rfl) (Nat.le_of_ble_eq_true rfl) (mw_obj hM) rfl ?_
            refine v_iconst (pc := 128) dX5_hindsight_128 ?_
            refine v_ald0 (pc := 129) dX5_hindsight_129 ?_
            refine v_getf KX5 1 (pc := 130) dX5_hindsight_130 (lw_all_tbl q1995) (Or.inl rfl) (Nat.le_of_ble_eq_true rfl) (mw_obj hM) rfl ?_
            refine v_iconst (pc := 133) dX5_hindsight_133 ?_
            refine v_cv0 (pc := 134) (v_runS4 okX5_copies rfl (sp_cp_aside_now hM) dX5_hindsight_134 (lw_all_tbl q2253) (lw_all_tbl q2254) (Nat.le_of_ble_eq_true rfl) ⟨Nat.zero_le _, Nat.zero_le _⟩ (Nat.le_of_ble_eq_true rfl)) (fun h hM => ?_)
            rw [cpy_all hR.sup (mLz_ok hR (by omega) hH).sup] at hM
            rw [← hw5] at hM
            refine v_iinc5 (pc := 137) dX5_hindsight_137 rfl ?_
            refine v_goto (pc := 140) (tgt := 17) dX5_hindsight_140 rfl ?_
            refine v_forget 6 ?_
            exact ih _ (by omega) _ _ _ _ _ _ _ _ _ _ rfl hM hR.sup (by omega) (by omega) (by rw [fI_s hg.1, he]; unfold hStep; dsimp only; first | rw [if_pos (by omega)] | rw [if_neg (by omega)])
          · refine v_ald0 (pc := 72) dX5_hindsight_72 ?_
            refine v_getf KX5 1 (pc := 73) dX5_hindsight_73 (lw_all_tbl q1995) (Or.inl rfl) (Nat.le_of_ble_eq_true rfl) (mw_obj hM) rfl ?_
            refine v_bipush (pc := 76) dX5_hindsight_76 ⟨by decide, by decide⟩ ?_
            refine v_ldM_now hM (pc := 78) dX5_hindsight_78 (by omega) ?_
            refine v_ild2 (pc := 79) dX5_hindsight_79 ?_
            refine v_icmp_lt (pc := 80) (tgt := 99) dX5_hindsight_80 rfl (by omega) (by omega) (fun c80 => ?_) (fun c80 => ?_)
            · refine v_ild5 (pc := 99) dX5_hindsight_99 ?_
              refine v_ist1 (pc := 101) dX5_hindsight_101 rfl ?_
              refine v_ald0 (pc := 102) dX5_hindsight_102 ?_
              refine v_getf KX5 1 (pc := 103) dX5_hindsight_103 (lw_all_tbl q1995) (Or.inl rfl) (Nat.le_of_ble_eq_true rfl) (mw_obj hM) rfl ?_
              refine v_bipush (pc := 106) dX5_hindsight_106 ⟨by decide, by decide⟩ ?_
              refine v_ldM_now hM (pc := 108) dX5_hindsight_108 (by omega) ?_
              refine v_ist2 (pc := 109) dX5_hindsight_109 rfl ?_
              refine v_ald0 (pc := 110) dX5_hindsight_110 ?_
              refine v_getf KX5 1 (pc := 111) dX5_hindsight_111 (lw_all_tbl q1995) (Or.inl rfl) (Nat.le_of_ble_eq_true rfl) (mw_obj hM) rfl ?_
              refine v_bipush (pc := 114) dX5_hindsight_114 ⟨by decide, by decide⟩ ?_
              refine v_ldM_now hM (pc := 116) dX5_hindsight_116 (by omega) ?_
              refine v_ist3 (pc := 117) dX5_hindsight_117 rfl ?_
              refine v_ald0 (pc := 118) dX5_hindsight_118 ?_
              refine v_getf KX5 10 (pc := 119) dX5_hindsight_119 (lw_all_tbl q2004) (Or.inl rfl) (Nat.le_of_ble_eq_true rfl) (mw_obj hM) rfl ?_
              refine v_ist4 (pc := 122) dX5_hindsight_122 rfl ?_
              refine v_ald0 (pc := 124) dX5_hindsight_124 ?_
              refine v_getf KX5 2 (pc := 125) dX5_hindsight_125 (lw_all_tbl q1996) (Or.inl rfl) (Nat.le_of_ble_eq_true rfl) (mw_obj hM) rfl ?_
              refine v_iconst (pc := 128) dX5_hindsight_128 ?_
              refine v_ald0 (pc := 129) dX5_hindsight_129 ?_
              refine v_getf KX5 1 (pc := 130) dX5_hindsight_130 (lw_all_tbl q1995) (Or.inl rfl) (Nat.le_of_ble_eq_true rfl) (mw_obj hM) rfl ?_
              refine v_iconst (pc := 133) dX5_hindsight_133 ?_
              refine v_cv0 (pc := 134) (v_runS4 okX5_copies rfl (sp_cp_aside_now hM) dX5_hindsight_134 (lw_all_tbl q2253) (lw_all_tbl q2254) (Nat.le_of_ble_eq_true rfl) ⟨Nat.zero_le _, Nat.zero_le _⟩ (Nat.le_of_ble_eq_true rfl)) (fun h hM => ?_)
              rw [cpy_all hR.sup (mLz_ok hR (by omega) hH).sup] at hM
              rw [← hw5] at hM
              refine v_iinc5 (pc := 137) dX5_hindsight_137 rfl ?_
              refine v_goto (pc := 140) (tgt := 17) dX5_hindsight_140 rfl ?_
              refine v_forget 6 ?_
              exact ih _ (by omega) _ _ _ _ _ _ _ _ _ _ rfl hM hR.sup (by omega) (by omega) (by rw [fI_s hg.1, he]; unfold hStep; dsimp only; first | rw [if_pos (by omega)] | rw [if_neg (by omega)])
            · refine v_ald0 (pc := 83) dX5_hindsight_83 ?_
              refine v_getf KX5 1 (pc := 84) dX5_hindsight_84 (lw_all_tbl q1995) (Or.inl rfl) (Nat.le_of_ble_eq_true rfl) (mw_obj hM) rfl ?_
              refine v_bipush (pc := 87) dX5_hindsight_87 ⟨by decide, by decide⟩ ?_
              refine v_ldM_now hM (pc := 89) dX5_hindsight_89 (by omega) ?_
              refine v_ild2 (pc := 90) dX5_hindsight_90 ?_
              refine v_icmp_ne (pc := 91) (tgt := 124) dX5_hindsight_91 rfl (by omega) (by omega) (fun c91 => ?_) (fun c91 => ?_)
              · refine v_ald0 (pc := 124) dX5_hindsight_124 ?_
                refine v_getf KX5 2 (pc := 125) dX5_hindsight_125 (lw_all_tbl q1996) (Or.inl rfl) (Nat.le_of_ble_eq_true rfl) (mw_obj hM) rfl ?_
                refine v_iconst (pc := 128) dX5_hindsight_128 ?_
                refine v_ald0 (pc := 129) dX5_hindsight_129 ?_
                refine v_getf KX5 1 (pc := 130) dX5_hindsight_130 (lw_all_tbl q1995) (Or.inl rfl) (Nat.le_of_ble_eq_true rfl) (mw_obj hM) rfl ?_
                refine v_iconst (pc := 133) dX5_hindsight_133 ?_
                refine v_cv0 (pc := 134) (v_runS4 okX5_copies rfl (sp_cp_aside_now hM) dX5_hindsight_134 (lw_all_tbl q2253) (lw_all_tbl q2254) (Nat.le_of_ble_eq_true rfl) ⟨Nat.zero_le _, Nat.zero_le _⟩ (Nat.le_of_ble_eq_true rfl)) (fun h hM => ?_)
                rw [cpy_all hR.sup (mLz_ok hR (by omega) hH).sup] at hM
                rw [← hw5] at hM
                refine v_iinc5 (pc := 137) dX5_hindsight_137 rfl ?_
                refine v_goto (pc := 140) (tgt := 17) dX5_hindsight_140 rfl ?_
                refine v_forget 6 ?_
                exact ih _ (by omega) _ _ _ _ _ _ _ _ _ _ rfl hM hR.sup (by omega) (by omega) (by rw [fI_s hg.1, he]; unfold hStep; dsimp only; first | rw [if_pos (by omega)] | rw [if_neg (by omega)])
              · refine v_ild6 (pc := 94) dX5_hindsight_94 ?_
                refine v_if_eq1 (pc := 96) (tgt := 124) dX5_hindsight_96 rfl ?_
                refine v_ild5 (pc := 99) dX5_hindsight_99 ?_
                refine v_ist1 (pc := 101) dX5_hindsight_101 rfl ?_
                refine v_ald0 (pc := 102) dX5_hindsight_102 ?_
                refine v_getf KX5 1 (pc := 103) dX5_hindsight_103 (lw_all_tbl q1995) (Or.inl rfl) (Nat.le_of_ble_eq_true rfl) (mw_obj hM) rfl ?_
                refine v_bipush (pc := 106) dX5_hindsight_106 ⟨by decide, by decide⟩ ?_
                refine v_ldM_now hM (pc := 108) dX5_hindsight_108 (by omega) ?_
                refine v_ist2 (pc := 109) dX5_hindsight_109 rfl ?_
                refine v_ald0 (pc := 110) dX5_hindsight_110 ?_
                refine v_getf KX5 1 (pc := 111) dX5_hindsight_111 (lw_all_tbl q1995) (Or.inl rfl) (Nat.le_of_ble_eq_true rfl) (mw_obj hM) rfl ?_
                refine v_bipush (pc := 114) dX5_hindsight_114 ⟨by decide, by decide⟩ ?_
                refine v_ldM_now hM (pc := 116) dX5_hindsight_116 (by omega) ?_
                refine v_ist3 (pc := 117) dX5_hindsight_117 rfl ?_
                refine v_ald0 (pc := 118) dX5_hindsight_118 ?_
                refine v_getf KX5 10 (pc := 119) dX5_hindsight_119 (lw_all_tbl q2004) (Or.inl rfl) (Nat.le_of_ble_eq_true rfl) (mw_obj hM) rfl ?_
                refine v_ist4 (pc := 122) dX5_hindsight_122 rfl ?_
                refine v_ald0 (pc := 124) dX5_hindsight_124 ?_
                refine v_getf KX5 2 (pc := 125) dX5_hindsight_125 (lw_all_tbl q1996) (Or.inl rfl) (Nat.le_of_ble_eq_true rfl) (mw_obj hM) rfl ?_
                refine v_iconst (pc := 128) dX5_hindsight_128 ?_
                refine v_ald0 (pc := 129) dX5_hindsight_129 ?_
                refine v_getf KX5 1 (pc := 130) dX5_hindsight_130 (lw_all_tbl q1995) (Or.inl rfl) (Nat.le_of_ble_eq_true rfl) (mw_obj hM) rfl ?_
                refine v_iconst (pc := 133) dX5_hindsight_133 ?_
                refine v_cv0 (pc := 134) (v_runS4 okX5_copies rfl (sp_cp_aside_now hM) dX5_hindsight_134 (lw_all_tbl q2253) (lw_all_tbl q2254) (Nat.le_of_ble_eq_true rfl) ⟨Nat.zero_le _, Nat.zero_le _⟩ (Nat.le_of_ble_eq_true rfl)) (fun h hM => ?_)
                rw [cpy_all hR.sup (mLz_ok hR (by omega) hH).sup] at hM
                rw [← hw5] at hM
                refine v_iinc5 (pc := 137) dX5_hindsight_137 rfl ?_
                refine v_goto (pc := 140) (tgt := 17) dX5_hindsight_140 rfl ?_
                refine v_forget 6 ?_
                exact ih _ (by omega) _ _ _ _ _ _ _ _ _ _ rfl hM hR.sup (by omega) (by omega) (by rw [fI_s hg.1, he]; unfold hStep; dsimp only; first | rw [if_pos (by omega)] | rw [if_neg (by omega)])
        · refine v_ald0 (pc := 40) dX5_hindsight_40 ?_
          refine v_getf KX5 1 (pc := 41) dX5_hindsight_41 (lw_all_tbl q1995) (Or.inl rfl) (Nat.le_of_ble_eq_true rfl) (mw_obj hM) rfl ?_
          refine v_bipush (pc := 44) dX5_hindsight_44 ⟨by decide, by decide⟩ ?_
          refine v_ldM_now hM (pc := 46) dX5_hindsight_46 (by omega) ?_
          refine v_ild3 (pc := 47) dX5_hindsight_47 ?_
          refine v_icmp_ne (pc := 48) (tgt := 64) dX5_hindsight_48 rfl (by omega) (by omega) (fun c48 => ?_) (fun c48 => ?_)
          · refine v_iconst (pc := 64) dX5_hindsight_64 ?_
            refine v_ist6 (pc := 65) dX5_hindsight_65 rfl ?_
            refine v_ild1 (pc := 67) dX5_hindsight_67 ?_
            refine v_iconst (pc := 68) dX5_hindsight_68 ?_
            refine v_icmp_eq (pc := 69) (tgt := 99) dX5_hindsight_69 rfl (by omega) (by omega) (fun c69 => ?_) (fun c69 => ?_)
            · refine v_ild5 (pc := 99) dX5_hindsight_99 ?_
              refine v_ist1 (pc := 101) dX5_hindsight_101 rfl ?_
              refine v_ald0 (pc := 102) dX5_hindsight_102 ?_
              refine v_getf KX5 1 (pc := 103) dX5_hindsight_103 (lw_all_tbl q1995) (Or.inl rfl) (Nat.le_of_ble_eq_true rfl) (mw_obj hM) rfl ?_
              refine v_bipush (pc := 106) dX5_hindsight_106 ⟨by decide, by decide⟩ ?_
              refine v_ldM_now hM (pc := 108) dX5_hindsight_108 (by omega) ?_
              refine v_ist2 (pc := 109) dX5_hindsight_109 rfl ?_
              refine v_ald0 (pc := 110) dX5_hindsight_110 ?_
              refine v_getf KX5 1 (pc := 111) dX5_hindsight_111 (lw_all_tbl q1995) (Or.inl rfl) (Nat.le_of_ble_eq_true rfl) (mw_obj hM) rfl ?_
              refine v_bipush (pc := 114) dX5_hindsight_114 ⟨by decide, by decide⟩ ?_
              refine v_ldM_now hM (pc := 116) dX5_hindsight_116 (by omega) ?_
              refine v_ist3 (pc := 117) dX5_hindsight_117 rfl ?_
              refine v_ald0 (pc := 118) dX5_hindsight_118 ?_
              refine v_getf KX5 10 (pc := 119) dX5_hindsight_119 (lw_all_tbl q2004) (Or.inl rfl) (Nat.le_of_ble_eq_true rfl) (mw_obj hM) rfl ?_
              refine v_ist4 (pc := 122) dX5_hindsight_122 rfl ?_
              refine v_ald0 (pc := 124) dX5_hindsight_124 ?_
              refine v_getf KX5 2 (pc := 125) dX5_hindsight_125 (lw_all_tbl q1996) (Or.inl rfl) (Nat.le_of_ble_eq_true rfl) (mw_obj hM) rfl ?_
              refine v_iconst (pc := 128) dX5_hindsight_128 ?_
              refine v_ald0 (pc := 129) dX5_hindsight_129 ?_
              refine v_getf KX5 1 (pc := 130) dX5_hindsight_130 (lw_all_tbl q1995) (Or.inl rfl) (Nat.le_of_ble_eq_true rfl) (mw_obj hM) rfl ?_
              refine v_iconst (pc := 133) dX5_hindsight_133 ?_
              refine v_cv0 (pc := 134) (v_runS4 okX5_copies rfl (sp_cp_aside_now hM) dX5_hindsight_134 (lw_all_tbl q2253) (lw_all_tbl q2254) (Nat.le_of_ble_eq_true rfl) ⟨Nat.zero_le _, Nat.zero_le _⟩ (Nat.le_of_ble_eq_true rfl)) (fun h hM => ?_)
              rw [cpy_all hR.sup (mLz_ok hR (by omega) hH).sup] at hM
              rw [← hw5] at hM
              refine v_iinc5 (pc := 137) dX5_hindsight_137 rfl ?_
              refine v_goto (pc := 140) (tgt := 17) dX5_hindsight_140 rfl ?_
              refine v_forget 6 ?_
              exact ih _ (by omega) _ _ _ _ _ _ _ _ _ _ rfl hM hR.sup (by omega) (by omega) (by rw [fI_s hg.1, he]; unfold hStep; dsimp only; first | rw [if_pos (by omega)] | rw [if_neg (by omega)])
            · refine v_ald0 (pc := 72) dX5_hindsight_72 ?_
              refine v_getf KX5 1 (pc := 73) dX5_hindsight_73 (lw_all_tbl q1995) (Or.inl rfl) (Nat.le_of_ble_eq_true rfl) (mw_obj hM) rfl ?_
              refine v_bipush (pc := 76) dX5_hindsight_76 ⟨by decide, by decide⟩ ?_
              refine v_ldM_now hM (pc := 78) dX5_hindsight_78 (by omega) ?_
              refine v_ild2 (pc := 79) dX5_hindsight_79 ?_
              refine v_icmp_lt (pc := 80) (tgt := 99) dX5_hindsight_80 rfl (by omega) (by omega) (fun c80 => ?_) (fun c80 => ?_)
              · refine v_ild5 (pc := 99) dX5_hindsight_99 ?_
                refine v_ist1 (pc := 101) dX5_hindsight_101 rfl ?_
                refine v_ald0 (pc := 102) dX5_hindsight_102 ?_
                refine v_getf KX5 1 (pc := 103) dX5_hindsight_103 (lw_all_tbl q1995) (Or.inl rfl) (Nat.le_of_ble_eq_true rfl) (mw_obj hM) rfl ?_
                refine v_bipush (pc := 106) dX5_hindsight_106 ⟨by decide, by decide⟩ ?_
                refine v_ldM_now hM (pc := 108) dX5_hindsight_108 (by omega) ?_
                refine v_ist2 (pc := 109) dX5_hindsight_109 rfl ?_
                refine v_ald0 (pc := 110) dX5_hindsight_110 ?_
                refine v_getf KX5 1 (pc := 111) dX5_hindsight_111 (lw_all_tbl q1995) (Or.inl rfl) (Nat.le_of_ble_eq_true rfl) (mw_obj hM) rfl ?_
                refine v_bipush (pc := 114) dX5_hindsight_114 ⟨by decide, by decide⟩ ?_
                refine v_ldM_now hM (pc := 116) dX5_hindsight_116 (by omega) ?_
                refine v_ist3 (pc := 117) dX5_hindsight_117 rfl ?_
                refine v_ald0 (pc := 118) dX5_hindsight_118 ?_
                refine v_getf KX5 10 (pc := 119) dX5_hindsight_119 (lw_all_tbl q2004) (Or.inl rfl) (Nat.le_of_ble_eq_true rfl) (mw_obj hM) rfl ?_
                refine v_ist4 (pc := 122) dX5_hindsight_122 rfl ?_
                refine v_ald0 (pc := 124) dX5_hindsight_124 ?_
                refine v_getf KX5 2 (pc := 125) dX5_hindsight_125 (lw_all_tbl q1996) (Or.inl rfl) (Nat.le_of_ble_eq_true rfl) (mw_obj hM) rfl ?_
                refine v_iconst (pc := 128) dX5_hindsight_128 ?_
                refine v_ald0 (pc := 129) dX5_hindsight_129 ?_
                refine v_getf KX5 1 (pc := 130) dX5_hindsight_130 (lw_all_tbl q1995) (Or.inl rfl) (Nat.le_of_ble_eq_true rfl) (mw_obj hM) rfl ?_
                refine v_iconst (pc := 133) dX5_hindsight_133 ?_
                refine v_cv0 (pc := 134) (v_runS4 okX5_copies rfl (sp_cp_aside_now hM) dX5_hindsight_134 (lw_all_tbl q2253) (lw_all_tbl q2254) (Nat.le_of_ble_eq_true rfl) ⟨Nat.zero_le _, Nat.zero_le _⟩ (Nat.le_of_ble_eq_true rfl)) (fun h hM => ?_)
                rw [cpy_all hR.sup (mLz_ok hR (by omega) hH).sup] at hM
                rw [← hw5] at hM
                refine v_iinc5 (pc := 137) dX5_hindsight_137 rfl ?_
                refine v_goto (pc := 140) (tgt := 17) dX5_hindsight_140 rfl ?_
                refine v_forget 6 ?_
                exact ih _ (by omega) _ _ _ _ _ _ _ _ _ _ rfl hM hR.sup (by omega) (by omega) (by rw [fI_s hg.1, he]; unfold hStep; dsimp only; first | rw [if_pos (by omega)] | rw [if_neg (by omega)])
              · refine v_ald0 (pc := 83) dX5_hindsight_83 ?_
                refine v_getf KX5 1 (pc := 84) dX5_hindsight_84 (lw_all_tbl q1995) (Or.inl rfl) (Nat.le_of_ble_eq_true rfl) (mw_obj hM) rfl ?_
                refine v_bipush (pc := 87) dX5_hindsight_87 ⟨by decide, by decide⟩ ?_
                refine v_ldM_now hM (pc := 89) dX5_hindsight_89 (by omega) ?_
                refine v_ild2 (pc := 90) dX5_hindsight_90 ?_
                refine v_icmp_ne (pc := 91) (tgt := 124) dX5_hindsight_91 rfl (by omega) (by omega) (fun c91 => ?_) (fun c91 => ?_)
                · refine v_ald0 (pc := 124) dX5_hindsight_124 ?_
                  refine v_getf KX5 2 (pc := 125) dX5_hindsight_125 (lw_all_tbl q1996) (Or.inl rfl) (Nat.le_of_ble_eq_true rfl) (mw_obj hM) rfl ?_
                  refine v_iconst (pc := 128) dX5_hindsight_128 ?_
                  refine v_ald0 (pc := 129) dX5_hindsight_129 ?_
                  refine v_getf KX5 1 (pc := 130) dX5_hindsight_130 (lw_all_tbl q1995) (Or.inl rfl) (Nat.le_of_ble_eq_true rfl) (mw_obj hM) rfl ?_
                  refine v_iconst (pc := 133) dX5_hindsight_133 ?_
                  refine v_cv0 (pc := 134) (v_runS4 okX5_copies rfl (sp_cp_aside_now hM) dX5_hindsight_134 (lw_all_tbl q2253) (lw_all_tbl q2254) (Nat.le_of_ble_eq_true rfl) ⟨Nat.zero_le _, Nat.zero_le _⟩ (Nat.le_of_ble_eq_true rfl)) (fun h hM => ?_)
                  rw [cpy_all hR.sup (mLz_ok hR (by omega) hH).sup] at hM
                  rw [← hw5] at hM
                  refine v_iinc5 (pc := 137) dX5_hindsight_137 rfl ?_
                  refine v_goto (pc := 140) (tgt := 17) dX5_hindsight_140 rfl ?_
                  refine v_forget 6 ?_
                  exact ih _ (by omega) _ _ _ _ _ _ _ _ _ _ rfl hM hR.sup (by omega) (by omega) (by rw [fI_s hg.1, he]; unfold hStep; dsimp only; first | rw [if_pos (by omega)] | rw [if_neg (by omega)])
                · refine v_ild6 (pc := 94) dX5_hindsight_94 ?_
                  refine v_if_eq0 (pc := 96) (tgt := 124) dX5_hindsight_96 rfl ?_
                  refine v_ald0 (pc := 124) dX5_hindsight_124 ?_
                  refine v_getf KX5 2 (pc := 125) dX5_hindsight_125 (lw_all_tbl q1996) (Or.inl rfl) (Nat.le_of_ble_eq_true rfl) (mw_obj hM) rfl ?_
                  refine v_iconst (pc := 128) dX5_hindsight_128 ?_
                  refine v_ald0 (pc := 129) dX5_hindsight_129 ?_
                  refine v_getf KX5 1 (pc := 130) dX5_hindsight_130 (lw_all_tbl q1995) (Or.inl rfl) (Nat.le_of_ble_eq_true rfl) (mw_obj hM) rfl ?_
                  refine v_iconst (pc := 133) dX5_hindsight_133 ?_
                  refine v_cv0 (pc := 134) (v_runS4 okX5_copies rfl (sp_cp_aside_now hM) dX5_hindsight_134 (lw_all_tbl q2253) (lw_all_tbl q2254) (Nat.le_of_ble_eq_true rfl) ⟨Nat.zero_le _, Nat.zero_le _⟩ (Nat.le_of_ble_eq_true rfl)) (fun h hM => ?_)
                  rw [cpy_all hR.sup (mLz_ok hR (by omega) hH).sup] at hM
                  rw [← hw5] at hM
                  refine v_iinc5 (pc := 137) dX5_hindsight_137 rfl ?_
                  refine v_goto (pc := 140) (tgt := 17) dX5_hindsight_140 rfl ?_
                  refine v_forget 6 ?_
                  exact ih _ (by omega) _ _ _ _ _ _ _ _ _ _ rfl hM hR.sup (by omega) (by omega) (by rw [fI_s hg.1, he]; unfold hStep; dsimp only; first | rw [if_pos (by omega)] | rw [if_neg (by omega)])
          · refine v_ald0 (pc := 51) dX5_hindsight_51 ?_
            refine v_getf KX5 10 (pc := 52) dX5_hindsight_52 (lw_all_tbl q2004) (Or.inl rfl) (Nat.le_of_ble_eq_true rfl) (mw_obj hM) rfl ?_
            refine v_ild4 (pc := 55) dX5_hindsight_55 ?_
            refine v_icmp_ge (pc := 57) (tgt := 64) dX5_hindsight_57 rfl (by omega) (by omega) (fun c57 => ?_) (fun c57 => ?_)
            · refine v_iconst (pc := 64) dX5_hindsight_64 ?_
              refine v_ist6 (pc := 65) dX5_hindsight_65 rfl ?_
              refine v_ild1 (pc := 67) dX5_hindsight_67 ?_
              refine v_iconst (pc := 68) dX5_hindsight_68 ?_
              refine v_icmp_eq (pc := 69) (tgt := 99) dX5_hindsight_69 rfl (by omega) (by omega) (fun c69 => ?_) (fun c69 => ?_)
              · refine v_ild5 (pc := 99) dX5_hindsight_99 ?_
                refine v_ist1 (pc := 101) dX5_hindsight_101 rfl ?_
                refine v_ald0 (pc := 102) dX5_hindsight_102 ?_
                refine v_getf KX5 1 (pc := 103) dX5_hindsight_103 (lw_all_tbl q1995) (Or.inl rfl) (Nat.le_of_ble_eq_true rfl) (mw_obj hM) rfl ?_
                refine v_bipush (pc := 106) dX5_hindsight_106 ⟨by decide, by decide⟩ ?_
                refine v_ldM_now hM (pc := 108) dX5_hindsight_108 (by omega) ?_
                refine v_ist2 (pc := 109) dX5_hindsight_109 rfl ?_
                refine v_ald0 (pc := 110) dX5_hindsight_110 ?_
                refine v_getf KX5 1 (pc := 111) dX5_hindsight_111 (lw_all_tbl q1995) (Or.inl rfl) (Nat.le_of_ble_eq_true rfl) (mw_obj hM) rfl ?_
                refine v_bipush (pc := 114) dX5_hindsight_114 ⟨by decide, by decide⟩ ?_
                refine v_ldM_now hM (pc := 116) dX5_hindsight_116 (by omega) ?_
                refine v_ist3 (pc := 117) dX5_hindsight_117 rfl ?_
                refine v_ald0 (pc := 118) dX5_hindsight_118 ?_
                refine v_getf KX5 10 (pc := 119) dX5_hindsight_119 (lw_all_tbl q2004) (Or.inl rfl) (Nat.le_of_ble_eq_true rfl) (mw_obj hM) rfl ?_
                refine v_ist4 (pc := 122) dX5_hindsight_122 rfl ?_
                refine v_ald0 (pc := 124) dX5_hindsight_124 ?_
                refine v_getf KX5 2 (pc := 125) dX5_hindsight_125 (lw_all_tbl q1996) (Or.inl rfl) (Nat.le_of_ble_eq_true rfl) (mw_obj hM) rfl ?_
                refine v_iconst (pc := 128) dX5_hindsight_128 ?_
                refine v_ald0 (pc := 129) dX5_hindsight_129 ?_
                refine v_getf KX5 1 (pc := 130) dX5_hindsight_130 (lw_all_tbl q1995) (Or.inl rfl) (Nat.le_of_ble_eq_true rfl) (mw_obj hM) rfl ?_
                refine v_iconst (pc := 133) dX5_hindsight_133 ?_
                refine v_cv0 (pc := 134) (v_runS4 okX5_copies rfl (sp_cp_aside_now hM) dX5_hindsight_134 (lw_all_tbl q2253) (lw_all_tbl q2254) (Nat.le_of_ble_eq_true rfl) ⟨Nat.zero_le _, Nat.zero_le _⟩ (Nat.le_of_ble_eq_true rfl)) (fun h hM => ?_)
                rw [cpy_all hR.sup (mLz_ok hR (by omega) hH).sup] at hM
                rw [← hw5] at hM
                refine v_iinc5 (pc := 137) dX5_hindsight_137 rfl ?_
                refine v_goto (pc := 140) (tgt := 17) dX5_hindsight_140 rfl ?_
                refine v_forget 6 ?_
                exact ih _ (by omega) _ _ _ _ _ _ _ _ _ _ rfl hM hR.sup (by omega) (by omega) (by rw [fI_s hg.1, he]; unfold hStep; dsimp only; first | rw [if_pos (by omega)] | rw [if_neg (by omega)])
              · refine v_ald0 (pc := 72) dX5_hindsight_72 ?_
                refine v_getf KX5 1 (pc := 73) dX5_hindsight_73 (lw_all_tbl q1995) (Or.inl rfl) (Nat.le_of_ble_eq_true rfl) (mw_obj hM) rfl ?_
                refine v_bipush (pc := 76) dX5_hindsight_76 ⟨by decide, by decide⟩ ?_
                refine v_ldM_now hM (pc := 78) dX5_hindsight_78 (by omega) ?_
                refine v_ild2 (pc := 79) dX5_hindsight_79 ?_
                refine v_icmp_lt (pc := 80) (tgt := 99) dX5_hindsight_80 rfl (by omega) (by omega) (fun c80 => ?_) (fun c80 => ?_)
                · refine v_ild5 (pc := 99) dX5_hindsight_99 ?_
                  refine v_ist1 (pc := 101) dX5_hindsight_101 rfl ?_
                  refine v_ald0 (pc := 102) dX5_hindsight_102 ?_
                  refine v_getf KX5 1 (pc := 103) dX5_hindsight_103 (lw_all_tbl q1995) (Or.inl rfl) (Nat.le_of_ble_eq_true rfl) (mw_obj hM) rfl ?_
                  refine v_bipush (pc := 106) dX5_hindsight_106 ⟨by decide, by decide⟩ ?_
                  refine v_ldM_now hM (pc := 108) dX5_hindsight_108 (by omega) ?_
                  refine v_ist2 (pc := 109) dX5_hindsight_109 rfl ?_
                  refine v_ald0 (pc := 110) dX5_hindsight_110 ?_
                  refine v_getf KX5 1 (pc := 111) dX5_hindsight_111 (lw_all_tbl q1995) (Or.inl rfl) (Nat.le_of_ble_eq_true rfl) (mw_obj hM) rfl ?_
                  refine v_bipush (pc := 114) dX5_hindsight_114 ⟨by decide, by decide⟩ ?_
                  refine v_ldM_now hM (pc := 116) dX5_hindsight_116 (by omega) ?_
                  refine v_ist3 (pc := 117) dX5_hindsight_117 rfl ?_
                  refine v_ald0 (pc := 118) dX5_hindsight_118 ?_
                  refine v_getf KX5 10 (pc := 119) dX5_hindsight_119 (lw_all_tbl q2004) (Or.inl rfl) (Nat.le_of_ble_eq_true rfl) (mw_obj hM) rfl ?_
                  refine v_ist4 (pc := 122) dX5_hindsight_122 rfl ?_
                  refine v_ald0 (pc := 124) dX5_hindsight_124 ?_
                  refine v_getf KX5 2 (pc := 125) dX5_hindsight_125 (lw_all_tbl q1996) (Or.inl rfl) (Nat.le_of_ble_eq_true rfl) (mw_obj hM) rfl ?_
                  refine v_iconst (pc := 128) dX5_hindsight_128 ?_
                  refine v_ald0 (pc := 129) dX5_hindsight_129 ?_
                  refine v_getf KX5 1 (pc := 130) dX5_hindsight_130 (lw_all_tbl q1995) (Or.inl rfl) (Nat.le_of_ble_eq_true rfl) (mw_obj hM) rfl ?_
                  refine v_iconst (pc := 133) dX5_hindsight_133 ?_
                  refine v_cv0 (pc := 134) (v_runS4 okX5_copies rfl (sp_cp_aside_now hM) dX5_hindsight_134 (lw_all_tbl q2253) (lw_all_tbl q2254) (Nat.le_of_ble_eq_true rfl) ⟨Nat.zero_le _, Nat.zero_le _⟩ (Nat.le_of_ble_eq_true rfl)) (fun h hM => ?_)
                  rw [cpy_all hR.sup (mLz_ok hR (by omega) hH).sup] at hM
                  rw [← hw5] at hM
                  refine v_iinc5 (pc := 137) dX5_hindsight_137 rfl ?_
                  refine v_goto (pc := 140) (tgt := 17) dX5_hindsight_140 rfl ?_
                  refine v_forget 6 ?_
                  exact ih _ (by omega) _ _ _ _ _ _ _ _ _ _ rfl hM hR.sup (by omega) (by omega) (by rw [fI_s hg.1, he]; unfold hStep; dsimp only; first | rw [if_pos (by omega)] | rw [if_neg (by omega)])
                · refine v_ald0 (pc := 83) dX5_hindsight_83 ?_
                  refine v_getf KX5 1 (pc := 84) dX5_hindsight_84 (lw_all_tbl q1995) (Or.inl rfl) (Nat.le_of_ble_eq_true rfl) (mw_obj hM) rfl ?_
                  refine v_bipush (pc := 87) dX5_hindsight_87 ⟨by decide, by decide⟩ ?_
                  refine v_ldM_now hM (pc := 89) dX5_hindsight_89 (by omega) ?_
                  refine v_ild2 (pc := 90) dX5_hindsight_90 ?_
                  refine v_icmp_ne (pc := 91) (tgt := 124) dX5_hindsight_91 rfl (by omega) (by omega) (fun c91 => ?_) (fun c91 => ?_)
                  · refine v_ald0 (pc := 124) dX5_hindsight_124 ?_
                    refine v_getf KX5 2 (pc := 125) dX5_hindsight_125 (lw_all_tbl q1996) (Or.inl rfl) (Nat.le_of_ble_eq_true rfl) (mw_obj hM) rfl ?_
                    refine v_iconst (pc := 128) dX5_hindsight_128 ?_
                    refine v_ald0 (pc := 129) dX5_hindsight_129 ?_
                    refine v_getf KX5 1 (pc := 130) dX5_hindsight_130 (lw_all_tbl q1995) (Or.inl rfl) (Nat.le_of_ble_eq_true rfl) (mw_obj hM) rfl ?_
                    refine v_iconst (pc := 133) dX5_hindsight_133 ?_
                    refine v_cv0 (pc := 134) (v_runS4 okX5_copies rfl (sp_cp_aside_now hM) dX5_hindsight_134 (lw_all_tbl q2253) (lw_all_tbl q2254) (Nat.le_of_ble_eq_true rfl) ⟨Nat.zero_le _, Nat.zero_le _⟩ (Nat.le_of_ble_eq_true rfl)) (fun h hM => ?_)
                    rw [cpy_all hR.sup (mLz_ok hR (by omega) hH).sup] at hM
                    rw [← hw5] at hM
                    refine v_iinc5 (pc := 137) dX5_hindsight_137 rfl ?_
                    refine v_goto (pc := 140) (tgt := 17) dX5_hindsight_140 rfl ?_
                    refine v_forget 6 ?_
                    exact ih _ (by omega) _ _ _ _ _ _ _ _ _ _ rfl hM hR.sup (by omega) (by omega) (by rw [fI_s hg.1, he]; unfold hStep; dsimp only; first | rw [if_pos (by omega)] | rw [if_neg (by omega)])
                  · refine v_ild6 (pc := 94) dX5_hindsight_94 ?_
                    refine v_if_eq0 (pc := 96) (tgt := 124) dX5_hindsight_96 rfl ?_
                    refine v_ald0 (pc := 124) dX5_hindsight_124 ?_
                    refine v_getf KX5 2 (pc := 125) dX5_hindsight_125 (lw_all_tbl q1996) (Or.inl rfl) (Nat.le_of_ble_eq_true rfl) (mw_obj hM) rfl ?_
                    refine v_iconst (pc := 128) dX5_hindsight_128 ?_
                    refine v_ald0 (pc := 129) dX5_hindsight_129 ?_
                    refine v_getf KX5 1 (pc := 130) dX5_hindsight_130 (lw_all_tbl q1995) (Or.inl rfl) (Nat.le_of_ble_eq_true rfl) (mw_obj hM) rfl ?_
                    refine v_iconst (pc := 133) dX5_hindsight_133 ?_
                    refine v_cv0 (pc := 134) (v_runS4 okX5_copies rfl (sp_cp_aside_now hM) dX5_hindsight_134 (lw_all_tbl q2253) (lw_all_tbl q2254) (Nat.le_of_ble_eq_true rfl) ⟨Nat.zero_le _, Nat.zero_le _⟩ (Nat.le_of_ble_eq_true rfl)) (fun h hM => ?_)
                    rw [cpy_all hR.sup (mLz_ok hR (by omega) hH).sup] at hM
                    rw [← hw5] at hM
                    refine v_iinc5 (pc := 137) dX5_hindsight_137 rfl ?_
                    refine v_goto (pc := 140) (tgt := 17) dX5_hindsight_140 rfl ?_
                    refine v_forget 6 ?_
                    exact ih _ (by omega) _ _ _ _ _ _ _ _ _ _ rfl hM hR.sup (by omega) (by omega) (by rw [fI_s hg.1, he]; unfold hStep; dsimp only; first | rw [if_pos (by omega)] | rw [if_neg (by omega)])
            · refine v_iconst (pc := 60) dX5_hindsight_60 ?_
              refine v_goto (pc := 61) (tgt := 65) dX5_hindsight_61 rfl ?_
              refine v_ist6 (pc := 65) dX5_hindsight_65 rfl ?_
              refine v_ild1 (pc := 67) dX5_hindsight_67 ?_
              refine v_iconst (pc := 68) dX5_hindsight_68 ?_
              refine v_icmp_eq (pc := 69) (tgt := 99) dX5_hindsight_69 rfl (by omega) (by omega) (fun c69 => ?_) (fun c69 => ?_)
              · refine v_ild5 (pc := 99) dX5_hindsight_99 ?_
                refine v_ist1 (pc := 101) dX5_hindsight_101 rfl ?_
                refine v_ald0 (pc := 102) dX5_hindsight_102 ?_
                refine v_getf KX5 1 (pc := 103) dX5_hindsight_103 (lw_all_tbl q1995) (Or.inl rfl) (Nat.le_of_ble_eq_true rfl) (mw_obj hM) rfl ?_
                refine v_bipush (pc := 106) dX5_hindsight_106 ⟨by decide, by decide⟩ ?_
                refine v_ldM_now hM (pc := 108) dX5_hindsight_108 (by omega) ?_
                refine v_ist2 (pc := 109) dX5_hindsight_109 rfl ?_
                refine v_ald0 (pc := 110) dX5_hindsight_110 ?_
                refine v_getf KX5 1 (pc := 111) dX5_hindsight_111 (lw_all_tbl q1995) (Or.inl rfl) (Nat.le_of_ble_eq_true rfl) (mw_obj hM) rfl ?_
                refine v_bipush (pc := 114) dX5_hindsight_114 ⟨by decide, by decide⟩ ?_
                refine v_ldM_now hM (pc := 116) dX5_hindsight_116 (by omega) ?_
                refine v_ist3 (pc := 117) dX5_hindsight_117 rfl ?_
                refine v_ald0 (pc := 118) dX5_hindsight_118 ?_
                refine v_getf KX5 10 (pc := 119) dX5_hindsight_119 (lw_all_tbl q2004) (Or.inl rfl) (Nat.le_of_ble_eq_true rfl) (mw_obj hM) rfl ?_
                refine v_ist4 (pc := 122) dX5_hindsight_122 rfl ?_
                refine v_ald0 (pc := 124) dX5_hindsight_124 ?_
                refine v_getf KX5 2 (pc := 125) dX5_hindsight_125 (lw_all_tbl q1996) (Or.inl rfl) (Nat.le_of_ble_eq_true rfl) (mw_obj hM) rfl ?_
                refine v_iconst (pc := 128) dX5_hindsight_128 ?_
                refine v_ald0 (pc := 129) dX5_hindsight_129 ?_
                refine v_getf KX5 1 (pc := 130) dX5_hindsight_130 (lw_all_tbl q1995) (Or.inl rfl) (Nat.le_of_ble_eq_true rfl) (mw_obj hM) rfl ?_
                refine v_iconst (pc := 133) dX5_hindsight_133 ?_
                refine v_cv0 (pc := 134) (v_runS4 okX5_copies rfl (sp_cp_aside_now hM) dX5_hindsight_134 (lw_all_tbl q2253) (lw_all_tbl q2254) (Nat.le_of_ble_eq_true rfl) ⟨Nat.zero_le _, Nat.zero_le _⟩ (Nat.le_of_ble_eq_true rfl)) (fun h hM => ?_)
                rw [cpy_all hR.sup (mLz_ok hR (by omega) hH).sup] at hM
                rw [← hw5] at hM
                refine v_iinc5 (pc := 137) dX5_hindsight_137 rfl ?_
                refine v_goto (pc := 140) (tgt := 17) dX5_hindsight_140 rfl ?_
                refine v_forget 6 ?_
                exact ih _ (by omega) _ _ _ _ _ _ _ _ _ _ rfl hM hR.sup (by omega) (by omega) (by rw [fI_s hg.1, he]; unfold hStep; dsimp only; first | rw [if_pos (by omega)] | rw [if_neg (by omega)])
              · refine v_ald0 (pc := 72) dX5_hindsight_72 ?_
                refine v_getf KX5 1 (pc := 73) dX5_hindsight_73 (lw_all_tbl q1995) (Or.inl rfl) (Nat.le_of_ble_eq_true rfl) (mw_obj hM) rfl ?_
                refine v_bipush (pc := 76) dX5_hindsight_76 ⟨by decide, by decide⟩ ?_
                refine v_ldM_now hM (pc := 78) dX5_hindsight_78 (by omega) ?_
                refine v_ild2 (pc := 79) dX5_hindsight_79 ?_
                refine v_icmp_lt (pc := 80) (tgt := 99) dX5_hindsight_80 rfl (by omega) (by omega) (fun c80 => ?_) (fun c80 => ?_)
                · refine v_ild5 (pc := 99) dX5_hindsight_99 ?_
                  refine v_ist1 (pc := 101) dX5_hindsight_101 rfl ?_
                  refine v_ald0 (pc := 102) dX5_hindsight_102 ?_
                  refine v_getf KX5 1 (pc := 103) dX5_hindsight_103 (lw_all_tbl q1995) (Or.inl rfl) (Nat.le_of_ble_eq_true rfl) (mw_obj hM) rfl ?_
                  refine v_bipush (pc := 106) dX5_hindsight_106 ⟨by decide, by decide⟩ ?_
                  refine v_ldM_now hM (pc := 108) dX5_hindsight_108 (by omega) ?_
                  refine v_ist2 (pc := 109) dX5_hindsight_109 rfl ?_
                  refine v_ald0 (pc := 110) dX5_hindsight_110 ?_
                  refine v_getf KX5 1 (pc := 111) dX5_hindsight_111 (lw_all_tbl q1995) (Or.inl rfl) (Nat.le_of_ble_eq_true rfl) (mw_obj hM) rfl ?_
                  refine v_bipush (pc := 114) dX5_hindsight_114 ⟨by decide, by decide⟩ ?_
                  refine v_ldM_now hM (pc := 116) dX5_hindsight_116 (by omega) ?_
                  refine v_ist3 (pc := 117) dX5_hindsight_117 rfl ?_
                  refine v_ald0 (pc := 118) dX5_hindsight_118 ?_
                  refine v_getf KX5 10 (pc := 119) dX5_hindsight_119 (lw_all_tbl q2004) (Or.inl rfl) (Nat.le_of_ble_eq_true rfl) (mw_obj hM) rfl ?_
                  refine v_ist4 (pc := 122) dX5_hindsight_122 rfl ?_
                  refine v_ald0 (pc := 124) dX5_hindsight_124 ?_
                  refine v_getf KX5 2 (pc := 125) dX5_hindsight_125 (lw_all_tbl q1996) (Or.inl rfl) (Nat.le_of_ble_eq_true rfl) (mw_obj hM) rfl ?_
                  refine v_iconst (pc := 128) dX5_hindsight_128 ?_
                  refine v_ald0 (pc := 129) dX5_hindsight_129 ?_
                  refine v_getf KX5 1 (pc := 130) dX5_hindsight_130 (lw_all_tbl q1995) (Or.inl rfl) (Nat.le_of_ble_eq_true rfl) (mw_obj hM) rfl ?_
                  refine v_iconst (pc := 133) dX5_hindsight_133 ?_
                  refine v_cv0 (pc := 134) (v_runS4 okX5_copies rfl (sp_cp_aside_now hM) dX5_hindsight_134 (lw_all_tbl q2253) (lw_all_tbl q2254) (Nat.le_of_ble_eq_true rfl) ⟨Nat.zero_le _, Nat.zero_le _⟩ (Nat.le_of_ble_eq_true rfl)) (fun h hM => ?_)
                  rw [cpy_all hR.sup (mLz_ok hR (by omega) hH).sup] at hM
                  rw [← hw5] at hM
                  refine v_iinc5 (pc := 137) dX5_hindsight_137 rfl ?_
                  refine v_goto (pc := 140) (tgt := 17) dX5_hindsight_140 rfl ?_
                  refine v_forget 6 ?_
                  exact ih _ (by omega) _ _ _ _ _ _ _ _ _ _ rfl hM hR.sup (by omega) (by omega) (by rw [fI_s hg.1, he]; unfold hStep; dsimp only; first | rw [if_pos (by omega)] | rw [if_neg (by omega)])
                · refine v_ald0 (pc := 83) dX5_hindsight_83 ?_
                  refine v_getf KX5 1 (pc := 84) dX5_hindsight_84 (lw_all_tbl q1995) (Or.inl rfl) (Nat.le_of_ble_eq_true rfl) (mw_obj hM) rfl ?_
                  refine v_bipush (pc := 87) dX5_hindsight_87 ⟨by decide, by decide⟩ ?_
                  refine v_ldM_now hM (pc := 89) dX5_hindsight_89 (by omega) ?_
                  refine v_ild2 (pc := 90) dX5_hindsight_90 ?_
                  refine v_icmp_ne (pc := 91) (tgt := 124) dX5_hindsight_91 rfl (by omega) (by omega) (fun c91 => ?_) (fun c91 => ?_)
                  · refine v_ald0 (pc := 124) dX5_hindsight_124 ?_
                    refine v_getf KX5 2 (pc := 125) dX5_hindsight_125 (lw_all_tbl q1996) (Or.inl rfl) (Nat.le_of_ble_eq_true rfl) (mw_obj hM) rfl ?_
                    refine v_iconst (pc := 128) dX5_hindsight_128 ?_
                    refine v_ald0 (pc := 129) dX5_hindsight_129 ?_
                    refine v_getf KX5 1 (pc := 130) dX5_hindsight_130 (lw_all_tbl q1995) (Or.inl rfl) (Nat.le_of_ble_eq_true rfl) (mw_obj hM) rfl ?_
                    refine v_iconst (pc := 133) dX5_hindsight_133 ?_
                    refine v_cv0 (pc := 134) (v_runS4 okX5_copies rfl (sp_cp_aside_now hM) dX5_hindsight_134 (lw_all_tbl q2253) (lw_all_tbl q2254) (Nat.le_of_ble_eq_true rfl) ⟨Nat.zero_le _, Nat.zero_le _⟩ (Nat.le_of_ble_eq_true rfl)) (fun h hM => ?_)
                    rw [cpy_all hR.sup (mLz_ok hR (by omega) hH).sup] at hM
                    rw [← hw5] at hM
                    refine v_iinc5 (pc := 137) dX5_hindsight_137 rfl ?_
                    refine v_goto (pc := 140) (tgt := 17) dX5_hindsight_140 rfl ?_
                    refine v_forget 6 ?_
                    exact ih _ (by omega) _ _ _ _ _ _ _ _ _ _ rfl hM hR.sup (by omega) (by omega) (by rw [fI_s hg.1, he]; unfold hStep; dsimp only; first | rw [if_pos (by omega)] | rw [if_neg (by omega)])
                  · refine v_ild6 (pc := 94) dX5_hindsight_94 ?_
                    refine v_if_eq1 (pc := 96) (tgt := 124) dX5_hindsight_96 rfl ?_
                    refine v_ild5 (pc := 99) dX5_hindsight_99 ?_
                    refine v_ist1 (pc := 101) dX5_hindsight_101 rfl ?_
                    refine v_ald0 (pc := 102) dX5_hindsight_102 ?_
                    refine v_getf KX5 1 (pc := 103) dX5_hindsight_103 (lw_all_tbl q1995) (Or.inl rfl) (Nat.le_of_ble_eq_true rfl) (mw_obj hM) rfl ?_
                    refine v_bipush (pc := 106) dX5_hindsight_106 ⟨by decide, by decide⟩ ?_
                    refine v_ldM_now hM (pc := 108) dX5_hindsight_108 (by omega) ?_
                    refine v_ist2 (pc := 109) dX5_hindsight_109 rfl ?_
                    refine v_ald0 (pc := 110) dX5_hindsight_110 ?_
                    refine v_getf KX5 1 (pc := 111) dX5_hindsight_111 (lw_all_tbl q1995) (Or.inl rfl) (Nat.le_of_ble_eq_true rfl) (mw_obj hM) rfl ?_
                    refine v_bipush (pc := 114) dX5_hindsight_114 ⟨by decide, by decide⟩ ?_
                    refine v_ldM_now hM (pc := 116) dX5_hindsight_116 (by omega) ?_
                    refine v_ist3 (pc := 117) dX5_hindsight_117 rfl ?_
                    refine v_ald0 (pc := 118) dX5_hindsight_118 ?_
                    refine v_getf KX5 10 (pc := 119) dX5_hindsight_119 (lw_all_tbl q2004) (Or.inl rfl) (Nat.le_of_ble_eq_true rfl) (mw_obj hM) rfl ?_
                    refine v_ist4 (pc := 122) dX5_hindsight_122 rfl ?_
                    refine v_ald0 (pc := 124) dX5_hindsight_124 ?_
                    refine v_getf KX5 2 (pc := 125) dX5_hindsight_125 (lw_all_tbl q1996) (Or.inl rfl) (Nat.le_of_ble_eq_true rfl) (mw_obj hM) rfl ?_
                    refine v_iconst (pc := 128) dX5_hindsight_128 ?_
                    refine v_ald0 (pc := 129) dX5_hindsight_129 ?_
                    refine v_getf KX5 1 (pc := 130) dX5_hindsight_130 (lw_all_tbl q1995) (Or.inl rfl) (Nat.le_of_ble_eq_true rfl) (mw_obj hM) rfl ?_
                    refine v_iconst (pc := 133) dX5_hindsight_133 ?_
                    refine v_cv0 (pc := 134) (v_runS4 okX5_copies rfl (sp_cp_aside_now hM) dX5_hindsight_134 (lw_all_tbl q2253) (lw_all_tbl q2254) (Nat.le_of_ble_eq_true rfl) ⟨Nat.zero_le _, Nat.zero_le _⟩ (Nat.le_of_ble_eq_true rfl)) (fun h hM => ?_)
                    rw [cpy_all hR.sup (mLz_ok hR (by omega) hH).sup] at hM
                    rw [← hw5] at hM
                    refine v_iinc5 (pc := 137) dX5_hindsight_137 rfl ?_
                    refine v_goto (pc := 140) (tgt := 17) dX5_hindsight_140 rfl ?_
                    refine v_forget 6 ?_
                    exact ih _ (by omega) _ _ _ _ _ _ _ _ _ _ rfl hM hR.sup (by omega) (by omega) (by rw [fI_s hg.1, he]; unfold hStep; dsimp only; first | rw [if_pos (by omega)] | rw [if_neg (by omega)])
  refine v_ald0 (pc := 0) dX5_hindsight_0 ?_
  refine v_iconst (pc := 1) dX5_hindsight_1 ?_
  refine v_ptM_thrown hM (pc := 2) dX5_hindsight_2 (lw_all_tbl q1994) (fun h hM => ?_)
  refine v_iconst (pc := 5) dX5_hindsight_5 ?_
  refine v_ist1 (pc := 6) dX5_hindsight_6 rfl ?_
  refine v_iconst (pc := 7) dX5_hindsight_7 ?_
  refine v_ist2 (pc := 8) dX5_hindsight_8 rfl ?_
  refine v_iconst (pc := 9) dX5_hindsight_9 ?_
  refine v_ist3 (pc := 10) dX5_hindsight_10 rfl ?_
  refine v_iconst (pc := 11) dX5_hindsight_11 ?_
  refine v_ist4 (pc := 12) dX5_hindsight_12 rfl ?_
  refine v_iconst (pc := 14) dX5_hindsight_14 ?_
  refine v_ist5 (pc := 15) dX5_hindsight_15 rfl ?_
  exact L17 _ _ _ _ _ _ _ _ _ _ _ rfl hM hS (by omega) (by omega) rfl
