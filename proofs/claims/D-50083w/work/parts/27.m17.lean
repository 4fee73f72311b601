/-! FlashZonesModel: walks, 17: commands (printed by gen) -/
set_option maxRecDepth 100000
theorem pEr_r {e : Int} {s : TS} (h : 0 < e ∧ e ≤ 9) : 0 < (pEr e s).1 ∧ (pEr e s).1 ≤ 9 := h
theorem sp_X5_readCommand {Γ : Cx} {t : Nat} {α : Nat → Nat} {h0 h : AH} {thrown : Int} {now : Int → Int} {aside : Int → Int} {tried : Int → Int} {undos : Int → Int} {undoMany : Int} {saved : Int → Int} {isSaved : Int → Int} {accounts : Int → Int} {way : Int} {leftOut : Int} {here : Int → Int} {text : Int → Int} {length : Int} {error : Int} {errorAt : Int} {commands : Int} {command : Int → Int} {out : Int → Int} {outLong : Int} {s : TS}  (hM : MW t α h0 h thrown now aside tried undos undoMany saved isSaved accounts way leftOut here text length s.1 s.2.1 s.2.2.1 s.2.2.2 error errorAt commands command out outLong) (hat : 0 ≤ s.2.1 ∧ s.2.1 ≤ s.1 ∧ s.1 ≤ length) (hl : 0 ≤ length ∧ length ≤ 700) (htk : 0 ≤ s.2.2.1 ∧ s.2.2.1 ≤ 4) (hn : 0 ≤ s.2.2.2 ∧ s.2.2.2 ≤ 110000) (he : error = 0) (hcm : 0 ≤ commands ∧ commands ≤ 60) (htx : ∀ i, -128 ≤ text i ∧ text i ≤ 127) : Sp Γ yX5_readCommand mX5_readCommand 6 0 0 [.ref (α 0)] h (Qv (fun h' => ((pCmd text length commands s).1 = 0 ∧ ∃ cm, pGood command cm commands (pCmd text length commands s).2.2.2.1 (pCmd text length commands s).2.2.2.2.1 (pCmd text length commands s).2.2.2.2.2.1 (pCmd text length commands s).2.2.2.2.2.2 ∧ MW t α h0 h' thrown now aside tried undos undoMany saved isSaved accounts way leftOut here text length ((pCmd text length commands s).2.2.1.1) ((pCmd text length commands s).2.2.1.2.1) ((pCmd text length commands s).2.2.1.2.2.1) ((pCmd text length commands s).2.2.1.2.2.2) error errorAt (commands + 1) cm out outLong) ∨ ((0 < (pCmd text length commands s).1 ∧ (pCmd text length commands s).1 ≤ 9) ∧ ∃ a f k m cm, MW t α h0 h' thrown now aside tried undos undoMany saved isSaved accounts way leftOut here text length a f k m ((pCmd text length commands s).1) ((pCmd text length commands s).2.1) commands cm out outLong))) NoX := by
  refine sp_of okX5_readCommand (cat_all rfl) (Nat.le_of_ble_eq_true rfl) rfl ?_
  have hwd := tWd_r text s
  refine v_ald0 (pc := 0) dX5_readCommand_0 ?_
  refine v_ce0 (pc := 1) (v_runV0 okX5_wordHere rfl (sp_X5_wordHere hM (by omega) (by omega) (by omega)) dX5_readCommand_1 (lw_all_tbl q2470) (lw_all_tbl q2472) (lw_all_tbl qs104) rfl (mw_obj hM) (Nat.le_of_ble_eq_true rfl) ⟨Nat.zero_le _, Nat.zero_le _⟩ (Nat.le_of_ble_eq_true rfl)) ?_
  rw [show ((s.1, s.2.1, s.2.2.1, s.2.2.2) : TS) = s from rfl]
  refine v_ist1 (pc := 4) dX5_readCommand_4 rfl ?_
  refine v_ald0 (pc := 5) dX5_readCommand_5 ?_
  refine v_ild1 (pc := 6) dX5_readCommand_6 ?_
  refine v_iconst (pc := 7) dX5_readCommand_7 ?_
  refine v_iconst (pc := 8) dX5_readCommand_8 ?_
  refine v_cb0 (pc := 9) (v_runS3 okX5_in rfl (sp_X5_in (by omega) (by omega) (by omega)) dX5_readCommand_9 (lw_all_tbl q2079) (lw_all_tbl q2080) (Nat.le_of_ble_eq_true rfl) ⟨Nat.zero_le _, Nat.zero_le _⟩ (Nat.le_of_ble_eq_true rfl)) (fun c9 => ?_) (fun c9 => ?_)
  · refine v_iconst (pc := 12) dX5_readCommand_12 ?_
    refine v_cv0 (pc := 13) (v_runV2 okX5_must rfl (sp_must1 hM) dX5_readCommand_13 (lw_all_tbl q2474) (lw_all_tbl q2476) (lw_all_tbl qs105) rfl (mw_obj hM) (Nat.le_of_ble_eq_true rfl) ⟨Nat.zero_le _, Nat.zero_le _⟩ (Nat.le_of_ble_eq_true rfl)) (fun h hM => ?_)
    refine v_ald0 (pc := 16) dX5_readCommand_16 ?_
    refine v_ald0 (pc := 17) dX5_readCommand_17 ?_
    refine v_getf KX5 21 (pc := 18) dX5_readCommand_18 (lw_all_tbl q2015) (Or.inl rfl) (Nat.le_of_ble_eq_true rfl) (mw_obj hM) rfl ?_
    refine v_bipush (pc := 21) dX5_readCommand_21 ⟨by decide, by decide⟩ ?_
    refine v_icmp_ge (pc := 23) (tgt := 30) dX5_readCommand_23 rfl (by omega) (by omega) (fun c23 => ?_) (fun c23 => ?_)
    · refine v_iconst (pc := 30) dX5_readCommand_30 ?_
      refine v_iconst (pc := 31) dX5_readCommand_31 ?_
      refine v_cv0 (pc := 32) (v_runV2 okX5_must rfl (sp_must0 hM (by omega)) dX5_readCommand_32 (lw_all_tbl q2474) (lw_all_tbl q2476) (lw_all_tbl qs105) rfl (mw_obj hM) (Nat.le_of_ble_eq_true rfl) ⟨Nat.zero_le _, Nat.zero_le _⟩ (Nat.le_of_ble_eq_true rfl)) (fun h hM => ?_)
      refine v_ald0 (pc := 35) dX5_readCommand_35 ?_
      refine v_getf KX5 18 (pc := 36) dX5_readCommand_36 (lw_all_tbl q2012) (Or.inl rfl) (Nat.le_of_ble_eq_true rfl) (mw_obj hM) rfl ?_
      refine v_if_le (pc := 39) (tgt := 43) dX5_readCommand_39 rfl (by omega) (fun c39 => absurd c39 (by omega)) (fun c39 => ?_)
      refine v_ret_v (pc := 42) dX5_readCommand_42 rfl ?_
      first | exact qv_ok (Or.inr (by rw [show (pCmd text length commands s) = pEr 1 s from by unfold pCmd; rw [if_pos c9]]; exact ⟨pEr_r (by omega), _, _, _, _, _, hM⟩)) | exact qv_ok (Or.inr (by rw [show (pCmd text length commands s) = pEr 3 s from by unfold pCmd; rw [if_neg (fun q => q c9), if_pos (by omega)]]; exact ⟨pEr_r (by omega), _, _, _, _, _, hM⟩))
    · refine v_iconst (pc := 26) dX5_readCommand_26 ?_
      refine v_goto (pc := 27) (tgt := 31) dX5_readCommand_27 rfl ?_
      refine v_iconst (pc := 31) dX5_readCommand_31 ?_
      refine v_cv0 (pc := 32) (v_runV2 okX5_must rfl (sp_must1 hM) dX5_readCommand_32 (lw_all_tbl q2474) (lw_all_tbl q2476) (lw_all_tbl qs105) rfl (mw_obj hM) (Nat.le_of_ble_eq_true rfl) ⟨Nat.zero_le _, Nat.zero_le _⟩ (Nat.le_of_ble_eq_true rfl)) (fun h hM => ?_)
      refine v_ald0 (pc := 35) dX5_readCommand_35 ?_
      refine v_getf KX5 18 (pc := 36) dX5_readCommand_36 (lw_all_tbl q2012) (Or.inl rfl) (Nat.le_of_ble_eq_true rfl) (mw_obj hM) rfl ?_
      refine v_if_le (pc := 39) (tgt := 43) dX5_readCommand_39 rfl (by omega) (fun c39 => ?_) (fun c39 => absurd c39 (by omega))
      refine v_ald0 (pc := 43) dX5_readCommand_43 ?_
      refine v_cv0 (pc := 44) (v_runV0 okX5_goesOn rfl (sp_X5_goesOn hM (by omega) (by omega)) dX5_readCommand_44 (lw_all_tbl q2450) (lw_all_tbl q2452) (lw_all_tbl qs99) rfl (mw_obj hM) (Nat.le_of_ble_eq_true rfl) ⟨Nat.zero_le _, Nat.zero_le _⟩ (Nat.le_of_ble_eq_true rfl)) (fun h hM => ?_)
      have r44 := tGo_r (tx := text) (len := length) (a := s.1) (by omega)
      obtain ⟨s44, hs44⟩ : ∃ q, tGo text length s.1 = q := ⟨_, rfl⟩
      rw [hs44] at hM r44
      refine v_iconst (pc := 47) dX5_readCommand_47 ?_
      refine v_ald0 (pc := 48) dX5_readCommand_48 ?_
      refine v_getf KX5 21 (pc := 49) dX5_readCommand_49 (lw_all_tbl q2015) (Or.inl rfl) (Nat.le_of_ble_eq_true rfl) (mw_obj hM) rfl ?_
      refine v_imul (pc := 52) dX5_readCommand_52 ?_
      refine v_ist2 (pc := 53) dX5_readCommand_53 rfl ?_
      refine v_ald0 (pc := 54) dX5_readCommand_54 ?_
      refine v_getf KX5 22 (pc := 55) dX5_readCommand_55 (lw_all_tbl q2016) (Or.inl rfl) (Nat.le_of_ble_eq_true rfl) (mw_obj hM) rfl ?_
      refine v_ild2 (pc := 58) dX5_readCommand_58 ?_
      refine v_ild1 (pc := 59) dX5_readCommand_59 ?_
      refine v_stM_command hM (pc := 60) dX5_readCommand_60 (by omega) (fun h hM => ?_)
      refine v_ild1 (pc := 61) dX5_readCommand_61 ?_
      refine v_if_ne (pc := 62) (tgt := 131) dX5_readCommand_62 rfl (by omega) (fun c62 => ?_) (fun c62 => ?_)
      · have hq : (pCmd text length commands s) = pO1 text length s44 (tWd text s) := by unfold pCmd; rw [if_neg (fun q => q c9), if_neg (fun q => q (by omega)), if_neg (by omega), hs44]
        refine v_ald0 (pc := 131) dX5_readCommand_131 ?_
        refine v_getf KX5 22 (pc := 132) dX5_readCommand_132 (lw_all_tbl q2016) (Or.inl rfl) (Nat.le_of_ble_eq_true rfl) (mw_obj hM) rfl ?_
        refine v_ild2 (pc := 135) dX5_readCommand_135 ?_
        refine v_iconst (pc := 136) dX5_readCommand_136 ?_
        refine v_iadd (pc := 137) dX5_readCommand_137 ?_
        refine v_ild1 (pc := 138) dX5_readCommand_138 ?_
        refine v_iconst (pc := 139) dX5_readCommand_139 ?_
        refine v_icmp_ne (pc := 140) (tgt := 153) dX5_readCommand_140 rfl (by omega) (by omega) (fun c140 => ?_) (fun c140 => ?_)
        · refine v_ald0 (pc := 153) dX5_readCommand_153 ?_
          refine v_iconst (pc := 154) dX5_readCommand_154 ?_
          refine v_ild1 (pc := 155) dX5_readCommand_155 ?_
          refine v_iconst (pc := 156) dX5_readCommand_156 ?_
          refine v_icmp_ne (pc := 157) (tgt := 165) dX5_readCommand_157 rfl (by omega) (by omega) (fun c157 => ?_) (fun c157 => ?_)
          · refine v_bipush (pc := 165) dX5_readCommand_165 ⟨by decide, by decide⟩ ?_
            refine v_ci0 (pc := 167) (v_runV2 okX5_reads rfl (sp_reads0 hM (by omega) (by omega) (by omega) (by omega) (by omega) (by omega)) dX5_readCommand_167 (lw_all_tbl q2478) (lw_all_tbl q2480) (lw_all_tbl qs106) rfl (mw_obj hM) (Nat.le_of_ble_eq_true rfl) ⟨Nat.zero_le _, Nat.zero_le _⟩ (Nat.le_of_ble_eq_true rfl)) (fun x167 h hr167 => ?_)
            rcases hr167 with ⟨c167, ex167, hM⟩ | ⟨c167, ex167, hM⟩ <;> subst ex167
            · skip
              have r167 := tGo_r (tx := text) (len := length) (a := s44.1) (by omega)
              obtain ⟨s167, hs167⟩ : ∃ q, tGo text length s44.1 = q := ⟨_, rfl⟩
              rw [hs167] at hM r167
              have n167 := tBad_n c167
              rw [pO1, if_neg (show ¬ tWd text s = 4 by omega), if_neg (show ¬ tWd text s = 4 by omega)] at hq
              first | rw [if_pos (show tWd text s = 1 by omega), if_neg c167, hs167] at hq | rw [if_neg (show ¬ tWd text s = 1 by omega), if_neg c167, hs167] at hq
              refine v_stM_command hM (pc := 170) dX5_readCommand_170 (by omega) (fun h hM => ?_)
              refine v_ald0 (pc := 171) dX5_readCommand_171 ?_
              refine v_ald0 (pc := 172) dX5_readCommand_172 ?_
              refine v_getf KX5 16 (pc := 173) dX5_readCommand_173 (lw_all_tbl q2010) (Or.inl rfl) (Nat.le_of_ble_eq_true rfl) (mw_obj hM) rfl ?_
              refine v_iconst (pc := 176) dX5_readCommand_176 ?_
              refine v_icmp_ne (pc := 177) (tgt := 184) dX5_readCommand_177 rfl (by omega) (by omega) (fun c177 => ?_) (fun c177 => ?_)
              · rw [pEnd, if_neg (by omega)] at hq
                refine v_iconst (pc := 184) dX5_readCommand_184 ?_
                refine v_iconst (pc := 185) dX5_readCommand_185 ?_
                refine v_cv0 (pc := 186) (v_runV2 okX5_must rfl (sp_must0 hM (by omega)) dX5_readCommand_186 (lw_all_tbl q2474) (lw_all_tbl q2476) (lw_all_tbl qs105) rfl (mw_obj hM) (Nat.le_of_ble_eq_true rfl) ⟨Nat.zero_le _, Nat.zero_le _⟩ (Nat.le_of_ble_eq_true rfl)) (fun h hM => ?_)
                refine v_ald0 (pc := 189) dX5_readCommand_189 ?_
                refine v_getf KX5 18 (pc := 190) dX5_readCommand_190 (lw_all_tbl q2012) (Or.inl rfl) (Nat.le_of_ble_eq_true rfl) (mw_obj hM) rfl ?_
                refine v_if_ne (pc := 193) (tgt := 210) dX5_readCommand_193 rfl (by omega) (fun c193 => ?_) (fun c193 => absurd c193 (by omega))
                refine v_ret_v (pc := 210) dX5_readCommand_210 rfl ?_
                first | exact qv_ok (Or.inl (by rw [hq]; exact ⟨rfl, _, pGood4 _ _ _ _ _ _ _ (by omega), hM⟩)) | exact qv_ok (Or.inl (by rw [hq]; exact ⟨rfl, _, pGood2 _ _ _ _ _ _ (by omega), hM⟩)) | exact qv_ok (Or.inr (by rw [hq]; exact ⟨pEr_r (by omega), _, _, _, _, _, hM⟩))
              · rw [pEnd, if_pos (by omega)] at hq
                refine v_iconst (pc := 180) dX5_readCommand_180 ?_
                refine v_goto (pc := 181) (tgt := 185) dX5_readCommand_181 rfl ?_
                refine v_iconst (pc := 185) dX5_readCommand_185 ?_
                refine v_cv0 (pc := 186) (v_runV2 okX5_must rfl (sp_must1 hM) dX5_readCommand_186 (lw_all_tbl q2474) (lw_all_tbl q2476) (lw_all_tbl qs105) rfl (mw_obj hM) (Nat.le_of_ble_eq_true rfl) ⟨Nat.zero_le _, Nat.zero_le _⟩ (Nat.le_of_ble_eq_true rfl)) (fun h hM => ?_)
                refine v_ald0 (pc := 189) dX5_readCommand_189 ?_
                refine v_getf KX5 18 (pc := 190) dX5_readCommand_190 (lw_all_tbl q2012) (Or.inl rfl) (Nat.le_of_ble_eq_true rfl) (mw_obj hM) rfl ?_
                refine v_if_ne (pc := 193) (tgt := 210) dX5_readCommand_193 rfl (by omega) (fun c193 => absurd c193 (by omega)) (fun c193 => ?_)
                refine v_ald0 (pc := 196) dX5_readCommand_196 ?_
                refine v_cv0 (pc := 197) (v_runV0 okX5_goesOn rfl (sp_X5_goesOn hM (by omega) (by omega)) dX5_readCommand_197 (lw_all_tbl q2450) (lw_all_tbl q2452) (lw_all_tbl qs99) rfl (mw_obj hM) (Nat.le_of_ble_eq_true rfl) ⟨Nat.zero_le _, Nat.zero_le _⟩ (Nat.le_of_ble_eq_true rfl)) (fun h hM => ?_)
                have r197 := tGo_r (tx := text) (len := length) (a := s167.1) (by omega)
                obtain ⟨s197, hs197⟩ : ∃ q, tGo text length s167.1 = q := ⟨_, rfl⟩
                rw [hs197] at hM r197
                rw [hs197] at hq
                refine v_ald0 (pc := 200) dX5_readCommand_200 ?_
                refine v_dup (pc := 201) dX5_readCommand_201 rfl ?_
                refine v_getf KX5 21 (pc := 202) dX5_readCommand_202 (lw_all_tbl q2015) (Or.inl rfl) (Nat.le_of_ble_eq_true rfl) (mw_obj hM) rfl ?_
                refine v_iconst (pc := 205) dX5_readCommand_205 ?_
                refine v_iadd (pc := 206) dX5_readCommand_206 ?_
                refine v_ptM_commands hM (pc := 207) dX5_readCommand_207 (lw_all_tbl q2015) (fun h hM => ?_)
                refine v_ret_v (pc := 210) dX5_readCommand_210 rfl ?_
                first | exact qv_ok (Or.inl (by rw [hq]; exact ⟨rfl, _, pGood4 _ _ _ _ _ _ _ (by omega), hM⟩)) | exact qv_ok (Or.inl (by rw [hq]; exact ⟨rfl, _, pGood2 _ _ _ _ _ _ (by omega), hM⟩)) | exact qv_ok (Or.inr (by rw [hq]; exact ⟨pEr_r (by omega), _, _, _, _, _, hM⟩))
            · skip
              have tb167 := tBadC_r s44
              rw [pO1, if_neg (show ¬ tWd text s = 4 by omega), if_neg (show ¬ tWd text s = 4 by omega)] at hq
              first | rw [if_pos (show tWd text s = 1 by omega), if_pos c167] at hq | rw [if_neg (show ¬ tWd text s = 1 by omega), if_pos c167] at hq
              refine v_stM_command hM (pc := 170) dX5_readCommand_170 (by omega) (fun h hM => ?_)
              refine v_ald0 (pc := 171) dX5_readCommand_171 ?_
              refine v_ald0 (pc := 172) dX5_readCommand_172 ?_
              refine v_getf KX5 16 (pc := 173) dX5_readCommand_173 (lw_all_tbl q2010) (Or.inl rfl) (Nat.le_of_ble_eq_true rfl) (mw_obj hM) rfl ?_
              refine v_iconst (pc := 176) dX5_readCommand_176 ?_
              refine v_icmp_ne (pc := 177) (tgt := 184) dX5_readCommand_177 rfl (by omega) (by omega) (fun c177 => ?_) (fun c177 => ?_)
              · refine v_iconst (pc := 184) dX5_readCommand_184 ?_
                refine v_iconst (pc := 185) dX5_readCommand_185 ?_
                refine v_cv0 (pc := 186) (v_runV2 okX5_must rfl (sp_mustE hM (by omega) (by omega)) dX5_readCommand_186 (lw_all_tbl q2474) (lw_all_tbl q2476) (lw_all_tbl qs105) rfl (mw_obj hM) (Nat.le_of_ble_eq_true rfl) ⟨Nat.zero_le _, Nat.zero_le _⟩ (Nat.le_of_ble_eq_true rfl)) (fun h hM => ?_)
                refine v_ald0 (pc := 189) dX5_readCommand_189 ?_
                refine v_getf KX5 18 (pc := 190) dX5_readCommand_190 (lw_all_tbl q2012) (Or.inl rfl) (Nat.le_of_ble_eq_true rfl) (mw_obj hM) rfl ?_
                refine v_if_ne (pc := 193) (tgt := 210) dX5_readCommand_193 rfl (by omega) (fun c193 => ?_) (fun c193 => absurd c193 (by omega))
                refine v_ret_v (pc := 210) dX5_readCommand_210 rfl ?_
                first | exact qv_ok (Or.inl (by rw [hq]; exact ⟨rfl, _, pGood4 _ _ _ _ _ _ _ (by omega), hM⟩)) | exact qv_ok (Or.inl (by rw [hq]; exact ⟨rfl, _, pGood2 _ _ _ _ _ _ (by omega), hM⟩)) | exact qv_ok (Or.inr (by rw [hq]; exact ⟨pEr_r (by omega), _, _, _, _, _, hM⟩))
              · refine v_iconst (pc := 180) dX5_readCommand_180 ?_
                refine v_goto (pc := 181) (tgt := 185) dX5_readCommand_181 rfl ?_
                refine v_iconst (pc := 185) dX5_readCommand_185 ?_
                refine v_cv0 (pc := 186) (v_runV2 okX5_must rfl (sp_mustE hM (by omega) (by omega)) dX5_readCommand_186 (lw_all_tbl q2474) (lw_all_tbl q2476) (lw_all_tbl qs105) rfl (mw_obj hM) (Nat.le_of_ble_eq_true rfl) ⟨Nat.zero_le _, Nat.zero_le _⟩ (Nat.le_of_ble_eq_true rfl)) (fun h hM => ?_)
                refine v_ald0 (pc := 189) dX5_readCommand_189 ?_
                refine v_getf KX5 18 (pc := 190) dX5_readCommand_190 (lw_all_tbl q2012) (Or.inl rfl) (Nat.le_of_ble_eq_true rfl) (mw_obj hM) rfl ?_
                refine v_if_ne (pc := 193) (tgt := 210) dX5_readCommand_193 rfl (by omega) (fun c193 => ?_) (fun c193 => absurd c193 (by omega))
                refine v_ret_v (pc := 210) dX5_readCommand_210 rfl ?_
                first | exact qv_ok (Or.inl (by rw [hq]; exact ⟨rfl, _, pGood4 _ _ _ _ _ _ _ (by omega), hM⟩)) | exact qv_ok (Or.inl (by rw [hq]; exact ⟨rfl, _, pGood2 _ _ _ _ _ _ (by omega), hM⟩)) | exact qv_ok (Or.inr (by rw [hq]; exact ⟨pEr_r (by omega), _, _, _, _, _, hM⟩))
          · refine v_bipush (pc := 160) dX5_readCommand_160 ⟨by decide, by decide⟩ ?_
            refine v_goto (pc := 162) (tgt := 167) dX5_readCommand_162 rfl ?_
            refine v_ci0 (pc := 167) (v_runV2 okX5_reads rfl (sp_reads0 hM (by omega) (by omega) (by omega) (by omega) (by omega) (by omega)) dX5_readCommand_167 (lw_all_tbl q2478) (lw_all_tbl q2480) (lw_all_tbl qs106) rfl (mw_obj hM) (Nat.le_of_ble_eq_true rfl) ⟨Nat.zero_le _, Nat.zero_le _⟩ (Nat.le_of_ble_eq_true rfl)) (fun x167 h hr167 => ?_)
            rcases hr167 with ⟨c167, ex167, hM⟩ | ⟨c167, ex167, hM⟩ <;> subst ex167
            · skip
              have r167 := tGo_r (tx := text) (len := length) (a := s44.1) (by omega)
              obtain ⟨s167, hs167⟩ : ∃ q, tGo text length s44.1 = q := ⟨_, rfl⟩
              rw [hs167] at hM r167
              have n167 := tBad_n c167
              rw [pO1, if_neg (show ¬ tWd text s = 4 by omega), if_neg (show ¬ tWd text s = 4 by omega)] at hq
              first | rw [if_pos (show tWd text s = 1 by omega), if_neg c167, hs167] at hq | rw [if_neg (show ¬ tWd text s = 1 by omega), if_neg c167, hs167] at hq
              refine v_stM_command hM (pc := 170) dX5_readCommand_170 (by omega) (fun h hM => ?_)
              refine v_ald0 (pc := 171) dX5_readCommand_171 ?_
              refine v_ald0 (pc := 172) dX5_readCommand_172 ?_
              refine v_getf KX5 16 (pc := 173) dX5_readCommand_173 (lw_all_tbl q2010) (Or.inl rfl) (Nat.le_of_ble_eq_true rfl) (mw_obj hM) rfl ?_
              refine v_iconst (pc := 176) dX5_readCommand_176 ?_
              refine v_icmp_ne (pc := 177) (tgt := 184) dX5_readCommand_177 rfl (by omega) (by omega) (fun c177 => ?_) (fun c177 => ?_)
              · rw [pEnd, if_neg (by omega)] at hq
                refine v_iconst (pc := 184) dX5_readCommand_184 ?_
                refine v_iconst (pc := 185) dX5_readCommand_185 ?_
                refine v_cv0 (pc := 186) (v_runV2 okX5_must rfl (sp_must0 hM (by omega)) dX5_readCommand_186 (lw_all_tbl q2474) (lw_all_tbl q2476) (lw_all_tbl qs105) rfl (mw_obj hM) (Nat.le_of_ble_eq_true rfl) ⟨Nat.zero_le _, Nat.zero_le _⟩ (Nat.le_of_ble_eq_true rfl)) (fun h hM => ?_)
                refine v_ald0 (pc := 189) dX5_readCommand_189 ?_
                refine v_getf KX5 18 (pc := 190) dX5_readCommand_190 (lw_all_tbl q2012) (Or.inl rfl) (Nat.le_of_ble_eq_true rfl) (mw_obj hM) rfl ?_
                refine v_if_ne (pc := 193) (tgt := 210) dX5_readCommand_193 rfl (by omega) (fun c193 => ?_) (fun c193 => absurd c193 (by omega))
                refine v_ret_v (pc := 210) dX5_readCommand_210 rfl ?_
                first | exact qv_ok (Or.inl (by rw [hq]; exact ⟨rfl, _, pGood4 _ _ _ _ _ _ _ (by omega), hM⟩)) | exact qv_ok (Or.inl (by rw [hq]; exact ⟨rfl, _, pGood2 _ _ _ _ _ _ (by omega), hM⟩)) | exact qv_ok (Or.inr (by rw [hq]; exact ⟨pEr_r (by omega), _, _, _, _, _, hM⟩))
              · rw [pEnd, if_pos (by omega)] at hq
                refine v_iconst (pc := 180) dX5_readCommand_180 ?_
                refine v_goto (pc := 181) (tgt := 185) dX5_readCommand_181 rfl ?_
                refine v_iconst (pc := 185) dX5_readCommand_185 ?_
                refine v_cv0 (pc := 186) (v_runV2 okX5_must rfl (sp_must1 hM) dX5_readCommand_186 (lw_all_tbl q2474) (lw_all_tbl q2476) (lw_all_tbl qs105) rfl (mw_obj hM) (Nat.le_of_ble_eq_true rfl) ⟨Nat.zero_le _, Nat.zero_le _⟩ (Nat.le_of_ble_eq_true rfl)) (fun h hM => ?_)
                refine v_ald0 (pc := 189) dX5_readCommand_189 ?_
                refine v_getf KX5 18 (pc := 190) dX5_readCommand_190 (lw_all_tbl q2012) (Or.inl rfl) (Nat.le_of_ble_eq_true rfl) (mw_obj hM) rfl ?_
                refine v_if_ne (pc := 193) (tgt := 210) dX5_readCommand_193 rfl (by omega) (fun c193 => absurd c193 (by omega)) (fun c193 => ?_)
                refine v_ald0 (pc := 196) dX5_readCommand_196 ?_
                refine v_cv0 (pc := 197) (v_runV0 okX5_goesOn rfl (sp_X5_goesOn hM (by omega) (by omega)) dX5_readCommand_197 (lw_all_tbl q2450) (lw_all_tbl q2452) (lw_all_tbl qs99) rfl (mw_obj hM) (Nat.le_of_ble_eq_true rfl) ⟨Nat.zero_le _, Nat.zero_le _⟩ (Nat.le_of_ble_eq_true rfl)) (fun h hM => ?_)
                have r197 := tGo_r (tx := text) (len := length) (a := s167.1) (by omega)
                obtain ⟨s197, hs197⟩ : ∃ q, tGo text length s167.1 = q := ⟨_, rfl⟩
                rw [hs197] at hM r197
                rw [hs197] at hq
                refine v_ald0 (pc := 200) dX5_readCommand_200 ?_
                refine v_dup (pc := 201) dX5_readCommand_201 rfl ?_
                refine v_getf KX5 21 (pc := 202) dX5_readCommand_202 (lw_all_tbl q2015) (Or.inl rfl) (Nat.le_of_ble_eq_true rfl) (mw_obj hM) rfl ?_
                refine v_iconst (pc := 205) dX5_readCommand_205 ?_
                refine v_iadd (pc := 206) dX5_readCommand_206 ?_
                refine v_ptM_commands hM (pc := 207) dX5_readCommand_207 (lw_all_tbl q2015) (fun h hM => ?_)
                refine v_ret_v (pc := 210) dX5_readCommand_210 rfl ?_
                first | exact qv_ok (Or.inl (by rw [hq]; exact ⟨rfl, _, pGood4 _ _ _ _ _ _ _ (by omega), hM⟩)) | exact qv_ok (Or.inl (by rw [hq]; exact ⟨rfl, _, pGood2 _ _ _ _ _ _ (by omega), hM⟩)) | exact qv_ok (Or.inr (by rw [hq]; exact ⟨pEr_r (by omega), _, _, _, _, _, hM⟩))
            · skip
              have tb167 := tBadC_r s44
              rw [pO1, if_neg (show ¬ tWd text s = 4 by omega), if_neg (show ¬ tWd text s = 4 by omega)] at hq
              first | rw [if_pos (show tWd text s = 1 by omega), if_pos c167] at hq | rw [if_neg (show ¬ tWd text s = 1 by omega), if_pos c167] at hq
              refine v_stM_command hM (pc := 170) dX5_readCommand_170 (by omega) (fun h hM => ?_)
              refine v_ald0 (pc := 171) dX5_readCommand_171 ?_
              refine v_ald0 (pc := 172) dX5_readCommand_172 ?_
              refine v_getf KX5 16 (pc := 173) dX5_readCommand_173 (lw_all_tbl q2010) (Or.inl rfl) (Nat.le_of_ble_eq_true rfl) (mw_obj hM) rfl ?_
              refine v_iconst (pc := 176) dX5_readCommand_176 ?_
              refine v_icmp_ne (pc := 177) (tgt := 184) dX5_readCommand_177 rfl (by omega) (by omega) (fun c177 => ?_) (fun c177 => ?_)
              · refine v_iconst (pc := 184) dX5_readCommand_184 ?_
                refine v_iconst (pc := 185) dX5_readCommand_185 ?_
                refine v_cv0 (pc := 186) (v_runV2 okX5_must rfl (sp_mustE hM (by omega) (by omega)) dX5_readCommand_186 (lw_all_tbl q2474) (lw_all_tbl q2476) (lw_all_tbl qs105) rfl (mw_obj hM) (Nat.le_of_ble_eq_true rfl) ⟨Nat.zero_le _, Nat.zero_le _⟩ (Nat.le_of_ble_eq_true rfl)) (fun h hM => ?_)
                refine v_ald0 (pc := 189) dX5_readCommand_189 ?_
                refine v_getf KX5 18 (pc := 190) dX5_readCommand_190 (lw_all_tbl q2012) (Or.inl rfl) (Nat.le_of_ble_eq_true rfl) (mw_obj hM) rfl ?_
                refine v_if_ne (pc := 193) (tgt := 210) dX5_readCommand_193 rfl (by omega) (fun c193 => ?_) (fun c193 => absurd c193 (by omega))
                refine v_ret_v (pc := 210) dX5_readCommand_210 rfl ?_
                first | exact qv_ok (Or.inl (by rw [hq]; exact ⟨rfl, _, pGood4 _ _ _ _ _ _ _ (by omega), hM⟩)) | exact qv_ok (Or.inl (by rw [hq]; exact ⟨rfl, _, pGood2 _ _ _ _ _ _ (by omega), hM⟩)) | exact qv_ok (Or.inr (by rw [hq]; exact ⟨pEr_r (by omega), _, _, _, _, _, hM⟩))
              · refine v_iconst (pc := 180) dX5_readCommand_180 ?_
                refine v_goto (pc := 181) (tgt := 185) dX5_readCommand_181 rfl ?_
                refine v_iconst (pc := 185) dX5_readCommand_185 ?_
                refine v_cv0 (pc := 186) (v_runV2 okX5_must rfl (sp_mustE hM (by omega) (by omega)) dX5_readCommand_186 (lw_all_tbl q2474) (lw_all_tbl q2476) (lw_all_tbl qs105) rfl (mw_obj hM) (Nat.le_of_ble_eq_true rfl) ⟨Nat.zero_le _, Nat.zero_le _⟩ (Nat.le_of_ble_eq_true rfl)) (fun h hM => ?_)
                refine v_ald0 (pc := 189) dX5_readCommand_189 ?_
                refine v_getf KX5 18 (pc := 190) dX5_readCommand_190 (lw_all_tbl q2012) (Or.inl rfl) (Nat.le_of_ble_eq_true rfl) (mw_obj hM) rfl ?_
                refine v_if_ne (pc := 193) (tgt := 210) dX5_readCommand_193 rfl (by omega) (fun c193 => ?_) (fun c193 => absurd c193 (by omega))
                refine v_ret_v (pc := 210) dX5_readCommand_210 rfl ?_
                first | exact qv_ok (Or.inl (by rw [hq]; exact ⟨rfl, _, pGood4 _ _ _ _ _ _ _ (by omega), hM⟩)) | exact qv_ok (Or.inl (by rw [hq]; exact ⟨rfl, _, pGood2 _ _ _ _ _ _ (by omega), hM⟩)) | exact qv_ok (Or.inr (by rw [hq]; exact ⟨pEr_r (by omega), _, _, _, _, _, hM⟩))
        · refine v_ald0 (pc := 143) dX5_readCommand_143 ?_
          refine v_iconst (pc := 144) dX5_readCommand_144 ?_
          refine v_bipush (pc := 145) dX5_readCommand_145 ⟨by decide, by decide⟩ ?_
          refine v_ci0 (pc := 147) (v_runV2 okX5_reads rfl (sp_reads0 hM (by omega) (by omega) (by omega) (by omega) (by omega) (by omega)) dX5_readCommand_147 (lw_all_tbl q2478) (lw_all_tbl q2480) (lw_all_tbl qs106) rfl (mw_obj hM) (Nat.le_of_ble_eq_true rfl) ⟨Nat.zero_le _, Nat.zero_le _⟩ (Nat.le_of_ble_eq_true rfl)) (fun x147 h hr147 => ?_)
          rcases hr147 with ⟨c147, ex147, hM⟩ | ⟨c147, ex147, hM⟩ <;> subst ex147
          · skip
            have r147 := tGo_r (tx := text) (len := length) (a := s44.1) (by omega)
            obtain ⟨s147, hs147⟩ : ∃ q, tGo text length s44.1 = q := ⟨_, rfl⟩
            rw [hs147] at hM r147
            have n147 := tBad_n c147
            rw [pO1, if_pos (show tWd text s = 4 by omega), if_pos (show tWd text s = 4 by omega), if_neg c147, hs147] at hq
            refine v_goto (pc := 150) (tgt := 170) dX5_readCommand_150 rfl ?_
            refine v_stM_command hM (pc := 170) dX5_readCommand_170 (by omega) (fun h hM => ?_)
            refine v_ald0 (pc := 171) dX5_readCommand_171 ?_
            refine v_ald0 (pc := 172) dX5_readCommand_172 ?_
            refine v_getf KX5 16 (pc := 173) dX5_readCommand_173 (lw_all_tbl q2010) (Or.inl rfl) (Nat.le_of_ble_eq_true rfl) (mw_obj hM) rfl ?_
            refine v_iconst (pc := 176) dX5_readCommand_176 ?_
            refine v_icmp_ne (pc := 177) (tgt := 184) dX5_readCommand_177 rfl (by omega) (by omega) (fun c177 => ?_) (fun c177 => ?_)
            · rw [pEnd, if_neg (by omega)] at hq
              refine v_iconst (pc := 184) dX5_readCommand_184 ?_
              refine v_iconst (pc := 185) dX5_readCommand_185 ?_
              refine v_cv0 (pc := 186) (v_runV2 okX5_must rfl (sp_must0 hM (by omega)) dX5_readCommand_186 (lw_all_tbl q2474) (lw_all_tbl q2476) (lw_all_tbl qs105) rfl (mw_obj hM) (Nat.le_of_ble_eq_true rfl) ⟨Nat.zero_le _, Nat.zero_le _⟩ (Nat.le_of_ble_eq_true rfl)) (fun h hM => ?_)
              refine v_ald0 (pc := 189) dX5_readCommand_189 ?_
              refine v_getf KX5 18 (pc := 190) dX5_readCommand_190 (lw_all_tbl q2012) (Or.inl rfl) (Nat.le_of_ble_eq_true rfl) (mw_obj hM) rfl ?_
              refine v_if_ne (pc := 193) (tgt := 210) dX5_readCommand_193 rfl (by omega) (fun c193 => ?_) (fun c193 => absurd c193 (by omega))
              refine v_ret_v (pc := 210) dX5_readCommand_210 rfl ?_
              first | exact qv_ok (Or.inl (by rw [hq]; exact ⟨rfl, _, pGood4 _ _ _ _ _ _ _ (by omega), hM⟩)) | exact qv_ok (Or.inl (by rw [hq]; exact ⟨rfl, _, pGood2 _ _ _ _ _ _ (by omega), hM⟩)) | exact qv_ok (Or.inr (by rw [hq]; exact ⟨pEr_r (by omega), _, _, _, _, _, hM⟩))
            · rw [pEnd, if_pos (by omega)] at hq
              refine v_iconst (pc := 180) dX5_readCommand_180 ?_
              refine v_goto (pc := 181) (tgt := 185) dX5_readCommand_181 rfl ?_
              refine v_iconst (pc := 185) dX5_readCommand_185 ?_
              refine v_cv0 (pc := 186) (v_runV2 okX5_must rfl (sp_must1 hM) dX5_readCommand_186 (lw_all_tbl q2474) (lw_all_tbl q2476) (lw_all_tbl qs105) rfl (mw_obj hM) (Nat.le_of_ble_eq_true rfl) ⟨Nat.zero_le _, Nat.zero_le _⟩ (Nat.le_of_ble_eq_true rfl)) (fun h hM => ?_)
              refine v_ald0 (pc := 189) dX5_readCommand_189 ?_
              refine v_getf KX5 18 (pc := 190) dX5_readCommand_190 (lw_all_tbl q2012) (Or.inl rfl) (Nat.le_of_ble_eq_true rfl) (mw_obj hM) rfl ?_
              refine v_if_ne (pc := 193) (tgt := 210) dX5_readCommand_193 rfl (by omega) (fun c193 => absurd c193 (by omega)) (fun c193 => ?_)
              refine v_ald0 (pc := 196) dX5_readCommand_196 ?_
              refine v_cv0 (pc := 197) (v_runV0 okX5_goesOn rfl (sp_X5_goesOn hM (by omega) (by omega)) dX5_readCommand_197 (lw_all_tbl q2450) (lw_all_tbl q2452) (lw_all_tbl qs99) rfl (mw_obj hM) (Nat.le_of_ble_eq_true rfl) ⟨Nat.zero_le _, Nat.zero_le _⟩ (Nat.le_of_ble_eq_true rfl)) (fun h hM => ?_)
              have r197 := tGo_r (tx := text) (len := length) (a := s147.1) (by omega)
              obtain ⟨s197, hs197⟩ : ∃ q, tGo text length s147.1 = q := ⟨_, rfl⟩
              rw [hs197] at hM r197
              rw [hs197] at hq
              refine v_ald0 (pc := 200) dX5_readCommand_200 ?_
              refine v_dup (pc := 201) dX5_readCommand_201 rfl ?_
              refine v_getf KX5 21 (pc := 202) dX5_readCommand_202 (lw_all_tbl q2015) (Or.inl rfl) (Nat.le_of_ble_eq_true rfl) (mw_obj hM) rfl ?_
              refine v_iconst (pc := 205) dX5_readCommand_205 ?_
              refine v_iadd (pc := 206) dX5_readCommand_206 ?_
              refine v_ptM_commands hM (pc := 207) dX5_readCommand_207 (lw_all_tbl q2015) (fun h hM => ?_)
              refine v_ret_v (pc := 210) dX5_readCommand_210 rfl ?_
              first | exact qv_ok (Or.inl (by rw [hq]; exact ⟨rfl, _, pGood4 _ _ _ _ _ _ _ (by omega), hM⟩)) | exact qv_ok (Or.inl (by rw [hq]; exact ⟨rfl, _, pGood2 _ _ _ _ _ _ (by omega), hM⟩)) | exact qv_ok (Or.inr (by rw [hq]; exact ⟨pEr_r (by omega), _, _, _, _, _, hM⟩))
          · skip
            have tb147 := tBadC_r s44
            rw [pO1, if_pos (show tWd text s = 4 by omega), if_pos (show tWd text s = 4 by omega), if_pos c147] at hq
            refine v_goto (pc := 150) (tgt := 170) dX5_readCommand_150 rfl ?_
            refine v_stM_command hM (pc := 170) dX5_readCommand_170 (by omega) (fun h hM => ?_)
            refine v_ald0 (pc := 171) dX5_readCommand_171 ?_
            refine v_ald0 (pc := 172) dX5_readCommand_172 ?_
            refine v_getf KX5 16 (pc := 173) dX5_readCommand_173 (lw_all_tbl q2010) (Or.inl rfl) (Nat.le_of_ble_eq_true rfl) (mw_obj hM) rfl ?_
            refine v_iconst (pc := 176) dX5_readCommand_176 ?_
            refine v_icmp_ne (pc := 177) (tgt := 184) dX5_readCommand_177 rfl (by omega) (by omega) (fun c177 => ?_) (fun c177 => ?_)
            · refine v_iconst (pc := 184) dX5_readCommand_184 ?_
              refine v_iconst (pc := 185) dX5_readCommand_185 ?_
              refine v_cv0 (pc := 186) (v_runV2 okX5_must rfl (sp_mustE hM (by omega) (by omega)) dX5_readCommand_186 (lw_all_tbl q2474) (lw_all_tbl q2476) (lw_all_tbl qs105) rfl (mw_obj hM) (Nat.le_of_ble_eq_true rfl) ⟨Nat.zero_le _, Nat.zero_le _⟩ (Nat.le_of_ble_eq_true rfl)) (fun h hM => ?_)
              refine v_ald0 (pc := 189) dX5_readCommand_189 ?_
              refine v_getf KX5 18 (pc := 190) dX5_readCommand_190 (lw_all_tbl q2012) (Or.inl rfl) (Nat.le_of_ble_eq_true rfl) (mw_obj hM) rfl ?_
              refine v_if_ne (pc := 193) (tgt := 210) dX5_readCommand_193 rfl (by omega) (fun c193 => ?_) (fun c193 => absurd c193 (by omega))
              refine v_ret_v (pc := 210) dX5_readCommand_210 rfl ?_
              first | exact qv_ok (Or.inl (by rw [hq]; exact ⟨rfl, _, pGood4 _ _ _ _ _ _ _ (by omega), hM⟩)) | exact qv_ok (Or.inl (by rw [hq]; exact ⟨rfl, _, pGood2 _ _ _ _ _ _ (by omega), hM⟩)) | exact qv_ok (Or.inr (by rw [hq]; exact ⟨pEr_r (by omega), _, _, _, _, _, hM⟩))
            · refine v_iconst (pc := 180) dX5_readCommand_180 ?_
              refine v_goto (pc := 181) (tgt := 185) dX5_readCommand_181 rfl ?_
              refine v_iconst (pc := 185) dX5_readCommand_185 ?_
              refine v_cv0 (pc := 186) (v_runV2 okX5_must rfl (sp_mustE hM (by omega) (by omega)) dX5_readCommand_186 (lw_all_tbl q2474) (lw_all_tbl q2476) (lw_all_tbl qs105) rfl (mw_obj hM) (Nat.le_of_ble_eq_true rfl) ⟨Nat.zero_le _, Nat.zero_le _⟩ (Nat.le_of_ble_eq_true rfl)) (fun h hM => ?_)
              refine v_ald0 (pc := 189) dX5_readCommand_189 ?_
              refine v_getf KX5 18 (pc := 190) dX5_readCommand_190 (lw_all_tbl q2012) (Or.inl rfl) (Nat.le_of_ble_eq_true rfl) (mw_obj hM) rfl ?_
              refine v_if_ne (pc := 193) (tgt := 210) dX5_readCommand_193 rfl (by omega) (fun c193 => ?_) (fun c193 => absurd c193 (by omega))
              refine v_ret_v (pc := 210) dX5_readCommand_210 rfl ?_
              first | exact qv_ok (Or.inl (by rw [hq]; exact ⟨rfl, _, pGood4 _ _ _ _ _ _ _ (by omega), hM⟩)) | exact qv_ok (Or.inl (by rw [hq]; exact ⟨rfl, _, pGood2 _ _ _ _ _ _ (by omega), hM⟩)) | exact qv_ok (Or.inr (by rw [hq]; exact ⟨pEr_r (by omega), _, _, _, _, _, hM⟩))
      · have hq : (pCmd text length commands s) = pW1 text length s44 := by unfold pCmd; rw [if_neg (fun q => q c9), if_neg (fun q => q (by omega)), if_pos (by omega), hs44]
        refine v_ald0 (pc := 65) dX5_readCommand_65 ?_
        refine v_getf KX5 22 (pc := 66) dX5_readCommand_66 (lw_all_tbl q2016) (Or.inl rfl) (Nat.le_of_ble_eq_true rfl) (mw_obj hM) rfl ?_
        refine v_ild2 (pc := 69) dX5_readCommand_69 ?_
        refine v_iconst (pc := 70) dX5_readCommand_70 ?_
        refine v_iadd (pc := 71) dX5_readCommand_71 ?_
        refine v_ald0 (pc := 72) dX5_readCommand_72 ?_
        refine v_iconst (pc := 73) dX5_readCommand_73 ?_
        refine v_bipush (pc := 74) dX5_readCommand_74 ⟨by decide, by decide⟩ ?_
        refine v_ci0 (pc := 76) (v_runV2 okX5_reads rfl (sp_reads0 hM (by omega) (by omega) (by omega) (by omega) (by omega) (by omega)) dX5_readCommand_76 (lw_all_tbl q2478) (lw_all_tbl q2480) (lw_all_tbl qs106) rfl (mw_obj hM) (Nat.le_of_ble_eq_true rfl) ⟨Nat.zero_le _, Nat.zero_le _⟩ (Nat.le_of_ble_eq_true rfl)) (fun x76 h hr76 => ?_)
        rcases hr76 with ⟨c76, ex76, hM⟩ | ⟨c76, ex76, hM⟩ <;> subst ex76
        · skip
          have r76 := tGo_r (tx := text) (len := length) (a := s44.1) (by omega)
          obtain ⟨s76, hs76⟩ : ∃ q, tGo text length s44.1 = q := ⟨_, rfl⟩
          rw [hs76] at hM r76
          have n76 := tBad_n c76
          rw [pW1, if_neg c76, hs76] at hq
          refine v_stM_command hM (pc := 79) dX5_readCommand_79 (by omega) (fun h hM => ?_)
          refine v_ald0 (pc := 80) dX5_readCommand_80 ?_
          refine v_getf KX5 22 (pc := 81) dX5_readCommand_81 (lw_all_tbl q2016) (Or.inl rfl) (Nat.le_of_ble_eq_true rfl) (mw_obj hM) rfl ?_
          refine v_ild2 (pc := 84) dX5_readCommand_84 ?_
          refine v_iconst (pc := 85) dX5_readCommand_85 ?_
          refine v_iadd (pc := 86) dX5_readCommand_86 ?_
          refine v_ald0 (pc := 87) dX5_readCommand_87 ?_
          refine v_iconst (pc := 88) dX5_readCommand_88 ?_
          refine v_iconst (pc := 89) dX5_readCommand_89 ?_
          refine v_ci0 (pc := 90) (v_runV2 okX5_reads rfl (sp_reads0 hM (by omega) (by omega) (by omega) (by omega) (by omega) (by omega)) dX5_readCommand_90 (lw_all_tbl q2478) (lw_all_tbl q2480) (lw_all_tbl qs106) rfl (mw_obj hM) (Nat.le_of_ble_eq_true rfl) ⟨Nat.zero_le _, Nat.zero_le _⟩ (Nat.le_of_ble_eq_true rfl)) (fun x90 h hr90 => ?_)
          rcases hr90 with ⟨c90, ex90, hM⟩ | ⟨c90, ex90, hM⟩ <;> subst ex90
          · skip
            have r90 := tGo_r (tx := text) (len := length) (a := s76.1) (by omega)
            obtain ⟨s90, hs90⟩ : ∃ q, tGo text length s76.1 = q := ⟨_, rfl⟩
            rw [hs90] at hM r90
            have n90 := tBad_n c90
            rw [pW2, if_neg c90, hs90] at hq
            refine v_stM_command hM (pc := 93) dX5_readCommand_93 (by omega) (fun h hM => ?_)
            refine v_ald0 (pc := 94) dX5_readCommand_94 ?_
            refine v_getf KX5 22 (pc := 95) dX5_readCommand_95 (lw_all_tbl q2016) (Or.inl rfl) (Nat.le_of_ble_eq_true rfl) (mw_obj hM) rfl ?_
            refine v_ild2 (pc := 98) dX5_readCommand_98 ?_
            refine v_iconst (pc := 99) dX5_readCommand_99 ?_
            refine v_iadd (pc := 100) dX5_readCommand_100 ?_
            refine v_ald0 (pc := 101) dX5_readCommand_101 ?_
            refine v_getf KX5 18 (pc := 102) dX5_readCommand_102 (lw_all_tbl q2012) (Or.inl rfl) (Nat.le_of_ble_eq_true rfl) (mw_obj hM) rfl ?_
            refine v_if_ne (pc := 105) (tgt := 126) dX5_readCommand_105 rfl (by omega) (fun c105 => absurd c105 (by omega)) (fun c105 => ?_)
            refine v_ald0 (pc := 108) dX5_readCommand_108 ?_
            refine v_getf KX5 16 (pc := 109) dX5_readCommand_109 (lw_all_tbl q2010) (Or.inl rfl) (Nat.le_of_ble_eq_true rfl) (mw_obj hM) rfl ?_
            refine v_iconst (pc := 112) dX5_readCommand_112 ?_
            refine v_icmp_ne (pc := 113) (tgt := 126) dX5_readCommand_113 rfl (by omega) (by omega) (fun c113 => ?_) (fun c113 => ?_)
            · rw [pW3, if_neg (by omega)] at hq
              refine v_iconst (pc := 126) dX5_readCommand_126 ?_
              refine v_stM_command hM (pc := 127) dX5_readCommand_127 (by omega) (fun h hM => ?_)
              refine v_goto (pc := 128) (tgt := 171) dX5_readCommand_128 rfl ?_
              refine v_ald0 (pc := 171) dX5_readCommand_171 ?_
              refine v_ald0 (pc := 172) dX5_readCommand_172 ?_
              refine v_getf KX5 16 (pc := 173) dX5_readCommand_173 (lw_all_tbl q2010) (Or.inl rfl) (Nat.le_of_ble_eq_true rfl) (mw_obj hM) rfl ?_
              refine v_iconst (pc := 176) dX5_readCommand_176 ?_
              refine v_icmp_ne (pc := 177) (tgt := 184) dX5_readCommand_177 rfl (by omega) (by omega) (fun c177 => ?_) (fun c177 => ?_)
              · rw [pEnd, if_neg (by omega)] at hq
                refine v_iconst (pc := 184) dX5_readCommand_184 ?_
                refine v_iconst (pc := 185) dX5_readCommand_185 ?_
                refine v_cv0 (pc := 186) (v_runV2 okX5_must rfl (sp_must0 hM (by omega)) dX5_readCommand_186 (lw_all_tbl q2474) (lw_all_tbl q2476) (lw_all_tbl qs105) rfl (mw_obj hM) (Nat.le_of_ble_eq_true rfl) ⟨Nat.zero_le _, Nat.zero_le _⟩ (Nat.le_of_ble_eq_true rfl)) (fun h hM => ?_)
                refine v_ald0 (pc := 189) dX5_readCommand_189 ?_
                refine v_getf KX5 18 (pc := 190) dX5_readCommand_190 (lw_all_tbl q2012) (Or.inl rfl) (Nat.le_of_ble_eq_true rfl) (mw_obj hM) rfl ?_
                refine v_if_ne (pc := 193) (tgt := 210) dX5_readCommand_193 rfl (by omega) (fun c193 => ?_) (fun c193 => absurd c193 (by omega))
                refine v_ret_v (pc := 210) dX5_readCommand_210 rfl ?_
                first | exact qv_ok (Or.inl (by rw [hq]; exact ⟨rfl, _, pGood4 _ _ _ _ _ _ _ (by omega), hM⟩)) | exact qv_ok (Or.inl (by rw [hq]; exact ⟨rfl, _, pGood2 _ _ _ _ _ _ (by omega), hM⟩)) | exact qv_ok (Or.inr (by rw [hq]; exact ⟨pEr_r (by omega), _, _, _, _, _, hM⟩))
              · rw [pEnd, if_pos (by omega)] at hq
                refine v_iconst (pc := 180) dX5_readCommand_180 ?_
                refine v_goto (pc := 181) (tgt := 185) dX5_readCommand_181 rfl ?_
                refine v_iconst (pc := 185) dX5_readCommand_185 ?_
                refine v_cv0 (pc := 186) (v_runV2 okX5_must rfl (sp_must1 hM) dX5_readCommand_186 (lw_all_tbl q2474) (lw_all_tbl q2476) (lw_all_tbl qs105) rfl (mw_obj hM) (Nat.le_of_ble_eq_true rfl) ⟨Nat.zero_le _, Nat.zero_le _⟩ (Nat.le_of_ble_eq_true rfl)) (fun h hM => ?_)
                refine v_ald0 (pc := 189) dX5_readCommand_189 ?_
                refine v_getf KX5 18 (pc := 190) dX5_readCommand_190 (lw_all_tbl q2012) (Or.inl rfl) (Nat.le_of_ble_eq_true rfl) (mw_obj hM) rfl ?_
                refine v_if_ne (pc := 193) (tgt := 210) dX5_readCommand_193 rfl (by omega) (fun c193 => absurd c193 (by omega)) (fun c193 => ?_)
                refine v_ald0 (pc := 196) dX5_readCommand_196 ?_
                refine v_cv0 (pc := 197) (v_runV0 okX5_goesOn rfl (sp_X5_goesOn hM (by omega) (by omega)) dX5_readCommand_197 (lw_all_tbl q2450) (lw_all_tbl q2452) (lw_all_tbl qs99) rfl (mw_obj hM) (Nat.le_of_ble_eq_true rfl) ⟨Nat.zero_le _, Nat.zero_le _⟩ (Nat.le_of_ble_eq_true rfl)) (fun h hM => ?_)
                have r197 := tGo_r (tx := text) (len := length) (a := s90.1) (by omega)
                obtain ⟨s197, hs197⟩ : ∃ q, tGo text length s90.1 = q := ⟨_, rfl⟩
                rw [hs197] at hM r197
                rw [hs197] at hq
                refine v_ald0 (pc := 200) dX5_readCommand_200 ?_
                refine v_dup (pc := 201) dX5_readCommand_201 rfl ?_
                refine v_getf KX5 21 (pc := 202) dX5_readCommand_202 (lw_all_tbl q2015) (Or.inl rfl) (Nat.le_of_ble_eq_true rfl) (mw_obj hM) rfl ?_
                refine v_iconst (pc := 205) dX5_readCommand_205 ?_
                refine v_iadd (pc := 206) dX5_readCommand_206 ?_
                refine v_ptM_commands hM (pc := 207) dX5_readCommand_207 (lw_all_tbl q2015) (fun h hM => ?_)
                refine v_ret_v (pc := 210) dX5_readCommand_210 rfl ?_
                first | exact qv_ok (Or.inl (by rw [hq]; exact ⟨rfl, _, pGood4 _ _ _ _ _ _ _ (by omega), hM⟩)) | exact qv_ok (Or.inl (by rw [hq]; exact ⟨rfl, _, pGood2 _ _ _ _ _ _ (by omega), hM⟩)) | exact qv_ok (Or.inr (by rw [hq]; exact ⟨pEr_r (by omega), _, _, _, _, _, hM⟩))
            · rw [pW3, if_pos (by omega)] at hq
              refine v_ald0 (pc := 116) dX5_readCommand_116 ?_
              refine v_iconst (pc := 117) dX5_readCommand_117 ?_
              refine v_bipush (pc := 118) dX5_readCommand_118 ⟨by decide, by decide⟩ ?_
              refine v_ci0 (pc := 120) (v_runV2 okX5_reads rfl (sp_reads0 hM (by omega) (by omega) (by omega) (by omega) (by omega) (by omega)) dX5_readCommand_120 (lw_all_tbl q2478) (lw_all_tbl q2480) (lw_all_tbl qs106) rfl (mw_obj hM) (Nat.le_of_ble_eq_true rfl) ⟨Nat.zero_le _, Nat.zero_le _⟩ (Nat.le_of_ble_eq_true rfl)) (fun x120 h hr120 => ?_)
              rcases hr120 with ⟨c120, ex120, hM⟩ | ⟨c120, ex120, hM⟩ <;> subst ex120
              · skip
                have r120 := tGo_r (tx := text) (len := length) (a := s90.1) (by omega)
                obtain ⟨s120, hs120⟩ : ∃ q, tGo text length s90.1 = q := ⟨_, rfl⟩
                rw [hs120] at hM r120
                have n120 := tBad_n c120
                rw [if_neg c120, hs120] at hq
                refine v_goto (pc := 123) (tgt := 127) dX5_readCommand_123 rfl ?_
                refine v_stM_command hM (pc := 127) dX5_readCommand_127 (by omega) (fun h hM => ?_)
                refine v_goto (pc := 128) (tgt := 171) dX5_readCommand_128 rfl ?_
                refine v_ald0 (pc := 171) dX5_readCommand_171 ?_
                refine v_ald0 (pc := 172) dX5_readCommand_172 ?_
                refine v_getf KX5 16 (pc := 173) dX5_readCommand_173 (lw_all_tbl q2010) (Or.inl rfl) (Nat.le_of_ble_eq_true rfl) (mw_obj hM) rfl ?_
                refine v_iconst (pc := 176) dX5_readCommand_176 ?_
                refine v_icmp_ne (pc := 177) (tgt := 184) dX5_readCommand_177 rfl (by omega) (by omega) (fun c177 => ?_) (fun c177 => ?_)
                · rw [pEnd, if_neg (by omega)] at hq
                  refine v_iconst (pc := 184) dX5_readCommand_184 ?_
                  refine v_iconst (pc := 185) dX5_readCommand_185 ?_
                  refine v_cv0 (pc := 186) (v_runV2 okX5_must rfl (sp_must0 hM (by omega)) dX5_readCommand_186 (lw_all_tbl q2474) (lw_all_tbl q2476) (lw_all_tbl qs105) rfl (mw_obj hM) (Nat.le_of_ble_eq_true rfl) ⟨Nat.zero_le _, Nat.zero_le _⟩ (Nat.le_of_ble_eq_true rfl)) (fun h hM => ?_)
                  refine v_ald0 (pc := 189) dX5_readCommand_189 ?_
                  refine v_getf KX5 18 (pc := 190) dX5_readCommand_190 (lw_all_tbl q2012) (Or.inl rfl) (Nat.le_of_ble_eq_true rfl) (mw_obj hM) rfl ?_
                  refine v_if_ne (pc := 193) (tgt := 210) dX5_readCommand_193 rfl (by omega) (fun c193 => ?_) (fun c193 => absurd c193 (by omega))
                  refine v_ret_v (pc := 210) dX5_readCommand_210 rfl ?_
                  first | exact qv_ok (Or.inl (by rw [hq]; exact ⟨rfl, _, pGood4 _ _ _ _ _ _ _ (by omega), hM⟩)) | exact qv_ok (Or.inl (by rw [hq]; exact ⟨rfl, _, pGood2 _ _ _ _ _ _ (by omega), hM⟩)) | exact qv_ok (Or.inr (by rw [hq]; exact ⟨pEr_r (by omega), _, _, _, _, _, hM⟩))
                · rw [pEnd, if_pos (by omega)] at hq
                  refine v_iconst (pc := 180) dX5_readCommand_180 ?_
                  refine v_goto (pc := 181) (tgt := 185) dX5_readCommand_181 rfl ?_
                  refine v_iconst (pc := 185) dX5_readCommand_185 ?_
                  refine v_cv0 (pc := 186) (v_runV2 okX5_must rfl (sp_must1 hM) dX5_readCommand_186 (lw_all_tbl q2474) (lw_all_tbl q2476) (lw_all_tbl qs105) rfl (mw_obj hM) (Nat.le_of_ble_eq_true rfl) ⟨Nat.zero_le _, Nat.zero_le _⟩ (Nat.le_of_ble_eq_true rfl)) (fun h hM => ?_)
                  refine v_ald0 (pc := 189) dX5_readCommand_189 ?_
                  refine v_getf KX5 18 (pc := 190) dX5_readCommand_190 (lw_all_tbl q2012) (Or.inl rfl) (Nat.le_of_ble_eq_true rfl) (mw_obj hM) rfl ?_
                  refine v_if_ne (pc := 193) (tgt := 210) dX5_readCommand_193 rfl (by omega) (fun c193 => absurd c193 (by omega)) (fun c193 => ?_)
                  refine v_ald0 (pc := 196) dX5_readCommand_196 ?_
                  refine v_cv0 (pc := 197) (v_runV0 okX5_goesOn rfl (sp_X5_goesOn hM (by omega) (by omega)) dX5_readCommand_197 (lw_all_tbl q2450) (lw_all_tbl q2452) (lw_all_tbl qs99) rfl (mw_obj hM) (Nat.le_of_ble_eq_true rfl) ⟨Nat.zero_le _, Nat.zero_le _⟩ (Nat.le_of_ble_eq_true rfl)) (fun h hM => ?_)
                  have r197 := tGo_r (tx := text) (len := length) (a := s120.1) (by omega)
                  obtain ⟨s197, hs197⟩ : ∃ q, tGo text length s120.1 = q := ⟨_, rfl⟩
                  rw [hs197] at hM r197
                  rw [hs197] at hq
                  refine v_ald0 (pc := 200) dX5_readCommand_200 ?_
                  refine v_dup (pc := 201) dX5_readCommand_201 rfl ?_
                  refine v_getf KX5 21 (pc := 202) dX5_readCommand_202 (lw_all_tbl q2015) (Or.inl rfl) (Nat.le_of_ble_eq_true rfl) (mw_obj hM) rfl ?_
                  refine v_iconst (pc := 205) dX5_readCommand_205 ?_
                  refine v_iadd (pc := 206) dX5_readCommand_206 ?_
                  refine v_ptM_commands hM (pc := 207) dX5_readCommand_207 (lw_all_tbl q2015) (fun h hM => ?_)
                  refine v_ret_v (pc := 210) dX5_readCommand_210 rfl ?_
                  first | exact qv_ok (Or.inl (by rw [hq]; exact ⟨rfl, _, pGood4 _ _ _ _ _ _ _ (by omega), hM⟩)) | exact qv_ok (Or.inl (by rw [hq]; exact ⟨rfl, _, pGood2 _ _ _ _ _ _ (by omega), hM⟩)) | exact qv_ok (Or.inr (by rw [hq]; exact ⟨pEr_r (by omega), _, _, _, _, _, hM⟩))
              · skip
                have tb120 := tBadC_r s90
                rw [if_pos c120] at hq
                refine v_goto (pc := 123) (tgt := 127) dX5_readCommand_123 rfl ?_
                refine v_stM_command hM (pc := 127) dX5_readCommand_127 (by omega) (fun h hM => ?_)
                refine v_goto (pc := 128) (tgt := 171) dX5_readCommand_128 rfl ?_
                refine v_ald0 (pc := 171) dX5_readCommand_171 ?_
                refine v_ald0 (pc := 172) dX5_readCommand_172 ?_
                refine v_getf KX5 16 (pc := 173) dX5_readCommand_173 (lw_all_tbl q2010) (Or.inl rfl) (Nat.le_of_ble_eq_true rfl) (mw_obj hM) rfl ?_
                refine v_iconst (pc := 176) dX5_readCommand_176 ?_
                refine v_icmp_ne (pc := 177) (tgt := 184) dX5_readCommand_177 rfl (by omega) (by omega) (fun c177 => ?_) (fun c177 => ?_)
                · refine v_iconst (pc := 184) dX5_readCommand_184 ?_
                  refine v_iconst (pc := 185) dX5_readCommand_185 ?_
                  refine v_cv0 (pc := 186) (v_runV2 okX5_must rfl (sp_mustE hM (by omega) (by omega)) dX5_readCommand_186 (lw_all_tbl q2474) (lw_all_tbl q2476) (lw_all_tbl qs105) rfl (mw_obj hM) (Nat.le_of_ble_eq_true rfl) ⟨Nat.zero_le _, Nat.zero_le _⟩ (Nat.le_of_ble_eq_true rfl)) (fun h hM => ?_)
                  refine v_ald0 (pc := 189) dX5_readCommand_189 ?_
                  refine v_getf KX5 18 (pc := 190) dX5_readCommand_190 (lw_all_tbl q2012) (Or.inl rfl) (Nat.le_of_ble_eq_true rfl) (mw_obj hM) rfl ?_
                  refine v_if_ne (pc := 193) (tgt := 210) dX5_readCommand_193 rfl (by omega) (fun c193 => ?_) (fun c193 => absurd c193 (by omega))
                  refine v_ret_v (pc := 210) dX5_readCommand_210 rfl ?_
                  first | exact qv_ok (Or.inl (by rw [hq]; exact ⟨rfl, _, pGood4 _ _ _ _ _ _ _ (by omega), hM⟩)) | exact qv_ok (Or.inl (by rw [hq]; exact ⟨rfl, _, pGood2 _ _ _ _ _ _ (by omega), hM⟩)) | exact qv_ok (Or.inr (by rw [hq]; exact ⟨pEr_r (by omega), _, _, _, _, _, hM⟩))
                · refine v_iconst (pc := 180) dX5_readCommand_180 ?_
                  refine v_goto (pc := 181) (tgt := 185) dX5_readCommand_181 rfl ?_
                  refine v_iconst (pc := 185) dX5_readCommand_185 ?_
                  refine v_cv0 (pc := 186) (v_runV2 okX5_must rfl (sp_mustE hM (by omega) (by omega)) dX5_readCommand_186 (lw_all_tbl q2474) (lw_all_tbl q2476) (lw_all_tbl qs105) rfl (mw_obj hM) (Nat.le_of_ble_eq_true rfl) ⟨Nat.zero_le _, Nat.zero_le _⟩ (Nat.le_of_ble_eq_true rfl)) (fun h hM => ?_)
                  refine v_ald0 (pc := 189) dX5_readCommand_189 ?_
                  refine v_getf KX5 18 (pc := 190) dX5_readCommand_190 (lw_all_tbl q2012) (Or.inl rfl) (Nat.le_of_ble_eq_true rfl) (mw_obj hM) rfl ?_
                  refine v_if_ne (pc := 193) (tgt := 210) dX5_readCommand_193 rfl (by omega) (fun c193 => ?_) (fun c193 => absurd c193 (by omega))
                  refine v_ret_v (pc := 210) dX5_readCommand_210 rfl ?_
                  first | exact qv_ok (Or.inl (by rw [hq]; exact ⟨rfl, _, pGood4 _ _ _ _ _ _ _ (by omega), hM⟩)) | exact qv_ok (Or.inl (by rw [hq]; exact ⟨rfl, _, pGood2 _ _ _ _ _ _ (by omega), hM⟩)) | exact qv_ok (Or.inr (by rw [hq]; exact ⟨pEr_r (by omega), _, _, _, _, _, hM⟩))
          · skip
            have tb90 := tBadC_r s76
            rw [pW2, if_pos c90] at hq
            refine v_stM_command hM (pc := 93) dX5_readCommand_93 (by omega) (fun h hM => ?_)
            refine v_ald0 (pc := 94) dX5_readCommand_94 ?_
            refine v_getf KX5 22 (pc := 95) dX5_readCommand_95 (lw_all_tbl q2016) (Or.inl rfl) (Nat.le_of_ble_eq_true rfl) (mw_obj hM) rfl ?_
            refine v_ild2 (pc := 98) dX5_readCommand_98 ?_
            refine v_iconst (pc := 99) dX5_readCommand_99 ?_
            refine v_iadd (pc := 100) dX5_readCommand_100 ?_
            refine v_ald0 (pc := 101) dX5_readCommand_101 ?_
            refine v_getf KX5 18 (pc := 102) dX5_readCommand_102 (lw_all_tbl q2012) (Or.inl rfl) (Nat.le_of_ble_eq_true rfl) (mw_obj hM) rfl ?_
            refine v_if_ne (pc := 105) (tgt := 126) dX5_readCommand_105 rfl (by omega) (fun c105 => ?_) (fun c105 => absurd c105 (by omega))
            refine v_iconst (pc := 126) dX5_readCommand_126 ?_
            refine v_stM_command hM (pc := 127) dX5_readCommand_127 (by omega) (fun h hM => ?_)
            refine v_goto (pc := 128) (tgt := 171) dX5_readCommand_128 rfl ?_
            refine v_ald0 (pc := 171) dX5_readCommand_171 ?_
            refine v_ald0 (pc := 172) dX5_readCommand_172 ?_
            refine v_getf KX5 16 (pc := 173) dX5_readCommand_173 (lw_all_tbl q2010) (Or.inl rfl) (Nat.le_of_ble_eq_true rfl) (mw_obj hM) rfl ?_
            refine v_iconst (pc := 176) dX5_readCommand_176 ?_
            refine v_icmp_ne (pc := 177) (tgt := 184) dX5_readCommand_177 rfl (by omega) (by omega) (fun c177 => ?_) (fun c177 => ?_)
            · refine v_iconst (pc := 184) dX5_readCommand_184 ?_
              refine v_iconst (pc := 185) dX5_readCommand_185 ?_
              refine v_cv0 (pc := 186) (v_runV2 okX5_must rfl (sp_mustE hM (by omega) (by omega)) dX5_readCommand_186 (lw_all_tbl q2474) (lw_all_tbl q2476) (lw_all_tbl qs105) rfl (mw_obj hM) (Nat.le_of_ble_eq_true rfl) ⟨Nat.zero_le _, Nat.zero_le _⟩ (Nat.le_of_ble_eq_true rfl)) (fun h hM => ?_)
              refine v_ald0 (pc := 189) dX5_readCommand_189 ?_
              refine v_getf KX5 18 (pc := 190) dX5_readCommand_190 (lw_all_tbl q2012) (Or.inl rfl) (Nat.le_of_ble_eq_true rfl) (mw_obj hM) rfl ?_
              refine v_if_ne (pc := 193) (tgt := 210) dX5_readCommand_193 rfl (by omega) (fun c193 => ?_) (fun c193 => absurd c193 (by omega))
              refine v_ret_v (pc := 210) dX5_readCommand_210 rfl ?_
              first | exact qv_ok (Or.inl (by rw [hq]; exact ⟨rfl, _, pGood4 _ _ _ _ _ _ _ (by omega), hM⟩)) | exact qv_ok (Or.inl (by rw [hq]; exact ⟨rfl, _, pGood2 _ _ _ _ _ _ (by omega), hM⟩)) | exact qv_ok (Or.inr (by rw [hq]; exact ⟨pEr_r (by omega), _, _, _, _, _, hM⟩))
            · refine v_iconst (pc := 180) dX5_readCommand_180 ?_
              refine v_goto (pc := 181) (tgt := 185) dX5_readCommand_181 rfl ?_
              refine v_iconst (pc := 185) dX5_readCommand_185 ?_
              refine v_cv0 (pc := 186) (v_runV2 okX5_must rfl (sp_mustE hM (by omega) (by omega)) dX5_readCommand_186 (lw_all_tbl q2474) (lw_all_tbl q2476) (lw_all_tbl qs105) rfl (mw_obj hM) (Nat.le_of_ble_eq_true rfl) ⟨Nat.zero_le _, Nat.zero_le _⟩ (Nat.le_of_ble_eq_true rfl)) (fun h hM => ?_)
              refine v_ald0 (pc := 189) dX5_readCommand_189 ?_
              refine v_getf KX5 18 (pc := 190) dX5_readCommand_190 (lw_all_tbl q2012) (Or.inl rfl) (Nat.le_of_ble_eq_true rfl) (mw_obj hM) rfl ?_
              refine v_if_ne (pc := 193) (tgt := 210) dX5_readCommand_193 rfl (by omega) (fun c193 => ?_) (fun c193 => absurd c193 (by omega))
              refine v_ret_v (pc := 210) dX5_readCommand_210 rfl ?_
              first | exact qv_ok (Or.inl (by rw [hq]; exact ⟨rfl, _, pGood4 _ _ _ _ _ _ _ (by omega), hM⟩)) | exact qv_ok (Or.inl (by rw [hq]; exact ⟨rfl, _, pGood2 _ _ _ _ _ _ (by omega), hM⟩)) | exact qv_ok (Or.inr (by rw [hq]; exact ⟨pEr_r (by omega), _, _, _, _, _, hM⟩))
        · skip
          have tb76 := tBadC_r s44
          rw [pW1, if_pos c76] at hq
          refine v_stM_command hM (pc := 79) dX5_readCommand_79 (by omega) (fun h hM => ?_)
          refine v_ald0 (pc := 80) dX5_readCommand_80 ?_
          refine v_getf KX5 22 (pc := 81) dX5_readCommand_81 (lw_all_tbl q2016) (Or.inl rfl) (Nat.le_of_ble_eq_true rfl) (mw_obj hM) rfl ?_
          refine v_ild2 (pc := 84) dX5_readCommand_84 ?_
          refine v_iconst (pc := 85) dX5_readCommand_85 ?_
          refine v_iadd (pc := 86) dX5_readCommand_86 ?_
          refine v_ald0 (pc := 87) dX5_readCommand_87 ?_
          refine v_iconst (pc := 88) dX5_readCommand_88 ?_
          refine v_iconst (pc := 89) dX5_readCommand_89 ?_
          refine v_ci0 (pc := 90) (v_runV2 okX5_reads rfl (sp_readsE hM (by omega) (by omega) (by omega) (by omega) (by omega) (by omega)) dX5_readCommand_90 (lw_all_tbl q2478) (lw_all_tbl q2480) (lw_all_tbl qs106) rfl (mw_obj hM) (Nat.le_of_ble_eq_true rfl) ⟨Nat.zero_le _, Nat.zero_le _⟩ (Nat.le_of_ble_eq_true rfl)) (fun x90 h ⟨ex90, hM⟩ => ?_)
          subst ex90
          refine v_stM_command hM (pc := 93) dX5_readCommand_93 (by omega) (fun h hM => ?_)
          refine v_ald0 (pc := 94) dX5_readCommand_94 ?_
          refine v_getf KX5 22 (pc := 95) dX5_readCommand_95 (lw_all_tbl q2016) (Or.inl rfl) (Nat.le_of_ble_eq_true rfl) (mw_obj hM) rfl ?_
          refine v_ild2 (pc := 98) dX5_readCommand_98 ?_
          refine v_iconst (pc := 99) dX5_readCommand_99 ?_
          refine v_iadd (pc := 100) dX5_readCommand_100 ?_
          refine v_ald0 (pc := 101) dX5_readCommand_101 ?_
          refine v_getf KX5 18 (pc := 102) dX5_readCommand_102 (lw_all_tbl q2012) (Or.inl rfl) (Nat.le_of_ble_eq_true rfl) (mw_obj hM) rfl ?_
          refine v_if_ne (pc := 105) (tgt := 126) dX5_readCommand_105 rfl (by omega) (fun c105 => ?_) (fun c105 => absurd c105 (by omega))
          refine v_iconst (pc := 126) dX5_readCommand_126 ?_
          refine v_stM_command hM (pc := 127) dX5_readCommand_127 (by omega) (fun h hM => ?_)
          refine v_goto (pc := 128) (tgt := 171) dX5_readCommand_128 rfl ?_
          refine v_ald0 (pc := 171) dX5_readCommand_171 ?_
          refine v_ald0 (pc := 172) dX5_readCommand_172 ?_
          refine v_getf KX5 16 (pc := 173) dX5_readCommand_173 (lw_all_tbl q2010) (Or.inl rfl) (Nat.le_of_ble_eq_true rfl) (mw_obj hM) rfl ?_
          refine v_iconst (pc := 176) dX5_readCommand_176 ?_
          refine v_icmp_ne (pc := 177) (tgt := 184) dX5_readCommand_177 rfl (by omega) (by omega) (fun c177 => ?_) (fun c177 => ?_)
          · refine v_iconst (pc := 184) dX5_readCommand_184 ?_
            refine v_iconst (pc := 185) dX5_readCommand_185 ?_
            refine v_cv0 (pc := 186) (v_runV2 okX5_must rfl (sp_mustE hM (by omega) (by omega)) dX5_readCommand_186 (lw_all_tbl q2474) (lw_all_tbl q2476) (lw_all_tbl qs105) rfl (mw_obj hM) (Nat.le_of_ble_eq_true rfl) ⟨Nat.zero_le _, Nat.zero_le _⟩ (Nat.le_of_ble_eq_true rfl)) (fun h hM => ?_)
            refine v_ald0 (pc := 189) dX5_readCommand_189 ?_
            refine v_getf KX5 18 (pc := 190) dX5_readCommand_190 (lw_all_tbl q2012) (Or.inl rfl) (Nat.le_of_ble_eq_true rfl) (mw_obj hM) rfl ?_
            refine v_if_ne (pc := 193) (tgt := 210) dX5_readCommand_193 rfl (by omega) (fun c193 => ?_) (fun c193 => absurd c193 (by omega))
            refine v_ret_v (pc := 210) dX5_readCommand_210 rfl ?_
            first | exact qv_ok (Or.inl (by rw [hq]; exact ⟨rfl, _, pGood4 _ _ _ _ _ _ _ (by omega), hM⟩)) | exact qv_ok (Or.inl (by rw [hq]; exact ⟨rfl, _, pGood2 _ _ _ _ _ _ (by omega), hM⟩)) | exact qv_ok (Or.inr (by rw [hq]; exact ⟨pEr_r (by omega), _, _, _, _, _, hM⟩))
          · refine v_iconst (pc := 180) dX5_readCommand_180 ?_
            refine v_goto (pc := 181) (tgt := 185) dX5_readCommand_181 rfl ?_
            refine v_iconst (pc := 185) dX5_readCommand_185 ?_
            refine v_cv0 (pc := 186) (v_runV2 okX5_must rfl (sp_mustE hM (by omega) (by omega)) dX5_readCommand_186 (lw_all_tbl q2474) (lw_all_tbl q2476) (lw_all_tbl qs105) rfl (mw_obj hM) (Nat.le_of_ble_eq_true rfl) ⟨Nat.zero_le _, Nat.zero_le _⟩ (Nat.le_of_ble_eq_true rfl)) (fun h hM => ?_)
            refine v_ald0 (pc := 189) dX5_readCommand_189 ?_
            refine v_getf KX5 18 (pc := 190) dX5_readCommand_190 (lw_all_tbl q2012) (Or.inl rfl) (Nat.le_of_ble_eq_true rfl) (mw_obj hM) rfl ?_
            refine v_if_ne (pc := 193) (tgt := 210) dX5_readCommand_193 rfl (by omega) (fun c193 => ?_) (fun c193 => absurd c193 (by omega))
            refine v_ret_v (pc := 210) dX5_readCommand_210 rfl ?_
            first | exact qv_ok (Or.inl (by rw [hq]; exact ⟨rfl, _, pGood4 _ _ _ _ _ _ _ (by omega), hM⟩)) | exact qv_ok (Or.inl (by rw [hq]; exact ⟨rfl, _, pGood2 _ _ _ _ _ _ (by omega), hM⟩)) | exact qv_ok (Or.inr (by rw [hq]; exact ⟨pEr_r (by omega), _, _, _, _, _, hM⟩))
  · refine v_iconst (pc := 12) dX5_readCommand_12 ?_
    refine v_cv0 (pc := 13) (v_runV2 okX5_must rfl (sp_must0 hM (by omega)) dX5_readCommand_13 (lw_all_tbl q2474) (lw_all_tbl q2476) (lw_all_tbl qs105) rfl (mw_obj hM) (Nat.le_of_ble_eq_true rfl) ⟨Nat.zero_le _, Nat.zero_le _⟩ (Nat.le_of_ble_eq_true rfl)) (fun h hM => ?_)
    refine v_ald0 (pc := 16) dX5_readCommand_16 ?_
    refine v_ald0 (pc := 17) dX5_readCommand_17 ?_
    refine v_getf KX5 21 (pc := 18) dX5_readCommand_18 (lw_all_tbl q2015) (Or.inl rfl) (Nat.le_of_ble_eq_true rfl) (mw_obj hM) rfl ?_
    refine v_bipush (pc := 21) dX5_readCommand_21 ⟨by decide, by decide⟩ ?_
    refine v_icmp_ge (pc := 23) (tgt := 30) dX5_readCommand_23 rfl (by omega) (by omega) (fun c23 => ?_) (fun c23 => ?_)
    · refine v_iconst (pc := 30) dX5_readCommand_30 ?_
      refine v_iconst (pc := 31) dX5_readCommand_31 ?_
      refine v_cv0 (pc := 32) (v_runV2 okX5_must rfl (sp_mustE hM (by omega) (by omega)) dX5_readCommand_32 (lw_all_tbl q2474) (lw_all_tbl q2476) (lw_all_tbl qs105) rfl (mw_obj hM) (Nat.le_of_ble_eq_true rfl) ⟨Nat.zero_le _, Nat.zero_le _⟩ (Nat.le_of_ble_eq_true rfl)) (fun h hM => ?_)
      refine v_ald0 (pc := 35) dX5_readCommand_35 ?_
      refine v_getf KX5 18 (pc := 36) dX5_readCommand_36 (lw_all_tbl q2012) (Or.inl rfl) (Nat.le_of_ble_eq_true rfl) (mw_obj hM) rfl ?_
      refine v_if_le (pc := 39) (tgt := 43) dX5_readCommand_39 rfl (by omega) (fun c39 => absurd c39 (by omega)) (fun c39 => ?_)
      refine v_ret_v (pc := 42) dX5_readCommand_42 rfl ?_
      first | exact qv_ok (Or.inr (by rw [show (pCmd text length commands s) = pEr 1 s from by unfold pCmd; rw [if_pos c9]]; exact ⟨pEr_r (by omega), _, _, _, _, _, hM⟩)) | exact qv_ok (Or.inr (by rw [show (pCmd text length commands s) = pEr 3 s from by unfold pCmd; rw [if_neg (fun q => q c9), if_pos (by omega)]]; exact ⟨pEr_r (by omega), _, _, _, _, _, hM⟩))
    · refine v_iconst (pc := 26) dX5_readCommand_26 ?_
      refine v_goto (pc := 27) (tgt := 31) dX5_readCommand_27 rfl ?_
      refine v_iconst (pc := 31) dX5_readCommand_31 ?_
      refine v_cv0 (pc := 32) (v_runV2 okX5_must rfl (sp_mustE hM (by omega) (by omega)) dX5_readCommand_32 (lw_all_tbl q2474) (lw_all_tbl q2476) (lw_all_tbl qs105) rfl (mw_obj hM) (Nat.le_of_ble_eq_true rfl) ⟨Nat.zero_le _, Nat.zero_le _⟩ (Nat.le_of_ble_eq_true rfl)) (fun h hM => ?_)
      refine v_ald0 (pc := 35) dX5_readCommand_35 ?_
      refine v_getf KX5 18 (pc := 36) dX5_readCommand_36 (lw_all_tbl q2012) (Or.inl rfl) (Nat.le_of_ble_eq_true rfl) (mw_obj hM) rfl ?_
      refine v_if_le (pc := 39) (tgt := 43) dX5_readCommand_39 rfl (by omega) (fun c39 => absurd c39 (by omega)) (fun c39 => ?_)
      refine v_ret_v (pc := 42) dX5_readCommand_42 rfl ?_
      first | exact qv_ok (Or.inr (by rw [show (pCmd text length commands s) = pEr 1 s from by unfold pCmd; rw [if_pos c9]]; exact ⟨pEr_r (by omega), _, _, _, _, _, hM⟩)) | exact qv_ok (Or.inr (by rw [show (pCmd text length commands s) = pEr 3 s from by unfold pCmd; rw [if_neg (fun q => q c9), if_pos (by omega)]]; exact ⟨pEr_r (by omega), _, _, _, _, _, hM⟩))
