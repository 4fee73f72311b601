/-! FlashZonesModel: walks, 4 (printed by gen) -/
set_option maxRecDepth 100000
theorem sp_X5_passesDay {Γ : Cx} {t : Nat} {α : Nat → Nat} {h0 h : AH} {thrown : Int} {now : Int → Int} {aside : Int → Int} {tried : Int → Int} {undos : Int → Int} {undoMany : Int} {saved : Int → Int} {isSaved : Int → Int} {accounts : Int → Int} {way : Int} {leftOut : Int} {here : Int → Int} {text : Int → Int} {length : Int} {atp : Int} {frm : Int} {token : Int} {number : Int} {error : Int} {errorAt : Int} {commands : Int} {command : Int → Int} {out : Int → Int} {outLong : Int} {c : Int} {ca : Int} (hM : MW t α h0 h thrown now aside tried undos undoMany saved isSaved accounts way leftOut here text length atp frm token number error errorAt commands command out outLong) (hR : ROK now c) (hway : 0 ≤ way ∧ way ≤ 6) (hka : KA aside way ca now) (hc : c + 1300 ≤ 14000000) : Sp Γ yX5_passesDay mX5_passesDay 8 0 0 [.ref (α 0)] h (Qv (fun h' => ∃ tr, MW t α h0 h' thrown ((mDay now aside way)) aside tr undos undoMany saved isSaved accounts way leftOut here text length atp frm token number error errorAt commands command out outLong)) NoX := by
  refine sp_of okX5_passesDay (cat_all rfl) (Nat.le_of_ble_eq_true rfl) rfl ?_
  have h7 := hR.s7
  have hs0 := hR.s0
  have hc0 := hR.c0
  have L77 : ∀ (n9 : Nat) (h1 : AH) (now1 : Int → Int) (tr1 : Int → Int) (z : Int), (now 0 - z).toNat = n9 → (MW t α h0 h1 thrown now1 aside tr1 undos undoMany saved isSaved accounts way leftOut here text length atp frm token number error errorAt commands command out outLong) → (0 ≤ z ∧ z ≤ now 0) → (mDayZ now aside way z = now1) → V Γ mX5_passesDay 8 0 0 (Qv (fun h' => ∃ tr, MW t α h0 h' thrown ((mDay now aside way)) aside tr undos undoMany saved isSaved accounts way leftOut here text length atp frm token number error errorAt commands command out outLong)) (NoX) h1 0 0 77 [some (.ref (α 0)), some (vi z), none] [] := by
    intro n9
    induction n9 using Nat.strongRecOn with
    | _ n9 ih =>
      intro h1 now1 tr1 z hn9 hM hz he
      obtain ⟨hR1, hK⟩ := mDayZ_inv (as := aside) (way := way) hR hc z hz.1 hz.2
      rw [he] at hR1 hK
      have f0 := hK.1 0 (by omega)
      have f7 := hK.1 7 (by omega)
      have hc1 := hR1.c0
      have h31 := hR1.s3
      have h21 := hR1.s2
      have h61 := hR1.s6
      have hlr := mLivIn_r now1 z (k := now1 7) (by omega)
      refine v_ild1 (pc := 77) dX5_passesDay_77 ?_
      refine v_ald0 (pc := 78) dX5_passesDay_78 ?_
      refine v_getf KX5 1 (pc := 79) dX5_passesDay_79 (lw_all_tbl q1995) (Or.inl rfl) (Nat.le_of_ble_eq_true rfl) (mw_obj hM) rfl ?_
      refine v_iconst (pc := 82) dX5_passesDay_82 ?_
      refine v_ldM_now hM (pc := 83) dX5_passesDay_83 (by omega) ?_
      refine v_icmp_ge (pc := 84) (tgt := 148) dX5_passesDay_84 rfl (by omega) (by omega) (fun c84 => ?_) (fun c84 => ?_)
      · refine v_ret_v (pc := 148) dX5_passesDay_148 rfl ?_
        exact qv_ok ⟨_, by rw [mDay, show mDayZ now aside way (now 0) = now1 by rw [← he, show z = now 0 by omega]]; exact hM⟩
      · have hzw := hR1.zW z ⟨by omega, by omega⟩
        have hzp := hR1.zP z ⟨by omega, by omega⟩
        have hzm := hR1.zM z ⟨by omega, by omega⟩
        refine v_ald0 (pc := 87) dX5_passesDay_87 ?_
        refine v_ild1 (pc := 88) dX5_passesDay_88 ?_
        refine v_cb0 (pc := 89) (v_runV1 okX5_isFree rfl (sp_X5_isFree hM (by omega) (by omega)) dX5_passesDay_89 (lw_all_tbl q2115) (lw_all_tbl q2117) (lw_all_tbl qs53) rfl (mw_obj hM) (Nat.le_of_ble_eq_true rfl) ⟨Nat.zero_le _, Nat.zero_le _⟩ (Nat.le_of_ble_eq_true rfl)) (fun c89 => ?_) (fun c89 => ?_)
        · refine v_if_ne1 (pc := 92) (tgt := 142) dX5_passesDay_92 rfl ?_
          refine v_iinc1 (pc := 142) dX5_passesDay_142 rfl ?_
          refine v_goto (pc := 145) (tgt := 77) dX5_passesDay_145 rfl ?_
          exact ih _ (by omega) _ _ _ _ rfl hM (by omega) (by rw [mDayZ_s hz.1, he, mDayZ1]; first | rw [if_pos (by omega)] | (rw [if_neg (by omega), if_pos (by omega)]) | (rw [if_neg (by omega), if_neg (by omega), c138]; rfl))
        · refine v_if_ne0 (pc := 92) (tgt := 142) dX5_passesDay_92 rfl ?_
          refine v_ald0 (pc := 95) dX5_passesDay_95 ?_
          refine v_ild1 (pc := 96) dX5_passesDay_96 ?_
          refine v_ce0 (pc := 97) (v_runV1 okX5_lastDay rfl (sp_X5_lastDay hM (by omega)) dX5_passesDay_97 (lw_all_tbl q2147) (lw_all_tbl q2149) (lw_all_tbl qs60) rfl (mw_obj hM) (Nat.le_of_ble_eq_true rfl) ⟨Nat.zero_le _, Nat.zero_le _⟩ (Nat.le_of_ble_eq_true rfl)) ?_
          refine v_ald0 (pc := 100) dX5_passesDay_100 ?_
          refine v_getf KX5 1 (pc := 101) dX5_passesDay_101 (lw_all_tbl q1995) (Or.inl rfl) (Nat.le_of_ble_eq_true rfl) (mw_obj hM) rfl ?_
          refine v_iconst (pc := 104) dX5_passesDay_104 ?_
          refine v_ldM_now hM (pc := 105) dX5_passesDay_105 (by omega) ?_
          refine v_iadd (pc := 106) dX5_passesDay_106 ?_
          refine v_ald0 (pc := 107) dX5_passesDay_107 ?_
          refine v_getf KX5 1 (pc := 108) dX5_passesDay_108 (lw_all_tbl q1995) (Or.inl rfl) (Nat.le_of_ble_eq_true rfl) (mw_obj hM) rfl ?_
          refine v_bipush (pc := 111) dX5_passesDay_111 ⟨by decide, by decide⟩ ?_
          refine v_ldM_now hM (pc := 113) dX5_passesDay_113 (by omega) ?_
          refine v_icmp_lt (pc := 114) (tgt := 120) dX5_passesDay_114 rfl (by omega) (by omega) (fun c114 => ?_) (fun c114 => ?_)
          · refine v_ald0 (pc := 120) dX5_passesDay_120 ?_
            refine v_ild1 (pc := 121) dX5_passesDay_121 ?_
            refine v_ce0 (pc := 122) (v_runV1 okX5_livingIn rfl (sp_X5_livingIn hM hR1 (by omega)) dX5_passesDay_122 (lw_all_tbl q2143) (lw_all_tbl q2145) (lw_all_tbl qs59) rfl (mw_obj hM) (Nat.le_of_ble_eq_true rfl) ⟨Nat.zero_le _, Nat.zero_le _⟩ (Nat.le_of_ble_eq_true rfl)) ?_
            refine v_if_ne (pc := 125) (tgt := 136) dX5_passesDay_125 rfl (by omega) (fun c125 => ?_) (fun c125 => ?_)
            · refine v_ald0 (pc := 136) dX5_passesDay_136 ?_
              refine v_ild1 (pc := 137) dX5_passesDay_137 ?_
              refine v_ci0 (pc := 138) (v_runV1 okX5_buries rfl (sp_X5_buries hM hR1 (by omega) (by omega) (fun q => (hka.keep hK (by omega)) q) (by omega)) dX5_passesDay_138 (lw_all_tbl q2320) (lw_all_tbl q2322) (lw_all_tbl qs85) rfl (mw_obj hM) (Nat.le_of_ble_eq_true rfl) ⟨Nat.zero_le _, Nat.zero_le _⟩ (Nat.le_of_ble_eq_true rfl)) (fun x138 h hq138 => ?_)
              rcases hq138 with ⟨ex138, w', c138, hM⟩ | ⟨ex138, c138, hM⟩ <;> subst ex138
              · refine v_ist2 (pc := 141) dX5_passesDay_141 rfl ?_
                refine v_iinc1 (pc := 142) dX5_passesDay_142 rfl ?_
                refine v_goto (pc := 145) (tgt := 77) dX5_passesDay_145 rfl ?_
                refine v_forget 2 ?_
                exact ih _ (by omega) _ _ _ _ rfl hM (by omega) (by rw [mDayZ_s hz.1, he, mDayZ1]; first | rw [if_pos (by omega)] | (rw [if_neg (by omega), if_pos (by omega)]) | (rw [if_neg (by omega), if_neg (by omega), c138]; rfl))
              · refine v_ist2 (pc := 141) dX5_passesDay_141 rfl ?_
                refine v_iinc1 (pc := 142) dX5_passesDay_142 rfl ?_
                refine v_goto (pc := 145) (tgt := 77) dX5_passesDay_145 rfl ?_
                refine v_forget 2 ?_
                exact ih _ (by omega) _ _ _ _ rfl hM (by omega) (by rw [mDayZ_s hz.1, he, mDayZ1]; first | rw [if_pos (by omega)] | (rw [if_neg (by omega), if_pos (by omega)]) | (rw [if_neg (by omega), if_neg (by omega), c138]; rfl))
            · refine v_ald0 (pc := 128) dX5_passesDay_128 ?_
              refine v_ild1 (pc := 129) dX5_passesDay_129 ?_
              refine v_cv0 (pc := 130) (v_runV1 okX5_resets rfl (sp_X5_resets hM (by omega)) dX5_passesDay_130 (lw_all_tbl q2312) (lw_all_tbl q2314) (lw_all_tbl qs83) rfl (mw_obj hM) (Nat.le_of_ble_eq_true rfl) ⟨Nat.zero_le _, Nat.zero_le _⟩ (Nat.le_of_ble_eq_true rfl)) (fun h hM => ?_)
              refine v_goto (pc := 133) (tgt := 142) dX5_passesDay_133 rfl ?_
              refine v_iinc1 (pc := 142) dX5_passesDay_142 rfl ?_
              refine v_goto (pc := 145) (tgt := 77) dX5_passesDay_145 rfl ?_
              exact ih _ (by omega) _ _ _ _ rfl hM (by omega) (by rw [mDayZ_s hz.1, he, mDayZ1]; first | rw [if_pos (by omega)] | (rw [if_neg (by omega), if_pos (by omega)]) | (rw [if_neg (by omega), if_neg (by omega), c138]; rfl))
          · refine v_goto (pc := 117) (tgt := 142) dX5_passesDay_117 rfl ?_
            refine v_iinc1 (pc := 142) dX5_passesDay_142 rfl ?_
            refine v_goto (pc := 145) (tgt := 77) dX5_passesDay_145 rfl ?_
            exact ih _ (by omega) _ _ _ _ rfl hM (by omega) (by rw [mDayZ_s hz.1, he, mDayZ1]; first | rw [if_pos (by omega)] | (rw [if_neg (by omega), if_pos (by omega)]) | (rw [if_neg (by omega), if_neg (by omega), c138]; rfl))
  have L13 : ∀ (n9 : Nat) (h1 : AH) (now1 : Int → Int) (u : Int), (now 7 - u).toNat = n9 → (MW t α h0 h1 thrown now1 aside tried undos undoMany saved isSaved accounts way leftOut here text length atp frm token number error errorAt commands command out outLong) → (0 ≤ u ∧ u ≤ now 7) → (mDayU now u = now1) → V Γ mX5_passesDay 8 0 0 (Qv (fun h' => ∃ tr, MW t α h0 h' thrown ((mDay now aside way)) aside tr undos undoMany saved isSaved accounts way leftOut here text length atp frm token number error errorAt commands command out outLong)) (NoX) h1 0 0 13 [some (.ref (α 0)), some (vi u), none] [] := by
    intro n9
    induction n9 using Nat.strongRecOn with
    | _ n9 ih =>
      intro h1 now1 u hn9 hM hu he
      obtain ⟨hR1, hK⟩ := mDayU_inv hR (by omega) u hu.1 hu.2
      rw [he] at hR1 hK
      have f0 := hK.1 0 (by omega)
      have f7 := hK.1 7 (by omega)
      have hc1 := hR1.c0
      have h61 := hR1.s6
      refine v_ild1 (pc := 13) dX5_passesDay_13 ?_
      refine v_ald0 (pc := 14) dX5_passesDay_14 ?_
      refine v_getf KX5 1 (pc := 15) dX5_passesDay_15 (lw_all_tbl q1995) (Or.inl rfl) (Nat.le_of_ble_eq_true rfl) (mw_obj hM) rfl ?_
      refine v_bipush (pc := 18) dX5_passesDay_18 ⟨by decide, by decide⟩ ?_
      refine v_ldM_now hM (pc := 20) dX5_passesDay_20 (by omega) ?_
      refine v_icmp_ge (pc := 21) (tgt := 75) dX5_passesDay_21 rfl (by omega) (by omega) (fun c21 => ?_) (fun c21 => ?_)
      · refine v_iconst (pc := 75) dX5_passesDay_75 ?_
        refine v_ist1 (pc := 76) dX5_passesDay_76 rfl ?_
        exact L77 _ _ _ _ _ rfl hM (by omega) (by rw [mDayZ, fI_0, ← he, show u = now 7 by omega])
      · have hlv := hR1.uLv u ⟨by omega, by omega⟩
        have hfa := hR1.uFa u ⟨by omega, by omega⟩
        have hwt := hR1.uWt u ⟨by omega, by omega⟩
        refine v_ald0 (pc := 24) dX5_passesDay_24 ?_
        refine v_ild1 (pc := 25) dX5_passesDay_25 ?_
        refine v_cb0 (pc := 26) (v_runV1 okX5_lives rfl (sp_X5_lives hM (by omega) (by omega)) dX5_passesDay_26 (lw_all_tbl q2100) (lw_all_tbl q2102) (lw_all_tbl qs50) rfl (mw_obj hM) (Nat.le_of_ble_eq_true rfl) ⟨Nat.zero_le _, Nat.zero_le _⟩ (Nat.le_of_ble_eq_true rfl)) (fun c26 => ?_) (fun c26 => ?_)
        · refine v_if_eq1 (pc := 29) (tgt := 69) dX5_passesDay_29 rfl ?_
          refine v_ald0 (pc := 32) dX5_passesDay_32 ?_
          refine v_ild1 (pc := 33) dX5_passesDay_33 ?_
          refine v_iconst (pc := 34) dX5_passesDay_34 ?_
          refine v_ce0 (pc := 35) (v_runV2 okX5_ofUnit rfl (sp_X5_ofUnit hM (by omega) (by omega)) dX5_passesDay_35 (lw_all_tbl q2104) (lw_all_tbl q2106) (lw_all_tbl qs51) rfl (mw_obj hM) (Nat.le_of_ble_eq_true rfl) ⟨Nat.zero_le _, Nat.zero_le _⟩ (Nat.le_of_ble_eq_true rfl)) ?_
          refine v_if_le (pc := 38) (tgt := 69) dX5_passesDay_38 rfl (by omega) (fun c38 => ?_) (fun c38 => ?_)
          · refine v_iinc1 (pc := 69) dX5_passesDay_69 rfl ?_
            refine v_goto (pc := 72) (tgt := 13) dX5_passesDay_72 rfl ?_
            exact ih _ (by omega) _ _ _ rfl hM (by omega) (by rw [mDayU_s hu.1, he]; first | rw [if_pos (by omega)] | rw [if_neg (by omega)])
          · refine v_ald0 (pc := 41) dX5_passesDay_41 ?_
            refine v_ild1 (pc := 42) dX5_passesDay_42 ?_
            refine v_iconst (pc := 43) dX5_passesDay_43 ?_
            refine v_ce0 (pc := 44) (v_runV2 okX5_ofUnit rfl (sp_X5_ofUnit hM (by omega) (by omega)) dX5_passesDay_44 (lw_all_tbl q2104) (lw_all_tbl q2106) (lw_all_tbl qs51) rfl (mw_obj hM) (Nat.le_of_ble_eq_true rfl) ⟨Nat.zero_le _, Nat.zero_le _⟩ (Nat.le_of_ble_eq_true rfl)) ?_
            refine v_ald0 (pc := 47) dX5_passesDay_47 ?_
            refine v_ild1 (pc := 48) dX5_passesDay_48 ?_
            refine v_iconst (pc := 49) dX5_passesDay_49 ?_
            refine v_ce0 (pc := 50) (v_runV2 okX5_ofUnit rfl (sp_X5_ofUnit hM (by omega) (by omega)) dX5_passesDay_50 (lw_all_tbl q2104) (lw_all_tbl q2106) (lw_all_tbl qs51) rfl (mw_obj hM) (Nat.le_of_ble_eq_true rfl) ⟨Nat.zero_le _, Nat.zero_le _⟩ (Nat.le_of_ble_eq_true rfl)) ?_
            refine v_iadd (pc := 53) dX5_passesDay_53 ?_
            refine v_ald0 (pc := 54) dX5_passesDay_54 ?_
            refine v_getf KX5 1 (pc := 55) dX5_passesDay_55 (lw_all_tbl q1995) (Or.inl rfl) (Nat.le_of_ble_eq_true rfl) (mw_obj hM) rfl ?_
            refine v_bipush (pc := 58) dX5_passesDay_58 ⟨by decide, by decide⟩ ?_
            refine v_ldM_now hM (pc := 60) dX5_passesDay_60 (by omega) ?_
            refine v_icmp_gt (pc := 61) (tgt := 69) dX5_passesDay_61 rfl (by omega) (by omega) (fun c61 => ?_) (fun c61 => ?_)
            · refine v_iinc1 (pc := 69) dX5_passesDay_69 rfl ?_
              refine v_goto (pc := 72) (tgt := 13) dX5_passesDay_72 rfl ?_
              exact ih _ (by omega) _ _ _ rfl hM (by omega) (by rw [mDayU_s hu.1, he]; first | rw [if_pos (by omega)] | rw [if_neg (by omega)])
            · refine v_ald0 (pc := 64) dX5_passesDay_64 ?_
              refine v_ild1 (pc := 65) dX5_passesDay_65 ?_
              refine v_cv0 (pc := 66) (v_runV1 okX5_dies rfl (sp_X5_dies hM hR1 (by omega)) dX5_passesDay_66 (lw_all_tbl q2296) (lw_all_tbl q2298) (lw_all_tbl qs79) rfl (mw_obj hM) (Nat.le_of_ble_eq_true rfl) ⟨Nat.zero_le _, Nat.zero_le _⟩ (Nat.le_of_ble_eq_true rfl)) (fun h hM => ?_)
              refine v_iinc1 (pc := 69) dX5_passesDay_69 rfl ?_
              refine v_goto (pc := 72) (tgt := 13) dX5_passesDay_72 rfl ?_
              exact ih _ (by omega) _ _ _ rfl hM (by omega) (by rw [mDayU_s hu.1, he]; first | rw [if_pos (by omega)] | rw [if_neg (by omega)])
        · refine v_if_eq0 (pc := 29) (tgt := 69) dX5_passesDay_29 rfl ?_
          refine v_iinc1 (pc := 69) dX5_passesDay_69 rfl ?_
          refine v_goto (pc := 72) (tgt := 13) dX5_passesDay_72 rfl ?_
          exact ih _ (by omega) _ _ _ rfl hM (by omega) (by rw [mDayU_s hu.1, he]; first | rw [if_pos (by omega)] | rw [if_neg (by omega)])
  refine v_ald0 (pc := 0) dX5_passesDay_0 ?_
  refine v_getf KX5 1 (pc := 1) dX5_passesDay_1 (lw_all_tbl q1995) (Or.inl rfl) (Nat.le_of_ble_eq_true rfl) (mw_obj hM) rfl ?_
  refine v_bipush (pc := 4) dX5_passesDay_4 ⟨by decide, by decide⟩ ?_
  refine v_dup2 (pc := 6) dX5_passesDay_6 rfl rfl ?_
  refine v_ldM_now hM (pc := 7) dX5_passesDay_7 (by omega) ?_
  refine v_iconst (pc := 8) dX5_passesDay_8 ?_
  refine v_iadd (pc := 9) dX5_passesDay_9 ?_
  refine v_stM_now hM (pc := 10) dX5_passesDay_10 (by omega) (fun h hM => ?_)
  refine v_iconst (pc := 11) dX5_passesDay_11 ?_
  refine v_ist1 (pc := 12) dX5_passesDay_12 rfl ?_
  exact L13 _ _ _ _ rfl hM (by omega) rfl
theorem sp_X5_passesDays {Γ : Cx} {t : Nat} {α : Nat → Nat} {h0 h : AH} {thrown : Int} {now : Int → Int} {aside : Int → Int} {tried : Int → Int} {undos : Int → Int} {undoMany : Int} {saved : Int → Int} {isSaved : Int → Int} {accounts : Int → Int} {way : Int} {leftOut : Int} {here : Int → Int} {text : Int → Int} {length : Int} {atp : Int} {frm : Int} {token : Int} {number : Int} {error : Int} {errorAt : Int} {commands : Int} {command : Int → Int} {out : Int → Int} {outLong : Int} {c : Int} {ca days : Int} (hM : MW t α h0 h thrown now aside tried undos undoMany saved isSaved accounts way leftOut here text length atp frm token number error errorAt commands command out outLong) (hR : ROK now c) (hway : 0 ≤ way ∧ way ≤ 6) (hka : KA aside way ca now) (hdays : 0 ≤ days ∧ days ≤ 60) (hc : c + 1300 * days ≤ 14000000) : Sp Γ yX5_passesDays mX5_passesDays 9 0 0 [.ref (α 0), vi days] h (Qv (fun h' => ∃ tr, MW t α h0 h' thrown ((mDays now aside way days)) aside tr undos undoMany saved isSaved accounts way leftOut here text length atp frm token number error errorAt commands command out outLong)) NoX := by
  refine sp_of okX5_passesDays (cat_all rfl) (Nat.le_of_ble_eq_true rfl) rfl ?_
  have h7 := hR.s7
  have hc0 := hR.c0
  have L2 : ∀ (n9 : Nat) (h1 : AH) (now1 : Int → Int) (tr1 : Int → Int) (k : Int), (days - k).toNat = n9 → (MW t α h0 h1 thrown now1 aside tr1 undos undoMany saved isSaved accounts way leftOut here text length atp frm token number error errorAt commands command out outLong) → (0 ≤ k ∧ k ≤ days) → (mDays now aside way k = now1) → V Γ mX5_passesDays 9 0 0 (Qv (fun h' => ∃ tr, MW t α h0 h' thrown ((mDays now aside way days)) aside tr undos undoMany saved isSaved accounts way leftOut here text length atp frm token number error errorAt commands command out outLong)) (NoX) h1 0 0 2 [some (.ref (α 0)), some (vi days), some (vi k)] [] := by
    intro n9
    induction n9 using Nat.strongRecOn with
    | _ n9 ih =>
      intro h1 now1 tr1 k hn9 hM hk he
      obtain ⟨hR1, hK⟩ := mDays_inv (as := aside) (way := way) hR hc k hk.1 hk.2
      rw [he] at hR1 hK
      refine v_ild2 (pc := 2) dX5_passesDays_2 ?_
      refine v_ild1 (pc := 3) dX5_passesDays_3 ?_
      refine v_icmp_ge (pc := 4) (tgt := 17) dX5_passesDays_4 rfl (by omega) (by omega) (fun c4 => ?_) (fun c4 => ?_)
      · refine v_ret_v (pc := 17) dX5_passesDays_17 rfl ?_
        exact qv_ok ⟨_, by rw [show mDays now aside way days = now1 by rw [← he, show k = days by omega]]; exact hM⟩
      · refine v_ald0 (pc := 7) dX5_passesDays_7 ?_
        refine v_cv0 (pc := 8) (v_runV0 okX5_passesDay rfl (sp_X5_passesDay hM hR1 (by omega) (hka.keep hK (by omega)) (by omega)) dX5_passesDays_8 (lw_all_tbl q2328) (lw_all_tbl q2330) (lw_all_tbl qs87) rfl (mw_obj hM) (Nat.le_of_ble_eq_true rfl) ⟨Nat.zero_le _, Nat.zero_le _⟩ (Nat.le_of_ble_eq_true rfl)) (fun h ⟨tried, hM⟩ => ?_)
        refine v_iinc2 (pc := 11) dX5_passesDays_11 rfl ?_
        refine v_goto (pc := 14) (tgt := 2) dX5_passesDays_14 rfl ?_
        exact ih _ (by omega) _ _ _ _ rfl hM (by omega) (by rw [mDays_s hk.1, he])
  refine v_iconst (pc := 0) dX5_passesDays_0 ?_
  refine v_ist2 (pc := 1) dX5_passesDays_1 rfl ?_
  exact L2 _ _ _ _ _ rfl hM (by omega) rfl
