/-! FlashZonesModel: walks, 2 (printed by gen) -/
set_option maxRecDepth 100000
theorem sp_X5_weighs {Γ : Cx} {t : Nat} {α : Nat → Nat} {h0 h : AH} {thrown : Int} {now : Int → Int} {aside : Int → Int} {tried : Int → Int} {undos : Int → Int} {undoMany : Int} {saved : Int → Int} {isSaved : Int → Int} {accounts : Int → Int} {way : Int} {leftOut : Int} {here : Int → Int} {text : Int → Int} {length : Int} {atp : Int} {frm : Int} {token : Int} {number : Int} {error : Int} {errorAt : Int} {commands : Int} {command : Int → Int} {out : Int → Int} {outLong : Int} {u : Int} (hM : MW t α h0 h thrown now aside tried undos undoMany saved isSaved accounts way leftOut here text length atp frm token number error errorAt commands command out outLong) (hu : 0 ≤ u ∧ u ≤ 98) (hl : -1 ≤ now (23 + 17 * u + 9) ∧ now (23 + 17 * u + 9) ≤ 14000000) (ht : ∀ g, 0 ≤ g ∧ g ≤ 4 → 0 ≤ now (23 + 17 * u + (10 + g)) ∧ now (23 + 17 * u + (10 + g)) ≤ 1000) (hld : 0 ≤ now (23 + 17 * u + 7) ∧ now (23 + 17 * u + 7) ≤ 6 ∧ now (23 + 17 * u + 7) ≠ 5) (h5 : 0 ≤ now 5 ∧ now 5 ≤ 90) (hwt : (∀ k, 0 ≤ k ∧ k ≤ 4 → 1 ≤ now (13 + k) ∧ now (13 + k) ≤ 1000)) : Sp Γ yX5_weighs mX5_weighs 4 0 0 [.ref (α 0), vi u] h (Qv (fun h' => MW t α h0 h' thrown ((mWeighs now u)) aside tried undos undoMany saved isSaved accounts way leftOut here text length atp frm token number error errorAt commands command out outLong)) NoX := by
  refine sp_of okX5_weighs (cat_all rfl) (Nat.le_of_ble_eq_true rfl) rfl ?_
  have L114 : ∀ (n9 : Nat) (h1 : AH) (now1 : Int → Int) (nowA : Int → Int) (low : Int) (g : Int), (5 - g).toNat = n9 → (MW t α h0 h1 thrown now1 aside tried undos undoMany saved isSaved accounts way leftOut here text length atp frm token number error errorAt commands command out outLong) → (0 ≤ g ∧ g ≤ 5) → (0 ≤ low ∧ low ≤ 1) → (fI 5 (mW1 u) (now, 1) = (nowA, low)) → (now1 = if low = 1 then mW2 nowA g else nowA) → ((∀ i, i < 13 ∨ 23 ≤ i → now1 i = now i)) → V Γ mX5_weighs 4 0 0 (Qv (fun h' => MW t α h0 h' thrown ((mWeighs now u)) aside tried undos undoMany saved isSaved accounts way leftOut here text length atp frm token number error errorAt commands command out outLong)) (NoX) h1 0 0 114 [some (.ref (α 0)), some (vi u), some (vi low), some (vi g), none, none] [] := by
    intro n9
    induction n9 using Nat.strongRecOn with
    | _ n9 ih =>
      intro h1 now1 nowA low g hn9 hM hg hlow he h2 hfr
      refine v_ild3 (pc := 114) dX5_weighs_114 ?_
      refine v_iconst (pc := 115) dX5_weighs_115 ?_
      refine v_icmp_ge (pc := 116) (tgt := 142) dX5_weighs_116 rfl (by omega) (by omega) (fun c116 => ?_) (fun c116 => ?_)
      · have ha7 := hfr (23 + 17 * u + 7) (by omega)
        have ha9 := hfr (23 + 17 * u + 9) (by omega)
        have ha10 := hfr (23 + 17 * u + (10 + now1 (23 + 17 * u + 7))) (by omega)
        have h25 : now1 = if low = 1 then mW2 nowA 5 else nowA := by rw [h2, show g = 5 by omega]
        refine v_ald0 (pc := 142) dX5_weighs_142 ?_
        refine v_ild1 (pc := 143) dX5_weighs_143 ?_
        refine v_bipush (pc := 144) dX5_weighs_144 ⟨by decide, by decide⟩ ?_
        refine v_ce0 (pc := 146) (v_runV2 okX5_ofUnit rfl (sp_X5_ofUnit hM (by omega) (by omega)) dX5_weighs_146 (lw_all_tbl q2104) (lw_all_tbl q2106) (lw_all_tbl qs51) rfl (mw_obj hM) (Nat.le_of_ble_eq_true rfl) ⟨Nat.zero_le _, Nat.zero_le _⟩ (Nat.le_of_ble_eq_true rfl)) ?_
        refine v_bipush (pc := 149) dX5_weighs_149 ⟨by decide, by decide⟩ ?_
        refine v_icmp_eq (pc := 151) (tgt := 176) dX5_weighs_151 rfl (by omega) (by omega) (fun c151 => ?_) (fun c151 => ?_)
        · refine v_ret_v (pc := 176) dX5_weighs_176 rfl ?_
          exact qv_ok (by rw [mWeighs_ok he h25, mW3]; first | (rw [if_pos (by omega)]; exact hM) | (rw [if_neg (by omega)]; exact hM))
        · have hb2 := ht (now1 (23 + 17 * u + 7)) (by omega)
          refine v_ald0 (pc := 154) dX5_weighs_154 ?_
          refine v_getf KX5 1 (pc := 155) dX5_weighs_155 (lw_all_tbl q1995) (Or.inl rfl) (Nat.le_of_ble_eq_true rfl) (mw_obj hM) rfl ?_
          refine v_bipush (pc := 158) dX5_weighs_158 ⟨by decide, by decide⟩ ?_
          refine v_dup2 (pc := 160) dX5_weighs_160 rfl rfl ?_
          refine v_ldM_now hM (pc := 161) dX5_weighs_161 (by omega) ?_
          refine v_ald0 (pc := 162) dX5_weighs_162 ?_
          refine v_ild1 (pc := 163) dX5_weighs_163 ?_
          refine v_ald0 (pc := 164) dX5_weighs_164 ?_
          refine v_ild1 (pc := 165) dX5_weighs_165 ?_
          refine v_bipush (pc := 166) dX5_weighs_166 ⟨by decide, by decide⟩ ?_
          refine v_ce0 (pc := 168) (v_runV2 okX5_ofUnit rfl (sp_X5_ofUnit hM (by omega) (by omega)) dX5_weighs_168 (lw_all_tbl q2104) (lw_all_tbl q2106) (lw_all_tbl qs51) rfl (mw_obj hM) (Nat.le_of_ble_eq_true rfl) ⟨Nat.zero_le _, Nat.zero_le _⟩ (Nat.le_of_ble_eq_true rfl)) ?_
          refine v_ce0 (pc := 171) (v_runV2 okX5_lossOf rfl (sp_X5_lossOf hM (by omega) (by omega) (by omega) (by omega)) dX5_weighs_171 (lw_all_tbl q2217) (lw_all_tbl q2219) (lw_all_tbl qs67) rfl (mw_obj hM) (Nat.le_of_ble_eq_true rfl) ⟨Nat.zero_le _, Nat.zero_le _⟩ (Nat.le_of_ble_eq_true rfl)) ?_
          refine v_iadd (pc := 174) dX5_weighs_174 ?_
          refine v_stM_now hM (pc := 175) dX5_weighs_175 (by omega) (fun h hM => ?_)
          refine v_ret_v (pc := 176) dX5_weighs_176 rfl ?_
          exact qv_ok (by rw [mWeighs_ok he h25, mW3]; first | (rw [if_pos (by omega)]; exact hM) | (rw [if_neg (by omega)]; exact hM))
      · refine v_ild2 (pc := 119) dX5_weighs_119 ?_
        refine v_if_eq (pc := 120) (tgt := 142) dX5_weighs_120 rfl (by omega) (fun c120 => ?_) (fun c120 => ?_)
        · have ha7 := hfr (23 + 17 * u + 7) (by omega)
          have ha9 := hfr (23 + 17 * u + 9) (by omega)
          have ha10 := hfr (23 + 17 * u + (10 + now1 (23 + 17 * u + 7))) (by omega)
          have h25 : now1 = if low = 1 then mW2 nowA 5 else nowA := by rw [h2, if_neg (by omega), if_neg (by omega)]
          refine v_ald0 (pc := 142) dX5_weighs_142 ?_
          refine v_ild1 (pc := 143) dX5_weighs_143 ?_
          refine v_bipush (pc := 144) dX5_weighs_144 ⟨by decide, by decide⟩ ?_
          refine v_ce0 (pc := 146) (v_runV2 okX5_ofUnit rfl (sp_X5_ofUnit hM (by omega) (by omega)) dX5_weighs_146 (lw_all_tbl q2104) (lw_all_tbl q2106) (lw_all_tbl qs51) rfl (mw_obj hM) (Nat.le_of_ble_eq_true rfl) ⟨Nat.zero_le _, Nat.zero_le _⟩ (Nat.le_of_ble_eq_true rfl)) ?_
          refine v_bipush (pc := 149) dX5_weighs_149 ⟨by decide, by decide⟩ ?_
          refine v_icmp_eq (pc := 151) (tgt := 176) dX5_weighs_151 rfl (by omega) (by omega) (fun c151 => ?_) (fun c151 => ?_)
          · refine v_ret_v (pc := 176) dX5_weighs_176 rfl ?_
            exact qv_ok (by rw [mWeighs_ok he h25, mW3]; first | (rw [if_pos (by omega)]; exact hM) | (rw [if_neg (by omega)]; exact hM))
          · have hb2 := ht (now1 (23 + 17 * u + 7)) (by omega)
            refine v_ald0 (pc := 154) dX5_weighs_154 ?_
            refine v_getf KX5 1 (pc := 155) dX5_weighs_155 (lw_all_tbl q1995) (Or.inl rfl) (Nat.le_of_ble_eq_true rfl) (mw_obj hM) rfl ?_
            refine v_bipush (pc := 158) dX5_weighs_158 ⟨by decide, by decide⟩ ?_
            refine v_dup2 (pc := 160) dX5_weighs_160 rfl rfl ?_
            refine v_ldM_now hM (pc := 161) dX5_weighs_161 (by omega) ?_
            refine v_ald0 (pc := 162) dX5_weighs_162 ?_
            refine v_ild1 (pc := 163) dX5_weighs_163 ?_
            refine v_ald0 (pc := 164) dX5_weighs_164 ?_
            refine v_ild1 (pc := 165) dX5_weighs_165 ?_
            refine v_bipush (pc := 166) dX5_weighs_166 ⟨by decide, by decide⟩ ?_
            refine v_ce0 (pc := 168) (v_runV2 okX5_ofUnit rfl (sp_X5_ofUnit hM (by omega) (by omega)) dX5_weighs_168 (lw_all_tbl q2104) (lw_all_tbl q2106) (lw_all_tbl qs51) rfl (mw_obj hM) (Nat.le_of_ble_eq_true rfl) ⟨Nat.zero_le _, Nat.zero_le _⟩ (Nat.le_of_ble_eq_true rfl)) ?_
            refine v_ce0 (pc := 171) (v_runV2 okX5_lossOf rfl (sp_X5_lossOf hM (by omega) (by omega) (by omega) (by omega)) dX5_weighs_171 (lw_all_tbl q2217) (lw_all_tbl q2219) (lw_all_tbl qs67) rfl (mw_obj hM) (Nat.le_of_ble_eq_true rfl) ⟨Nat.zero_le _, Nat.zero_le _⟩ (Nat.le_of_ble_eq_true rfl)) ?_
            refine v_iadd (pc := 174) dX5_weighs_174 ?_
            refine v_stM_now hM (pc := 175) dX5_weighs_175 (by omega) (fun h hM => ?_)
            refine v_ret_v (pc := 176) dX5_weighs_176 rfl ?_
            exact qv_ok (by rw [mWeighs_ok he h25, mW3]; first | (rw [if_pos (by omega)]; exact hM) | (rw [if_neg (by omega)]; exact hM))
        · refine v_ald0 (pc := 123) dX5_weighs_123 ?_
          refine v_getf KX5 1 (pc := 124) dX5_weighs_124 (lw_all_tbl q1995) (Or.inl rfl) (Nat.le_of_ble_eq_true rfl) (mw_obj hM) rfl ?_
          refine v_bipush (pc := 127) dX5_weighs_127 ⟨by decide, by decide⟩ ?_
          refine v_ild3 (pc := 129) dX5_weighs_129 ?_
          refine v_iadd (pc := 130) dX5_weighs_130 ?_
          refine v_dup2 (pc := 131) dX5_weighs_131 rfl rfl ?_
          refine v_ldM_now hM (pc := 132) dX5_weighs_132 (by omega) ?_
          refine v_iconst (pc := 133) dX5_weighs_133 ?_
          refine v_imul (pc := 134) dX5_weighs_134 ?_
          refine v_stM_now hM (pc := 135) dX5_weighs_135 (by omega) (fun h hM => ?_)
          refine v_iinc3 (pc := 136) dX5_weighs_136 rfl ?_
          refine v_goto (pc := 139) (tgt := 114) dX5_weighs_139 rfl ?_
          exact ih _ (by omega) _ _ _ _ _ rfl hM (by omega) (by omega) he (by rw [h2, if_pos (by omega), if_pos (by omega), mW2_s (by omega)]) (fun i hi => by rw [upi_n (by omega)]; exact hfr i hi)
  have L4 : ∀ (n9 : Nat) (h1 : AH) (now1 : Int → Int) (low : Int) (g : Int), (5 - g).toNat = n9 → (MW t α h0 h1 thrown now1 aside tried undos undoMany saved isSaved accounts way leftOut here text length atp frm token number error errorAt commands command out outLong) → (0 ≤ g ∧ g ≤ 5) → (0 ≤ low ∧ low ≤ 1) → (fI g (mW1 u) (now, 1) = (now1, low)) → ((∀ i, i < 13 ∨ 23 ≤ i → now1 i = now i)) → ((∀ k, 0 ≤ k ∧ k ≤ 4 → 1 ≤ now1 (13 + k) ∧ now1 (13 + k) ≤ 1000)) → V Γ mX5_weighs 4 0 0 (Qv (fun h' => MW t α h0 h' thrown ((mWeighs now u)) aside tried undos undoMany saved isSaved accounts way leftOut here text length atp frm token number error errorAt commands command out outLong)) (NoX) h1 0 0 4 [some (.ref (α 0)), some (vi u), some (vi low), some (vi g), none, none] [] := by
    intro n9
    induction n9 using Nat.strongRecOn with
    | _ n9 ih =>
      intro h1 now1 low g hn9 hM hg hlow he hfr hwt1
      refine v_ild3 (pc := 4) dX5_weighs_4 ?_
      refine v_iconst (pc := 5) dX5_weighs_5 ?_
      refine v_icmp_ge (pc := 6) (tgt := 112) dX5_weighs_6 rfl (by omega) (by omega) (fun c6 => ?_) (fun c6 => ?_)
      · have hx : g = 5 := by omega
        subst hx
        refine v_iconst (pc := 112) dX5_weighs_112 ?_
        refine v_ist3 (pc := 113) dX5_weighs_113 rfl ?_
        exact L114 _ _ _ _ _ _ rfl hM (by omega) (by omega) he (by split <;> rfl) hfr
      · have ha := hfr (23 + 17 * u + 9) (by omega)
        have hb := hfr (23 + 17 * u + (10 + g)) (by omega)
        have hb2 := ht g (by omega)
        have hc5 := hfr 5 (by omega)
        have hw1 := hwt1 g (by omega)
        have hlo := mLoss_r now1 u g
        have hwr := wt_r (a := now1 (13 + g)) (b := now1 5) (l := mLoss now1 u g) (by omega) (by omega) (by omega)
        refine v_ald0 (pc := 9) dX5_weighs_9 ?_
        refine v_ild1 (pc := 10) dX5_weighs_10 ?_
        refine v_ild3 (pc := 11) dX5_weighs_11 ?_
        refine v_ce0 (pc := 12) (v_runV2 okX5_lossOf rfl (sp_X5_lossOf hM (by omega) (by omega) (by omega) (by omega)) dX5_weighs_12 (lw_all_tbl q2217) (lw_all_tbl q2219) (lw_all_tbl qs67) rfl (mw_obj hM) (Nat.le_of_ble_eq_true rfl) ⟨Nat.zero_le _, Nat.zero_le _⟩ (Nat.le_of_ble_eq_true rfl)) ?_
        refine v_ist4 (pc := 15) dX5_weighs_15 rfl ?_
        refine v_ald0 (pc := 17) dX5_weighs_17 ?_
        refine v_getf KX5 1 (pc := 18) dX5_weighs_18 (lw_all_tbl q1995) (Or.inl rfl) (Nat.le_of_ble_eq_true rfl) (mw_obj hM) rfl ?_
        refine v_bipush (pc := 21) dX5_weighs_21 ⟨by decide, by decide⟩ ?_
        refine v_ild3 (pc := 23) dX5_weighs_23 ?_
        refine v_iadd (pc := 24) dX5_weighs_24 ?_
        refine v_ldM_now hM (pc := 25) dX5_weighs_25 (by omega) ?_
        refine v_sipush (pc := 26) dX5_weighs_26 ⟨by decide, by decide⟩ ?_
        refine v_ald0 (pc := 29) dX5_weighs_29 ?_
        refine v_getf KX5 1 (pc := 30) dX5_weighs_30 (lw_all_tbl q1995) (Or.inl rfl) (Nat.le_of_ble_eq_true rfl) (mw_obj hM) rfl ?_
        refine v_iconst (pc := 33) dX5_weighs_33 ?_
        refine v_ldM_now hM (pc := 34) dX5_weighs_34 (by omega) ?_
        refine v_ild4 (pc := 35) dX5_weighs_35 ?_
        refine v_imul (pc := 37) dX5_weighs_37 ?_
        refine v_isub (pc := 38) dX5_weighs_38 ?_
        refine v_imul (pc := 39) dX5_weighs_39 ?_
        refine v_sipush (pc := 40) dX5_weighs_40 ⟨by decide, by decide⟩ ?_
        refine v_idiv (pc := 43) dX5_weighs_43 (by omega) (by omega) (by omega) ?_
        refine v_ist5 (pc := 44) dX5_weighs_44 rfl ?_
        refine v_ald0 (pc := 46) dX5_weighs_46 ?_
        refine v_getf KX5 1 (pc := 47) dX5_weighs_47 (lw_all_tbl q1995) (Or.inl rfl) (Nat.le_of_ble_eq_true rfl) (mw_obj hM) rfl ?_
        refine v_bipush (pc := 50) dX5_weighs_50 ⟨by decide, by decide⟩ ?_
        refine v_ild3 (pc := 52) dX5_weighs_52 ?_
        refine v_iadd (pc := 53) dX5_weighs_53 ?_
        refine v_dup2 (pc := 54) dX5_weighs_54 rfl rfl ?_
        refine v_ldM_now hM (pc := 55) dX5_weighs_55 (by omega) ?_
        refine v_ild4 (pc := 56) dX5_weighs_56 ?_
        refine v_iadd (pc := 58) dX5_weighs_58 ?_
        refine v_stM_now hM (pc := 59) dX5_weighs_59 (by omega) (fun h hM => ?_)
        refine v_ald0 (pc := 60) dX5_weighs_60 ?_
        refine v_getf KX5 1 (pc := 61) dX5_weighs_61 (lw_all_tbl q1995) (Or.inl rfl) (Nat.le_of_ble_eq_true rfl) (mw_obj hM) rfl ?_
        refine v_bipush (pc := 64) dX5_weighs_64 ⟨by decide, by decide⟩ ?_
        refine v_ild3 (pc := 66) dX5_weighs_66 ?_
        refine v_iadd (pc := 67) dX5_weighs_67 ?_
        refine v_ild5 (pc := 68) dX5_weighs_68 ?_
        refine v_iconst (pc := 70) dX5_weighs_70 ?_
        refine v_icmp_ge (pc := 71) (tgt := 78) dX5_weighs_71 rfl (by omega) (by omega) (fun c71 => ?_) (fun c71 => ?_)
        · refine v_ild5 (pc := 78) dX5_weighs_78 ?_
          refine v_stM_now hM (pc := 80) dX5_weighs_80 (by omega) (fun h hM => ?_)
          refine v_ild2 (pc := 81) dX5_weighs_81 ?_
          refine v_if_eq (pc := 82) (tgt := 104) dX5_weighs_82 rfl (by omega) (fun c82 => ?_) (fun c82 => ?_)
          · refine v_iconst (pc := 104) dX5_weighs_104 ?_
            refine v_ist2 (pc := 105) dX5_weighs_105 rfl ?_
            refine v_iinc3 (pc := 106) dX5_weighs_106 rfl ?_
            refine v_goto (pc := 109) (tgt := 4) dX5_weighs_109 rfl ?_
            refine v_forget 4 ?_
            refine v_forget 5 ?_
            exact ih _ (by omega) _ _ _ _ rfl hM (by omega) (by omega) (by rw [fI_s (by omega), he]; exact mW1_ok (by unfold mWt; split <;> omega) (by first | (rw [upi_s] at c97; split <;> omega) | (split <;> omega))) (fun i hi => by rw [upi_n (by omega), upi_n (by omega)]; exact hfr i hi) (fun k hk => if e : k = g then (by subst e; rw [upi_s]; omega) else (by rw [upi_n (by omega), upi_n (by omega)]; exact hwt1 k hk))
          · refine v_ald0 (pc := 85) dX5_weighs_85 ?_
            refine v_getf KX5 1 (pc := 86) dX5_weighs_86 (lw_all_tbl q1995) (Or.inl rfl) (Nat.le_of_ble_eq_true rfl) (mw_obj hM) rfl ?_
            refine v_bipush (pc := 89) dX5_weighs_89 ⟨by decide, by decide⟩ ?_
            refine v_ild3 (pc := 91) dX5_weighs_91 ?_
            refine v_iadd (pc := 92) dX5_weighs_92 ?_
            refine v_ldM_now hM (pc := 93) dX5_weighs_93 (by omega) ?_
            refine v_sipush (pc := 94) dX5_weighs_94 ⟨by decide, by decide⟩ ?_
            refine v_icmp_ge (pc := 97) (tgt := 104) dX5_weighs_97 rfl (by rw [upi_s]; omega) (by omega) (fun c97 => ?_) (fun c97 => ?_)
            · refine v_iconst (pc := 104) dX5_weighs_104 ?_
              refine v_ist2 (pc := 105) dX5_weighs_105 rfl ?_
              refine v_iinc3 (pc := 106) dX5_weighs_106 rfl ?_
              refine v_goto (pc := 109) (tgt := 4) dX5_weighs_109 rfl ?_
              refine v_forget 4 ?_
              refine v_forget 5 ?_
              exact ih _ (by omega) _ _ _ _ rfl hM (by omega) (by omega) (by rw [fI_s (by omega), he]; exact mW1_ok (by unfold mWt; split <;> omega) (by first | (rw [upi_s] at c97; split <;> omega) | (split <;> omega))) (fun i hi => by rw [upi_n (by omega), upi_n (by omega)]; exact hfr i hi) (fun k hk => if e : k = g then (by subst e; rw [upi_s]; omega) else (by rw [upi_n (by omega), upi_n (by omega)]; exact hwt1 k hk))
            · refine v_iconst (pc := 100) dX5_weighs_100 ?_
              refine v_goto (pc := 101) (tgt := 105) dX5_weighs_101 rfl ?_
              refine v_ist2 (pc := 105) dX5_weighs_105 rfl ?_
              refine v_iinc3 (pc := 106) dX5_weighs_106 rfl ?_
              refine v_goto (pc := 109) (tgt := 4) dX5_weighs_109 rfl ?_
              refine v_forget 4 ?_
              refine v_forget 5 ?_
              exact ih _ (by omega) _ _ _ _ rfl hM (by omega) (by omega) (by rw [fI_s (by omega), he]; exact mW1_ok (by unfold mWt; split <;> omega) (by first | (rw [upi_s] at c97; split <;> omega) | (split <;> omega))) (fun i hi => by rw [upi_n (by omega), upi_n (by omega)]; exact hfr i hi) (fun k hk => if e : k = g then (by subst e; rw [upi_s]; omega) else (by rw [upi_n (by omega), upi_n (by omega)]; exact hwt1 k hk))
        · refine v_iconst (pc := 74) dX5_weighs_74 ?_
          refine v_goto (pc := 75) (tgt := 80) dX5_weighs_75 rfl ?_
          refine v_stM_now hM (pc := 80) dX5_weighs_80 (by omega) (fun h hM => ?_)
          refine v_ild2 (pc := 81) dX5_weighs_81 ?_
          refine v_if_eq (pc := 82) (tgt := 104) dX5_weighs_82 rfl (by omega) (fun c82 => ?_) (fun c82 => ?_)
          · refine v_iconst (pc := 104) dX5_weighs_104 ?_
            refine v_ist2 (pc := 105) dX5_weighs_105 rfl ?_
            refine v_iinc3 (pc := 106) dX5_weighs_106 rfl ?_
            refine v_goto (pc := 109) (tgt := 4) dX5_weighs_109 rfl ?_
            refine v_forget 4 ?_
            refine v_forget 5 ?_
            exact ih _ (by omega) _ _ _ _ rfl hM (by omega) (by omega) (by rw [fI_s (by omega), he]; exact mW1_ok (by unfold mWt; split <;> omega) (by first | (rw [upi_s] at c97; split <;> omega) | (split <;> omega))) (fun i hi => by rw [upi_n (by omega), upi_n (by omega)]; exact hfr i hi) (fun k hk => if e : k = g then (by subst e; rw [upi_s]; omega) else (by rw [upi_n (by omega), upi_n (by omega)]; exact hwt1 k hk))
          · refine v_ald0 (pc := 85) dX5_weighs_85 ?_
            refine v_getf KX5 1 (pc := 86) dX5_weighs_86 (lw_all_tbl q1995) (Or.inl rfl) (Nat.le_of_ble_eq_true rfl) (mw_obj hM) rfl ?_
            refine v_bipush (pc := 89) dX5_weighs_89 ⟨by decide, by decide⟩ ?_
            refine v_ild3 (pc := 91) dX5_weighs_91 ?_
            refine v_iadd (pc := 92) dX5_weighs_92 ?_
            refine v_ldM_now hM (pc := 93) dX5_weighs_93 (by omega) ?_
            refine v_sipush (pc := 94) dX5_weighs_94 ⟨by decide, by decide⟩ ?_
            refine v_icmp_ge (pc := 97) (tgt := 104) dX5_weighs_97 rfl (by rw [upi_s]; omega) (by omega) (fun c97 => ?_) (fun c97 => ?_)
            · refine v_iconst (pc := 104) dX5_weighs_104 ?_
              refine v_ist2 (pc := 105) dX5_weighs_105 rfl ?_
              refine v_iinc3 (pc := 106) dX5_weighs_106 rfl ?_
              refine v_goto (pc := 109) (tgt := 4) dX5_weighs_109 rfl ?_
              refine v_forget 4 ?_
              refine v_forget 5 ?_
              exact ih _ (by omega) _ _ _ _ rfl hM (by omega) (by omega) (by rw [fI_s (by omega), he]; exact mW1_ok (by unfold mWt; split <;> omega) (by first | (rw [upi_s] at c97; split <;> omega) | (split <;> omega))) (fun i hi => by rw [upi_n (by omega), upi_n (by omega)]; exact hfr i hi) (fun k hk => if e : k = g then (by subst e; rw [upi_s]; omega) else (by rw [upi_n (by omega), upi_n (by omega)]; exact hwt1 k hk))
            · refine v_iconst (pc := 100) dX5_weighs_100 ?_
              refine v_goto (pc := 101) (tgt := 105) dX5_weighs_101 rfl ?_
              refine v_ist2 (pc := 105) dX5_weighs_105 rfl ?_
              refine v_iinc3 (pc := 106) dX5_weighs_106 rfl ?_
              refine v_goto (pc := 109) (tgt := 4) dX5_weighs_109 rfl ?_
              refine v_forget 4 ?_
              refine v_forget 5 ?_
              exact ih _ (by omega) _ _ _ _ rfl hM (by omega) (by omega) (by rw [fI_s (by omega), he]; exact mW1_ok (by unfold mWt; split <;> omega) (by first | (rw [upi_s] at c97; split <;> omega) | (split <;> omega))) (fun i hi => by rw [upi_n (by omega), upi_n (by omega)]; exact hfr i hi) (fun k hk => if e : k = g then (by subst e; rw [upi_s]; omega) else (by rw [upi_n (by omega), upi_n (by omega)]; exact hwt1 k hk))
  refine v_iconst (pc := 0) dX5_weighs_0 ?_
  refine v_ist2 (pc := 1) dX5_weighs_1 rfl ?_
  refine v_iconst (pc := 2) dX5_weighs_2 ?_
  refine v_ist3 (pc := 3) dX5_weighs_3 rfl ?_
  exact L4 _ _ _ _ _ rfl hM (by omega) (by omega) rfl (fun i _ => rfl) hwt
theorem sp_X5_dies {Γ : Cx} {t : Nat} {α : Nat → Nat} {h0 h : AH} {thrown : Int} {now : Int → Int} {aside : Int → Int} {tried : Int → Int} {undos : Int → Int} {undoMany : Int} {saved : Int → Int} {isSaved : Int → Int} {accounts : Int → Int} {way : Int} {leftOut : Int} {here : Int → Int} {text : Int → Int} {length : Int} {atp : Int} {frm : Int} {token : Int} {number : Int} {error : Int} {errorAt : Int} {commands : Int} {command : Int → Int} {out : Int → Int} {outLong : Int} {c : Int} {u : Int} (hM : MW t α h0 h thrown now aside tried undos undoMany saved isSaved accounts way leftOut here text length atp frm token number error errorAt commands command out outLong) (hR : ROK now c) (hu : 0 ≤ u ∧ u < now 7) : Sp Γ yX5_dies mX5_dies 5 0 0 [.ref (α 0), vi u] h (Qv (fun h' => MW t α h0 h' thrown ((mDies now u)) aside tried undos undoMany saved isSaved accounts way leftOut here text length atp frm token number error errorAt commands command out outLong)) NoX := by
  refine sp_of okX5_dies (cat_all rfl) (Nat.le_of_ble_eq_true rfl) rfl ?_
  have h7 := hR.s7
  have hc := hR.c0
  have h5 := hR.s5
  have h6 := hR.s6
  have hwt := hR.uWt u hu
  have hle := hR.uLe u hu
  have e9 := mDies0_v (w := now) (u := u) (by omega) (23 + 17 * u + 9)
  rw [if_neg (by omega), if_neg (by omega), if_pos rfl] at e9
  have e7 := mDies0_v (w := now) (u := u) (by omega) (23 + 17 * u + 7)
  rw [if_neg (by omega), if_neg (by omega), if_neg (by omega), if_neg (by omega), if_neg (by omega)] at e7
  have e5 := mDies0_v (w := now) (u := u) (by omega) 5
  rw [if_neg (by omega), if_neg (by omega), if_neg (by omega), if_neg (by omega), if_neg (by omega)] at e5
  have et : ∀ g, 0 ≤ g ∧ g ≤ 4 → mDies0 now u (23 + 17 * u + (10 + g)) = now (23 + 17 * u + (10 + g)) := fun g hg => by rw [mDies0_v (by omega), if_neg (by omega), if_neg (by omega), if_neg (by omega), if_neg (by omega), if_neg (by omega)]
  have ew : ∀ g, 0 ≤ g ∧ g ≤ 4 → mDies0 now u (13 + g) = now (13 + g) := fun g hg => by rw [mDies0_v (by omega), if_neg (by omega), if_neg (by omega), if_neg (by omega), if_neg (by omega), if_neg (by omega)]
  refine v_ild1 (pc := 0) dX5_dies_0 ?_
  refine v_ce0 (pc := 1) (v_runS1 okX5_unitAt rfl (sp_X5_unitAt) dX5_dies_1 (lw_all_tbl q2108) (lw_all_tbl q2109) (Nat.le_of_ble_eq_true rfl) ⟨Nat.zero_le _, Nat.zero_le _⟩ (Nat.le_of_ble_eq_true rfl)) ?_
  refine v_ist2 (pc := 4) dX5_dies_4 rfl ?_
  refine v_ald0 (pc := 5) dX5_dies_5 ?_
  refine v_getf KX5 1 (pc := 6) dX5_dies_6 (lw_all_tbl q1995) (Or.inl rfl) (Nat.le_of_ble_eq_true rfl) (mw_obj hM) rfl ?_
  refine v_ild2 (pc := 9) dX5_dies_9 ?_
  refine v_iconst (pc := 10) dX5_dies_10 ?_
  refine v_iadd (pc := 11) dX5_dies_11 ?_
  refine v_iconst (pc := 12) dX5_dies_12 ?_
  refine v_stM_now hM (pc := 13) dX5_dies_13 (by omega) (fun h hM => ?_)
  refine v_ald0 (pc := 14) dX5_dies_14 ?_
  refine v_getf KX5 1 (pc := 15) dX5_dies_15 (lw_all_tbl q1995) (Or.inl rfl) (Nat.le_of_ble_eq_true rfl) (mw_obj hM) rfl ?_
  refine v_ild2 (pc := 18) dX5_dies_18 ?_
  refine v_iconst (pc := 19) dX5_dies_19 ?_
  refine v_iadd (pc := 20) dX5_dies_20 ?_
  refine v_iconst (pc := 21) dX5_dies_21 ?_
  refine v_stM_now hM (pc := 22) dX5_dies_22 (by omega) (fun h hM => ?_)
  refine v_ald0 (pc := 23) dX5_dies_23 ?_
  refine v_getf KX5 1 (pc := 24) dX5_dies_24 (lw_all_tbl q1995) (Or.inl rfl) (Nat.le_of_ble_eq_true rfl) (mw_obj hM) rfl ?_
  refine v_ild2 (pc := 27) dX5_dies_27 ?_
  refine v_bipush (pc := 28) dX5_dies_28 ⟨by decide, by decide⟩ ?_
  refine v_iadd (pc := 30) dX5_dies_30 ?_
  refine v_ald0 (pc := 31) dX5_dies_31 ?_
  refine v_getf KX5 1 (pc := 32) dX5_dies_32 (lw_all_tbl q1995) (Or.inl rfl) (Nat.le_of_ble_eq_true rfl) (mw_obj hM) rfl ?_
  refine v_bipush (pc := 35) dX5_dies_35 ⟨by decide, by decide⟩ ?_
  refine v_ldM_now hM (pc := 37) dX5_dies_37 (by omega) ?_
  refine v_ald0 (pc := 38) dX5_dies_38 ?_
  refine v_getf KX5 1 (pc := 39) dX5_dies_39 (lw_all_tbl q1995) (Or.inl rfl) (Nat.le_of_ble_eq_true rfl) (mw_obj hM) rfl ?_
  refine v_ild2 (pc := 42) dX5_dies_42 ?_
  refine v_iconst (pc := 43) dX5_dies_43 ?_
  refine v_iadd (pc := 44) dX5_dies_44 ?_
  refine v_ldM_now hM (pc := 45) dX5_dies_45 (by omega) ?_
  refine v_isub (pc := 46) dX5_dies_46 ?_
  refine v_stM_now hM (pc := 47) dX5_dies_47 (by omega) (fun h hM => ?_)
  refine v_ald0 (pc := 48) dX5_dies_48 ?_
  refine v_getf KX5 1 (pc := 49) dX5_dies_49 (lw_all_tbl q1995) (Or.inl rfl) (Nat.le_of_ble_eq_true rfl) (mw_obj hM) rfl ?_
  refine v_ild2 (pc := 52) dX5_dies_52 ?_
  refine v_bipush (pc := 53) dX5_dies_53 ⟨by decide, by decide⟩ ?_
  refine v_iadd (pc := 55) dX5_dies_55 ?_
  refine v_ald0 (pc := 56) dX5_dies_56 ?_
  refine v_getf KX5 1 (pc := 57) dX5_dies_57 (lw_all_tbl q1995) (Or.inl rfl) (Nat.le_of_ble_eq_true rfl) (mw_obj hM) rfl ?_
  refine v_bipush (pc := 60) dX5_dies_60 ⟨by decide, by decide⟩ ?_
  refine v_ldM_now hM (pc := 62) dX5_dies_62 (by omega) ?_
  refine v_stM_now hM (pc := 63) dX5_dies_63 (by omega) (fun h hM => ?_)
  refine v_ald0 (pc := 64) dX5_dies_64 ?_
  refine v_getf KX5 1 (pc := 65) dX5_dies_65 (lw_all_tbl q1995) (Or.inl rfl) (Nat.le_of_ble_eq_true rfl) (mw_obj hM) rfl ?_
  refine v_bipush (pc := 68) dX5_dies_68 ⟨by decide, by decide⟩ ?_
  refine v_dup2 (pc := 70) dX5_dies_70 rfl rfl ?_
  refine v_ldM_now hM (pc := 71) dX5_dies_71 (by omega) ?_
  refine v_iconst (pc := 72) dX5_dies_72 ?_
  refine v_iadd (pc := 73) dX5_dies_73 ?_
  refine v_stM_now hM (pc := 74) dX5_dies_74 (by omega) (fun h hM => ?_)
  refine v_ald0 (pc := 75) dX5_dies_75 ?_
  refine v_ild1 (pc := 76) dX5_dies_76 ?_
  refine v_cv0 (pc := 77) (v_runV1 okX5_weighs rfl (sp_X5_weighs (now := mDies0 now u) hM (by omega) (by omega) (fun g hg => by rw [et g hg]; have := hR.t u g hu hg; omega) (by omega) (by omega) (fun g hg => by rw [ew g hg]; exact hR.gW g hg)) dX5_dies_77 (lw_all_tbl q2300) (lw_all_tbl q2302) (lw_all_tbl qs80) rfl (mw_obj hM) (Nat.le_of_ble_eq_true rfl) ⟨Nat.zero_le _, Nat.zero_le _⟩ (Nat.le_of_ble_eq_true rfl)) (fun h hM => ?_)
  refine v_ret_v (pc := 80) dX5_dies_80 rfl ?_
  exact qv_ok hM
theorem sp_X5_hasRoom {Γ : Cx} {t : Nat} {α : Nat → Nat} {h0 h : AH} {thrown : Int} {now : Int → Int} {aside : Int → Int} {tried : Int → Int} {undos : Int → Int} {undoMany : Int} {saved : Int → Int} {isSaved : Int → Int} {accounts : Int → Int} {way : Int} {leftOut : Int} {here : Int → Int} {text : Int → Int} {length : Int} {atp : Int} {frm : Int} {token : Int} {number : Int} {error : Int} {errorAt : Int} {commands : Int} {command : Int → Int} {out : Int → Int} {outLong : Int} {c : Int} {z size : Int} (hM : MW t α h0 h thrown now aside tried undos undoMany saved isSaved accounts way leftOut here text length atp frm token number error errorAt commands command out outLong) (hR : ROK now c) (hz : 0 ≤ z ∧ z ≤ 11) (hsz : 0 ≤ size ∧ size ≤ 10) : Sp Γ yX5_hasRoom mX5_hasRoom 2 0 0 [.ref (α 0), vi z, vi size] h (Qb (size ≤ now 1 - now (1706 + 13 * z + 1)) h) NoX := by
  refine sp_of okX5_hasRoom (cat_all rfl) (Nat.le_of_ble_eq_true rfl) rfl ?_
  have h1 := hR.s1
  have hf := hR.zF z hz
  refine v_ald0 (pc := 0) dX5_hasRoom_0 ?_
  refine v_getf KX5 1 (pc := 1) dX5_hasRoom_1 (lw_all_tbl q1995) (Or.inl rfl) (Nat.le_of_ble_eq_true rfl) (mw_obj hM) rfl ?_
  refine v_iconst (pc := 4) dX5_hasRoom_4 ?_
  refine v_ldM_now hM (pc := 5) dX5_hasRoom_5 (by omega) ?_
  refine v_ald0 (pc := 6) dX5_hasRoom_6 ?_
  refine v_getf KX5 1 (pc := 7) dX5_hasRoom_7 (lw_all_tbl q1995) (Or.inl rfl) (Nat.le_of_ble_eq_true rfl) (mw_obj hM) rfl ?_
  refine v_ild1 (pc := 10) dX5_hasRoom_10 ?_
  refine v_ce0 (pc := 11) (v_runS1 okX5_zoneAt rfl (sp_X5_zoneAt) dX5_hasRoom_11 (lw_all_tbl q1991) (lw_all_tbl q1992) (Nat.le_of_ble_eq_true rfl) ⟨Nat.zero_le _, Nat.zero_le _⟩ (Nat.le_of_ble_eq_true rfl)) ?_
  refine v_iconst (pc := 14) dX5_hasRoom_14 ?_
  refine v_iadd (pc := 15) dX5_hasRoom_15 ?_
  refine v_ldM_now hM (pc := 16) dX5_hasRoom_16 (by omega) ?_
  refine v_isub (pc := 17) dX5_hasRoom_17 ?_
  refine v_ild2 (pc := 18) dX5_hasRoom_18 ?_
  refine v_icmp_lt (pc := 19) (tgt := 26) dX5_hasRoom_19 rfl (by omega) (by omega) (fun c19 => ?_) (fun c19 => ?_)
  · refine v_iconst (pc := 26) dX5_hasRoom_26 ?_
    refine v_ret_z0 (pc := 27) dX5_hasRoom_27 rfl ?_
    exact qb_0 (by omega)
  · refine v_iconst (pc := 22) dX5_hasRoom_22 ?_
    refine v_goto (pc := 23) (tgt := 27) dX5_hasRoom_23 rfl ?_
    refine v_ret_z1 (pc := 27) dX5_hasRoom_27 rfl ?_
    exact qb_1 (by omega)
theorem sp_X5_apart {Γ : Cx} {t : Nat} {α : Nat → Nat} {h0 h : AH} {thrown : Int} {now : Int → Int} {aside : Int → Int} {tried : Int → Int} {undos : Int → Int} {undoMany : Int} {saved : Int → Int} {isSaved : Int → Int} {accounts : Int → Int} {way : Int} {leftOut : Int} {here : Int → Int} {text : Int → Int} {length : Int} {atp : Int} {frm : Int} {token : Int} {number : Int} {error : Int} {errorAt : Int} {commands : Int} {command : Int → Int} {out : Int → Int} {outLong : Int} {z win : Int} (hM : MW t α h0 h thrown now aside tried undos undoMany saved isSaved accounts way leftOut here text length atp frm token number error errorAt commands command out outLong) (hz : 0 ≤ z ∧ z ≤ 11) (hzw : -1 ≤ now (1706 + 13 * z + 0) ∧ now (1706 + 13 * z + 0) ≤ 20000000) (hwin : -1000 ≤ win ∧ win ≤ 20000000) : Sp Γ yX5_apart mX5_apart 3 0 0 [.ref (α 0), vi z, vi win] h (Qe (mApart now z win) h) NoX := by
  refine sp_of okX5_apart (cat_all rfl) (Nat.le_of_ble_eq_true rfl) rfl ?_
  refine v_ald0 (pc := 0) dX5_apart_0 ?_
  refine v_ild1 (pc := 1) dX5_apart_1 ?_
  refine v_ce0 (pc := 2) (v_runV1 okX5_windowOf rfl (sp_X5_windowOf hM (by omega)) dX5_apart_2 (lw_all_tbl q2119) (lw_all_tbl q2121) (lw_all_tbl qs54) rfl (mw_obj hM) (Nat.le_of_ble_eq_true rfl) ⟨Nat.zero_le _, Nat.zero_le _⟩ (Nat.le_of_ble_eq_true rfl)) ?_
  refine v_ild2 (pc := 5) dX5_apart_5 ?_
  refine v_isub (pc := 6) dX5_apart_6 ?_
  refine v_ist3 (pc := 7) dX5_apart_7 rfl ?_
  refine v_ild3 (pc := 8) dX5_apart_8 ?_
  refine v_if_ge (pc := 9) (tgt := 17) dX5_apart_9 rfl (by omega) (fun c9 => ?_) (fun c9 => ?_)
  · refine v_ild3 (pc := 17) dX5_apart_17 ?_
    refine v_ret_n (pc := 18) dX5_apart_18 rfl ?_
    exact qe_ok (by unfold mApart; split <;> omega)
  · refine v_ild3 (pc := 12) dX5_apart_12 ?_
    refine v_ineg (pc := 13) dX5_apart_13 ?_
    refine v_goto (pc := 14) (tgt := 18) dX5_apart_14 rfl ?_
    refine v_ret_n (pc := 18) dX5_apart_18 rfl ?_
    exact qe_ok (by unfold mApart; split <;> omega)
theorem sp_X5_zoneFor {Γ : Cx} {t : Nat} {α : Nat → Nat} {h0 h : AH} {thrown : Int} {now : Int → Int} {aside : Int → Int} {tried : Int → Int} {undos : Int → Int} {undoMany : Int} {saved : Int → Int} {isSaved : Int → Int} {accounts : Int → Int} {way : Int} {leftOut : Int} {here : Int → Int} {text : Int → Int} {length : Int} {atp : Int} {frm : Int} {token : Int} {number : Int} {error : Int} {errorAt : Int} {commands : Int} {command : Int → Int} {out : Int → Int} {outLong : Int} {c : Int} {win size but : Int} (hM : MW t α h0 h thrown now aside tried undos undoMany saved isSaved accounts way leftOut here text length atp frm token number error errorAt commands command out outLong) (hR : ROK now c) (hwin : -1000 ≤ win ∧ win ≤ 20000000) (hsz : 0 ≤ size ∧ size ≤ 10) (hbut : -2147483648 ≤ but ∧ but ≤ 2147483647) : Sp Γ yX5_zoneFor mX5_zoneFor 4 0 0 [.ref (α 0), vi win, vi size, vi but] h (Qe (mZoneFor now win size but) h) NoX := by
  refine sp_of okX5_zoneFor (cat_all rfl) (Nat.le_of_ble_eq_true rfl) rfl ?_
  have h0 := hR.s0
  have h1 := hR.s1
  have hc := hR.c0
  have L9 : ∀ (n9 : Nat) (free : Int) (near : Int) (z : Int), (now 0 - z).toNat = n9 → (0 ≤ z ∧ z ≤ now 0) → (-1 ≤ free ∧ (free < z ∨ free = -1) ∧ -1 ≤ near ∧ (near < z ∨ near = -1)) → (zEx now win size but z = -1) → (free = zFree now size but z) → (near = zNear now win size but z) → V Γ mX5_zoneFor 4 0 0 (Qe (mZoneFor now win size but) h) (NoX) h 0 0 9 [some (.ref (α 0)), some (vi win), some (vi size), some (vi but), some (vi free), some (vi near), some (vi z)] [] := by
    intro n9
    induction n9 using Nat.strongRecOn with
    | _ n9 ih =>
      intro free near z hn9 hz hnr hex hfr hne
      refine v_ild6 (pc := 9) dX5_zoneFor_9 ?_
      refine v_ald0 (pc := 11) dX5_zoneFor_11 ?_
      refine v_getf KX5 1 (pc := 12) dX5_zoneFor_12 (lw_all_tbl q1995) (Or.inl rfl) (Nat.le_of_ble_eq_true rfl) (mw_obj hM) rfl ?_
      refine v_iconst (pc := 15) dX5_zoneFor_15 ?_
      refine v_ldM_now hM (pc := 16) dX5_zoneFor_16 (by omega) ?_
      refine v_icmp_ge (pc := 17) (tgt := 144) dX5_zoneFor_17 rfl (by omega) (by omega) (fun c17 => ?_) (fun c17 => ?_)
      · have hx : z = now 0 := by omega
        subst hx
        refine v_ild4 (pc := 144) dX5_zoneFor_144 ?_
        refine v_iconst (pc := 146) dX5_zoneFor_146 ?_
        refine v_icmp_eq (pc := 147) (tgt := 155) dX5_zoneFor_147 rfl (by omega) (by omega) (fun c147 => ?_) (fun c147 => ?_)
        · refine v_ild5 (pc := 155) dX5_zoneFor_155 ?_
          refine v_ret_n (pc := 157) dX5_zoneFor_157 rfl ?_
          exact qe_ok (by rw [mZoneFor, if_neg (by omega)]; first | rw [if_pos (by omega), ← hfr] | rw [if_neg (by omega), ← hne])
        · refine v_ild4 (pc := 150) dX5_zoneFor_150 ?_
          refine v_goto (pc := 152) (tgt := 157) dX5_zoneFor_152 rfl ?_
          refine v_ret_n (pc := 157) dX5_zoneFor_157 rfl ?_
          exact qe_ok (by rw [mZoneFor, if_neg (by omega)]; first | rw [if_pos (by omega), ← hfr] | rw [if_neg (by omega), ← hne])
      · have hzw := hR.zW z ⟨by omega, by omega⟩
        have hzf := hR.zF z ⟨by omega, by omega⟩
        refine v_ild6 (pc := 20) dX5_zoneFor_20 ?_
        refine v_ild3 (pc := 22) dX5_zoneFor_22 ?_
        refine v_icmp_eq (pc := 23) (tgt := 138) dX5_zoneFor_23 rfl (by omega) (by omega) (fun c23 => ?_) (fun c23 => ?_)
        · refine v_iinc6 (pc := 138) dX5_zoneFor_138 rfl ?_
          refine v_goto (pc := 141) (tgt := 9) dX5_zoneFor_141 rfl ?_
          exact ih _ (by omega) _ _ _ rfl (by omega) (by omega) (by rw [zEx_s (by omega), hex, if_neg (by omega)]) (by rw [zFree_s (by omega), ← hfr]; split <;> omega) (by rw [zNear_s (by omega), ← hne]; split <;> omega)
        · refine v_ald0 (pc := 26) dX5_zoneFor_26 ?_
          refine v_ild6 (pc := 27) dX5_zoneFor_27 ?_
          refine v_ild2 (pc := 29) dX5_zoneFor_29 ?_
          refine v_cb0 (pc := 30) (v_runV2 okX5_hasRoom rfl (sp_X5_hasRoom hM (by omega) (by omega) (by omega)) dX5_zoneFor_30 (lw_all_tbl q2276) (lw_all_tbl q2278) (lw_all_tbl qs74) rfl (mw_obj hM) (Nat.le_of_ble_eq_true rfl) ⟨Nat.zero_le _, Nat.zero_le _⟩ (Nat.le_of_ble_eq_true rfl)) (fun c30 => ?_) (fun c30 => ?_)
          · refine v_if_ne1 (pc := 33) (tgt := 39) dX5_zoneFor_33 rfl ?_
            refine v_ald0 (pc := 39) dX5_zoneFor_39 ?_
            refine v_ild6 (pc := 40) dX5_zoneFor_40 ?_
            refine v_ce0 (pc := 42) (v_runV1 okX5_windowOf rfl (sp_X5_windowOf hM (by omega)) dX5_zoneFor_42 (lw_all_tbl q2119) (lw_all_tbl q2121) (lw_all_tbl qs54) rfl (mw_obj hM) (Nat.le_of_ble_eq_true rfl) ⟨Nat.zero_le _, Nat.zero_le _⟩ (Nat.le_of_ble_eq_true rfl)) ?_
            refine v_ild1 (pc := 45) dX5_zoneFor_45 ?_
            refine v_icmp_ne (pc := 46) (tgt := 52) dX5_zoneFor_46 rfl (by omega) (by omega) (fun c46 => ?_) (fun c46 => ?_)
            · refine v_ald0 (pc := 52) dX5_zoneFor_52 ?_
              refine v_ild6 (pc := 53) dX5_zoneFor_53 ?_
              refine v_cb0 (pc := 55) (v_runV1 okX5_isFree rfl (sp_X5_isFree hM (by omega) (by omega)) dX5_zoneFor_55 (lw_all_tbl q2115) (lw_all_tbl q2117) (lw_all_tbl qs53) rfl (mw_obj hM) (Nat.le_of_ble_eq_true rfl) ⟨Nat.zero_le _, Nat.zero_le _⟩ (Nat.le_of_ble_eq_true rfl)) (fun c55 => ?_) (fun c55 => ?_)
              · refine v_if_eq1 (pc := 58) (tgt := 79) dX5_zoneFor_58 rfl ?_
                refine v_ild4 (pc := 61) dX5_zoneFor_61 ?_
                refine v_iconst (pc := 63) dX5_zoneFor_63 ?_
                refine v_icmp_ne (pc := 64) (tgt := 72) dX5_zoneFor_64 rfl (by omega) (by omega) (fun c64 => ?_) (fun c64 => ?_)
                · refine v_ild4 (pc := 72) dX5_zoneFor_72 ?_
                  refine v_ist4 (pc := 74) dX5_zoneFor_74 rfl ?_
                  refine v_goto (pc := 76) (tgt := 138) dX5_zoneFor_76 rfl ?_
                  refine v_iinc6 (pc := 138) dX5_zoneFor_138 rfl ?_
                  refine v_goto (pc := 141) (tgt := 9) dX5_zoneFor_141 rfl ?_
                  exact ih _ (by omega) _ _ _ rfl (by omega) (by omega) (by rw [zEx_s (by omega), hex, if_neg (by omega)]) (by rw [zFree_s (by omega), ← hfr]; split <;> omega) (by rw [zNear_s (by omega), ← hne]; split <;> omega)
                · refine v_ild6 (pc := 67) dX5_zoneFor_67 ?_
                  refine v_goto (pc := 69) (tgt := 74) dX5_zoneFor_69 rfl ?_
                  refine v_ist4 (pc := 74) dX5_zoneFor_74 rfl ?_
                  refine v_goto (pc := 76) (tgt := 138) dX5_zoneFor_76 rfl ?_
                  refine v_iinc6 (pc := 138) dX5_zoneFor_138 rfl ?_
                  refine v_goto (pc := 141) (tgt := 9) dX5_zoneFor_141 rfl ?_
                  exact ih _ (by omega) _ _ _ rfl (by omega) (by omega) (by rw [zEx_s (by omega), hex, if_neg (by omega)]) (by rw [zFree_s (by omega), ← hfr]; split <;> omega) (by rw [zNear_s (by omega), ← hne]; split <;> omega)
              · refine v_if_eq0 (pc := 58) (tgt := 79) dX5_zoneFor_58 rfl ?_
                refine v_ild5 (pc := 79) dX5_zoneFor_79 ?_
                refine v_iconst (pc := 81) dX5_zoneFor_81 ?_
                refine v_icmp_eq (pc := 82) (tgt := 134) dX5_zoneFor_82 rfl (by omega) (by omega) (fun c82 => ?_) (fun c82 => ?_)
                · refine v_ild6 (pc := 134) dX5_zoneFor_134 ?_
                  refine v_ist5 (pc := 136) dX5_zoneFor_136 rfl ?_
                  refine v_iinc6 (pc := 138) dX5_zoneFor_138 rfl ?_
                  refine v_goto (pc := 141) (tgt := 9) dX5_zoneFor_141 rfl ?_
                  exact ih _ (by omega) _ _ _ rfl (by omega) (by omega) (by rw [zEx_s (by omega), hex, if_neg (by omega)]) (by rw [zFree_s (by omega), ← hfr]; split <;> omega) (by rw [zNear_s (by omega), ← hne]; split <;> omega)
                · have hnw := hR.zW near ⟨by omega, by omega⟩
                  have ha1 := mApart_r (w := now) (z := z) (win := win) (by omega) (by omega)
                  have ha2 := mApart_r (w := now) (z := near) (win := win) (by omega) (by omega)
                  refine v_ald0 (pc := 85) dX5_zoneFor_85 ?_
                  refine v_ild6 (pc := 86) dX5_zoneFor_86 ?_
                  refine v_ild1 (pc := 88) dX5_zoneFor_88 ?_
                  refine v_ce0 (pc := 89) (v_runV2 okX5_apart rfl (sp_X5_apart hM (by omega) (by omega) (by omega)) dX5_zoneFor_89 (lw_all_tbl q2280) (lw_all_tbl q2282) (lw_all_tbl qs75) rfl (mw_obj hM) (Nat.le_of_ble_eq_true rfl) ⟨Nat.zero_le _, Nat.zero_le _⟩ (Nat.le_of_ble_eq_true rfl)) ?_
                  refine v_ald0 (pc := 92) dX5_zoneFor_92 ?_
                  refine v_ild5 (pc := 93) dX5_zoneFor_93 ?_
                  refine v_ild1 (pc := 95) dX5_zoneFor_95 ?_
                  refine v_ce0 (pc := 96) (v_runV2 okX5_apart rfl (sp_X5_apart hM (by omega) (by omega) (by omega)) dX5_zoneFor_96 (lw_all_tbl q2280) (lw_all_tbl q2282) (lw_all_tbl qs75) rfl (mw_obj hM) (Nat.le_of_ble_eq_true rfl) ⟨Nat.zero_le _, Nat.zero_le _⟩ (Nat.le_of_ble_eq_true rfl)) ?_
                  refine v_icmp_lt (pc := 99) (tgt := 134) dX5_zoneFor_99 rfl (by omega) (by omega) (fun c99 => ?_) (fun c99 => ?_)
                  · refine v_ild6 (pc := 134) dX5_zoneFor_134 ?_
                    refine v_ist5 (pc := 136) dX5_zoneFor_136 rfl ?_
                    refine v_iinc6 (pc := 138) dX5_zoneFor_138 rfl ?_
                    refine v_goto (pc := 141) (tgt := 9) dX5_zoneFor_141 rfl ?_
                    exact ih _ (by omega) _ _ _ rfl (by omega) (by omega) (by rw [zEx_s (by omega), hex, if_neg (by omega)]) (by rw [zFree_s (by omega), ← hfr]; split <;> omega) (by rw [zNear_s (by omega), ← hne]; split <;> omega)
                  · refine v_ald0 (pc := 102) dX5_zoneFor_102 ?_
                    refine v_ild6 (pc := 103) dX5_zoneFor_103 ?_
                    refine v_ild1 (pc := 105) dX5_zoneFor_105 ?_
                    refine v_ce0 (pc := 106) (v_runV2 okX5_apart rfl (sp_X5_apart hM (by omega) (by omega) (by omega)) dX5_zoneFor_106 (lw_all_tbl q2280) (lw_all_tbl q2282) (lw_all_tbl qs75) rfl (mw_obj hM) (Nat.le_of_ble_eq_true rfl) ⟨Nat.zero_le _, Nat.zero_le _⟩ (Nat.le_of_ble_eq_true rfl)) ?_
                    refine v_ald0 (pc := 109) dX5_zoneFor_109 ?_
                    refine v_ild5 (pc := 110) dX5_zoneFor_110 ?_
                    refine v_ild1 (pc := 112) dX5_zoneFor_112 ?_
                    refine v_ce0 (pc := 113) (v_runV2 okX5_apart rfl (sp_X5_apart hM (by omega) (by omega) (by omega)) dX5_zoneFor_113 (lw_all_tbl q2280) (lw_all_tbl q2282) (lw_all_tbl qs75) rfl (mw_obj hM) (Nat.le_of_ble_eq_true rfl) ⟨Nat.zero_le _, Nat.zero_le _⟩ (Nat.le_of_ble_eq_true rfl)) ?_
                    refine v_icmp_ne (pc := 116) (tgt := 138) dX5_zoneFor_116 rfl (by omega) (by omega) (fun c116 => ?_) (fun c116 => ?_)
                    · refine v_iinc6 (pc := 138) dX5_zoneFor_138 rfl ?_
                      refine v_goto (pc := 141) (tgt := 9) dX5_zoneFor_141 rfl ?_
                      exact ih _ (by omega) _ _ _ rfl (by omega) (by omega) (by rw [zEx_s (by omega), hex, if_neg (by omega)]) (by rw [zFree_s (by omega), ← hfr]; split <;> omega) (by rw [zNear_s (by omega), ← hne]; split <;> omega)
                    · refine v_ald0 (pc := 119) dX5_zoneFor_119 ?_
                      refine v_ild6 (pc := 120) dX5_zoneFor_120 ?_
                      refine v_ce0 (pc := 122) (v_runV1 okX5_windowOf rfl (sp_X5_windowOf hM (by omega)) dX5_zoneFor_122 (lw_all_tbl q2119) (lw_all_tbl q2121) (lw_all_tbl qs54) rfl (mw_obj hM) (Nat.le_of_ble_eq_true rfl) ⟨Nat.zero_le _, Nat.zero_le _⟩ (Nat.le_of_ble_eq_true rfl)) ?_
                      refine v_ald0 (pc := 125) dX5_zoneFor_125 ?_
                      refine v_ild5 (pc := 126) dX5_zoneFor_126 ?_
                      refine v_ce0 (pc := 128) (v_runV1 okX5_windowOf rfl (sp_X5_windowOf hM (by omega)) dX5_zoneFor_128 (lw_all_tbl q2119) (lw_all_tbl q2121) (lw_all_tbl qs54) rfl (mw_obj hM) (Nat.le_of_ble_eq_true rfl) ⟨Nat.zero_le _, Nat.zero_le _⟩ (Nat.le_of_ble_eq_true rfl)) ?_
                      refine v_icmp_ge (pc := 131) (tgt := 138) dX5_zoneFor_131 rfl (by omega) (by omega) (fun c131 => ?_) (fun c131 => ?_)
                      · refine v_iinc6 (pc := 138) dX5_zoneFor_138 rfl ?_
                        refine v_goto (pc := 141) (tgt := 9) dX5_zoneFor_141 rfl ?_
                        exact ih _ (by omega) _ _ _ rfl (by omega) (by omega) (by rw [zEx_s (by omega), hex, if_neg (by omega)]) (by rw [zFree_s (by omega), ← hfr]; split <;> omega) (by rw [zNear_s (by omega), ← hne]; split <;> omega)
                      · refine v_ild6 (pc := 134) dX5_zoneFor_134 ?_
                        refine v_ist5 (pc := 136) dX5_zoneFor_136 rfl ?_
                        refine v_iinc6 (pc := 138) dX5_zoneFor_138 rfl ?_
                        refine v_goto (pc := 141) (tgt := 9) dX5_zoneFor_141 rfl ?_
                        exact ih _ (by omega) _ _ _ rfl (by omega) (by omega) (by rw [zEx_s (by omega), hex, if_neg (by omega)]) (by rw [zFree_s (by omega), ← hfr]; split <;> omega) (by rw [zNear_s (by omega), ← hne]; split <;> omega)
            · refine v_ild6 (pc := 49) dX5_zoneFor_49 ?_
              refine v_ret_n (pc := 51) dX5_zoneFor_51 rfl ?_
              exact qe_ok (by have e := zEx_hit hex (m := now 0) (by omega) ⟨by omega, by omega⟩ (by omega); rw [mZoneFor, e, if_pos (by omega)])
          · refine v_if_ne0 (pc := 33) (tgt := 39) dX5_zoneFor_33 rfl ?_
            refine v_goto (pc := 36) (tgt := 138) dX5_zoneFor_36 rfl ?_
            refine v_iinc6 (pc := 138) dX5_zoneFor_138 rfl ?_
            refine v_goto (pc := 141) (tgt := 9) dX5_zoneFor_141 rfl ?_
            exact ih _ (by omega) _ _ _ rfl (by omega) (by omega) (by rw [zEx_s (by omega), hex, if_neg (by omega)]) (by rw [zFree_s (by omega), ← hfr]; split <;> omega) (by rw [zNear_s (by omega), ← hne]; split <;> omega)
  refine v_iconst (pc := 0) dX5_zoneFor_0 ?_
  refine v_ist4 (pc := 1) dX5_zoneFor_1 rfl ?_
  refine v_iconst (pc := 3) dX5_zoneFor_3 ?_
  refine v_ist5 (pc := 4) dX5_zoneFor_4 rfl ?_
  refine v_iconst (pc := 6) dX5_zoneFor_6 ?_
  refine v_ist6 (pc := 7) dX5_zoneFor_7 rfl ?_
  exact L9 _ _ _ _ rfl (by omega) (by omega) rfl rfl rfl
theorem sp_X5_puts {Γ : Cx} {t : Nat} {α : Nat → Nat} {h0 h : AH} {thrown : Int} {now : Int → Int} {aside : Int → Int} {tried : Int → Int} {undos : Int → Int} {undoMany : Int} {saved : Int → Int} {isSaved : Int → Int} {accounts : Int → Int} {way : Int} {leftOut : Int} {here : Int → Int} {text : Int → Int} {length : Int} {atp : Int} {frm : Int} {token : Int} {number : Int} {error : Int} {errorAt : Int} {commands : Int} {command : Int → Int} {out : Int → Int} {outLong : Int} {u z win : Int} (hM : MW t α h0 h thrown now aside tried undos undoMany saved isSaved accounts way leftOut here text length atp frm token number error errorAt commands command out outLong) (hu : 0 ≤ u ∧ u ≤ 98) (hz : 0 ≤ z ∧ z ≤ 11) (hzw : -1 ≤ now (1706 + 13 * z + 0) ∧ now (1706 + 13 * z + 0) ≤ 20000000) (hzm : 0 ≤ now (1706 + 13 * z + 3) ∧ now (1706 + 13 * z + 3) ≤ 8) : Sp Γ yX5_puts mX5_puts 4 0 0 [.ref (α 0), vi u, vi z, vi win] h (Qv (fun h' => MW t α h0 h' thrown ((mPuts now u z win)) aside tried undos undoMany saved isSaved accounts way leftOut here text length atp frm token number error errorAt commands command out outLong)) NoX := by
  refine sp_of okX5_puts (cat_all rfl) (Nat.le_of_ble_eq_true rfl) rfl ?_
  refine v_ild2 (pc := 0) dX5_puts_0 ?_
  refine v_ce0 (pc := 1) (v_runS1 okX5_zoneAt rfl (sp_X5_zoneAt) dX5_puts_1 (lw_all_tbl q1991) (lw_all_tbl q1992) (Nat.le_of_ble_eq_true rfl) ⟨Nat.zero_le _, Nat.zero_le _⟩ (Nat.le_of_ble_eq_true rfl)) ?_
  refine v_ist4 (pc := 4) dX5_puts_4 rfl ?_
  refine v_ald0 (pc := 6) dX5_puts_6 ?_
  refine v_getf KX5 1 (pc := 7) dX5_puts_7 (lw_all_tbl q1995) (Or.inl rfl) (Nat.le_of_ble_eq_true rfl) (mw_obj hM) rfl ?_
  refine v_ild4 (pc := 10) dX5_puts_10 ?_
  refine v_iconst (pc := 12) dX5_puts_12 ?_
  refine v_iadd (pc := 13) dX5_puts_13 ?_
  refine v_ald0 (pc := 14) dX5_puts_14 ?_
  refine v_ild2 (pc := 15) dX5_puts_15 ?_
  refine v_cb0 (pc := 16) (v_runV1 okX5_isFree rfl (sp_X5_isFree hM (by omega) (by omega)) dX5_puts_16 (lw_all_tbl q2115) (lw_all_tbl q2117) (lw_all_tbl qs53) rfl (mw_obj hM) (Nat.le_of_ble_eq_true rfl) ⟨Nat.zero_le _, Nat.zero_le _⟩ (Nat.le_of_ble_eq_true rfl)) (fun c16 => ?_) (fun c16 => ?_)
  · refine v_if_eq1 (pc := 19) (tgt := 26) dX5_puts_19 rfl ?_
    refine v_ild3 (pc := 22) dX5_puts_22 ?_
    refine v_goto (pc := 23) (tgt := 31) dX5_puts_23 rfl ?_
    refine v_stM_now hM (pc := 31) dX5_puts_31 (by omega) (fun h hM => ?_)
    refine v_ald0 (pc := 32) dX5_puts_32 ?_
    refine v_getf KX5 1 (pc := 33) dX5_puts_33 (lw_all_tbl q1995) (Or.inl rfl) (Nat.le_of_ble_eq_true rfl) (mw_obj hM) rfl ?_
    refine v_ild4 (pc := 36) dX5_puts_36 ?_
    refine v_iconst (pc := 38) dX5_puts_38 ?_
    refine v_iadd (pc := 39) dX5_puts_39 ?_
    refine v_dup2 (pc := 40) dX5_puts_40 rfl rfl ?_
    refine v_ldM_now hM (pc := 41) dX5_puts_41 (by omega) ?_
    refine v_ald0 (pc := 42) dX5_puts_42 ?_
    refine v_ild1 (pc := 43) dX5_puts_43 ?_
    refine v_iconst (pc := 44) dX5_puts_44 ?_
    refine v_ce0 (pc := 45) (v_runV2 okX5_ofUnit rfl (sp_X5_ofUnit hM (by omega) (by omega)) dX5_puts_45 (lw_all_tbl q2104) (lw_all_tbl q2106) (lw_all_tbl qs51) rfl (mw_obj hM) (Nat.le_of_ble_eq_true rfl) ⟨Nat.zero_le _, Nat.zero_le _⟩ (Nat.le_of_ble_eq_true rfl)) ?_
    refine v_iadd (pc := 48) dX5_puts_48 ?_
    refine v_stM_now hM (pc := 49) dX5_puts_49 (by omega) (fun h hM => ?_)
    refine v_ald0 (pc := 50) dX5_puts_50 ?_
    refine v_getf KX5 1 (pc := 51) dX5_puts_51 (lw_all_tbl q1995) (Or.inl rfl) (Nat.le_of_ble_eq_true rfl) (mw_obj hM) rfl ?_
    refine v_ild4 (pc := 54) dX5_puts_54 ?_
    refine v_iconst (pc := 56) dX5_puts_56 ?_
    refine v_iadd (pc := 57) dX5_puts_57 ?_
    refine v_ald0 (pc := 58) dX5_puts_58 ?_
    refine v_getf KX5 1 (pc := 59) dX5_puts_59 (lw_all_tbl q1995) (Or.inl rfl) (Nat.le_of_ble_eq_true rfl) (mw_obj hM) rfl ?_
    refine v_ild4 (pc := 62) dX5_puts_62 ?_
    refine v_iconst (pc := 64) dX5_puts_64 ?_
    refine v_iadd (pc := 65) dX5_puts_65 ?_
    refine v_ldM_now hM (pc := 66) dX5_puts_66 (by omega) ?_
    refine v_iadd (pc := 67) dX5_puts_67 ?_
    refine v_ild1 (pc := 68) dX5_puts_68 ?_
    refine v_stM_now hM (pc := 69) dX5_puts_69 (by rw [upi_n (by omega), upi_n (by omega)]; omega) (fun h hM => ?_)
    refine v_ald0 (pc := 70) dX5_puts_70 ?_
    refine v_getf KX5 1 (pc := 71) dX5_puts_71 (lw_all_tbl q1995) (Or.inl rfl) (Nat.le_of_ble_eq_true rfl) (mw_obj hM) rfl ?_
    refine v_ild4 (pc := 74) dX5_puts_74 ?_
    refine v_iconst (pc := 76) dX5_puts_76 ?_
    refine v_iadd (pc := 77) dX5_puts_77 ?_
    refine v_dup2 (pc := 78) dX5_puts_78 rfl rfl ?_
    refine v_ldM_now hM (pc := 79) dX5_puts_79 (by omega) ?_
    refine v_iconst (pc := 80) dX5_puts_80 ?_
    refine v_iadd (pc := 81) dX5_puts_81 ?_
    refine v_stM_now hM (pc := 82) dX5_puts_82 (by omega) (fun h hM => ?_)
    refine v_ald0 (pc := 83) dX5_puts_83 ?_
    refine v_getf KX5 1 (pc := 84) dX5_puts_84 (lw_all_tbl q1995) (Or.inl rfl) (Nat.le_of_ble_eq_true rfl) (mw_obj hM) rfl ?_
    refine v_ild1 (pc := 87) dX5_puts_87 ?_
    refine v_ce0 (pc := 88) (v_runS1 okX5_unitAt rfl (sp_X5_unitAt) dX5_puts_88 (lw_all_tbl q2108) (lw_all_tbl q2109) (Nat.le_of_ble_eq_true rfl) ⟨Nat.zero_le _, Nat.zero_le _⟩ (Nat.le_of_ble_eq_true rfl)) ?_
    refine v_iconst (pc := 91) dX5_puts_91 ?_
    refine v_iadd (pc := 92) dX5_puts_92 ?_
    refine v_ild2 (pc := 93) dX5_puts_93 ?_
    refine v_stM_now hM (pc := 94) dX5_puts_94 (by omega) (fun h hM => ?_)
    refine v_ret_v (pc := 95) dX5_puts_95 rfl ?_
    exact qv_ok (by unfold mPuts; (first | rw [if_pos c16] | rw [if_neg c16]); exact hM)
  · refine v_if_eq0 (pc := 19) (tgt := 26) dX5_puts_19 rfl ?_
    refine v_ald0 (pc := 26) dX5_puts_26 ?_
    refine v_ild2 (pc := 27) dX5_puts_27 ?_
    refine v_ce0 (pc := 28) (v_runV1 okX5_windowOf rfl (sp_X5_windowOf hM (by omega)) dX5_puts_28 (lw_all_tbl q2119) (lw_all_tbl q2121) (lw_all_tbl qs54) rfl (mw_obj hM) (Nat.le_of_ble_eq_true rfl) ⟨Nat.zero_le _, Nat.zero_le _⟩ (Nat.le_of_ble_eq_true rfl)) ?_
    refine v_stM_now hM (pc := 31) dX5_puts_31 (by omega) (fun h hM => ?_)
    refine v_ald0 (pc := 32) dX5_puts_32 ?_
    refine v_getf KX5 1 (pc := 33) dX5_puts_33 (lw_all_tbl q1995) (Or.inl rfl) (Nat.le_of_ble_eq_true rfl) (mw_obj hM) rfl ?_
    refine v_ild4 (pc := 36) dX5_puts_36 ?_
    refine v_iconst (pc := 38) dX5_puts_38 ?_
    refine v_iadd (pc := 39) dX5_puts_39 ?_
    refine v_dup2 (pc := 40) dX5_puts_40 rfl rfl ?_
    refine v_ldM_now hM (pc := 41) dX5_puts_41 (by omega) ?_
    refine v_ald0 (pc := 42) dX5_puts_42 ?_
    refine v_ild1 (pc := 43) dX5_puts_43 ?_
    refine v_iconst (pc := 44) dX5_puts_44 ?_
    refine v_ce0 (pc := 45) (v_runV2 okX5_ofUnit rfl (sp_X5_ofUnit hM (by omega) (by omega)) dX5_puts_45 (lw_all_tbl q2104) (lw_all_tbl q2106) (lw_all_tbl qs51) rfl (mw_obj hM) (Nat.le_of_ble_eq_true rfl) ⟨Nat.zero_le _, Nat.zero_le _⟩ (Nat.le_of_ble_eq_true rfl)) ?_
    refine v_iadd (pc := 48) dX5_puts_48 ?_
    refine v_stM_now hM (pc := 49) dX5_puts_49 (by omega) (fun h hM => ?_)
    refine v_ald0 (pc := 50) dX5_puts_50 ?_
    refine v_getf KX5 1 (pc := 51) dX5_puts_51 (lw_all_tbl q1995) (Or.inl rfl) (Nat.le_of_ble_eq_true rfl) (mw_obj hM) rfl ?_
    refine v_ild4 (pc := 54) dX5_puts_54 ?_
    refine v_iconst (pc := 56) dX5_puts_56 ?_
    refine v_iadd (pc := 57) dX5_puts_57 ?_
    refine v_ald0 (pc := 58) dX5_puts_58 ?_
    refine v_getf KX5 1 (pc := 59) dX5_puts_59 (lw_all_tbl q1995) (Or.inl rfl) (Nat.le_of_ble_eq_true rfl) (mw_obj hM) rfl ?_
    refine v_ild4 (pc := 62) dX5_puts_62 ?_
    refine v_iconst (pc := 64) dX5_puts_64 ?_
    refine v_iadd (pc := 65) dX5_puts_65 ?_
    refine v_ldM_now hM (pc := 66) dX5_puts_66 (by omega) ?_
    refine v_iadd (pc := 67) dX5_puts_67 ?_
    refine v_ild1 (pc := 68) dX5_puts_68 ?_
    refine v_stM_now hM (pc := 69) dX5_puts_69 (by rw [upi_n (by omega), upi_n (by omega)]; omega) (fun h hM => ?_)
    refine v_ald0 (pc := 70) dX5_puts_70 ?_
    refine v_getf KX5 1 (pc := 71) dX5_puts_71 (lw_all_tbl q1995) (Or.inl rfl) (Nat.le_of_ble_eq_true rfl) (mw_obj hM) rfl ?_
    refine v_ild4 (pc := 74) dX5_puts_74 ?_
    refine v_iconst (pc := 76) dX5_puts_76 ?_
    refine v_iadd (pc := 77) dX5_puts_77 ?_
    refine v_dup2 (pc := 78) dX5_puts_78 rfl rfl ?_
    refine v_ldM_now hM (pc := 79) dX5_puts_79 (by omega) ?_
    refine v_iconst (pc := 80) dX5_puts_80 ?_
    refine v_iadd (pc := 81) dX5_puts_81 ?_
    refine v_stM_now hM (pc := 82) dX5_puts_82 (by omega) (fun h hM => ?_)
    refine v_ald0 (pc := 83) dX5_puts_83 ?_
    refine v_getf KX5 1 (pc := 84) dX5_puts_84 (lw_all_tbl q1995) (Or.inl rfl) (Nat.le_of_ble_eq_true rfl) (mw_obj hM) rfl ?_
    refine v_ild1 (pc := 87) dX5_puts_87 ?_
    refine v_ce0 (pc := 88) (v_runS1 okX5_unitAt rfl (sp_X5_unitAt) dX5_puts_88 (lw_all_tbl q2108) (lw_all_tbl q2109) (Nat.le_of_ble_eq_true rfl) ⟨Nat.zero_le _, Nat.zero_le _⟩ (Nat.le_of_ble_eq_true rfl)) ?_
    refine v_iconst (pc := 91) dX5_puts_91 ?_
    refine v_iadd (pc := 92) dX5_puts_92 ?_
    refine v_ild2 (pc := 93) dX5_puts_93 ?_
    refine v_stM_now hM (pc := 94) dX5_puts_94 (by omega) (fun h hM => ?_)
    refine v_ret_v (pc := 95) dX5_puts_95 rfl ?_
    exact qv_ok (by unfold mPuts; (first | rw [if_pos c16] | rw [if_neg c16]); exact hM)
theorem sp_X5_resets {Γ : Cx} {t : Nat} {α : Nat → Nat} {h0 h : AH} {thrown : Int} {now : Int → Int} {aside : Int → Int} {tried : Int → Int} {undos : Int → Int} {undoMany : Int} {saved : Int → Int} {isSaved : Int → Int} {accounts : Int → Int} {way : Int} {leftOut : Int} {here : Int → Int} {text : Int → Int} {length : Int} {atp : Int} {frm : Int} {token : Int} {number : Int} {error : Int} {errorAt : Int} {commands : Int} {command : Int → Int} {out : Int → Int} {outLong : Int} {z : Int} (hM : MW t α h0 h thrown now aside tried undos undoMany saved isSaved accounts way leftOut here text length atp frm token number error errorAt commands command out outLong) (hz : 0 ≤ z ∧ z ≤ 11) : Sp Γ yX5_resets mX5_resets 2 0 0 [.ref (α 0), vi z] h (Qv (fun h' => MW t α h0 h' thrown ((mResets now z)) aside tried undos undoMany saved isSaved accounts way leftOut here text length atp frm token number error errorAt commands command out outLong)) NoX := by
  refine sp_of okX5_resets (cat_all rfl) (Nat.le_of_ble_eq_true rfl) rfl ?_
  refine v_ild1 (pc := 0) dX5_resets_0 ?_
  refine v_ce0 (pc := 1) (v_runS1 okX5_zoneAt rfl (sp_X5_zoneAt) dX5_resets_1 (lw_all_tbl q1991) (lw_all_tbl q1992) (Nat.le_of_ble_eq_true rfl) ⟨Nat.zero_le _, Nat.zero_le _⟩ (Nat.le_of_ble_eq_true rfl)) ?_
  refine v_ist2 (pc := 4) dX5_resets_4 rfl ?_
  refine v_ald0 (pc := 5) dX5_resets_5 ?_
  refine v_getf KX5 1 (pc := 6) dX5_resets_6 (lw_all_tbl q1995) (Or.inl rfl) (Nat.le_of_ble_eq_true rfl) (mw_obj hM) rfl ?_
  refine v_ild2 (pc := 9) dX5_resets_9 ?_
  refine v_iconst (pc := 10) dX5_resets_10 ?_
  refine v_iadd (pc := 11) dX5_resets_11 ?_
  refine v_iconst (pc := 12) dX5_resets_12 ?_
  refine v_stM_now hM (pc := 13) dX5_resets_13 (by omega) (fun h hM => ?_)
  refine v_ald0 (pc := 14) dX5_resets_14 ?_
  refine v_getf KX5 1 (pc := 15) dX5_resets_15 (lw_all_tbl q1995) (Or.inl rfl) (Nat.le_of_ble_eq_true rfl) (mw_obj hM) rfl ?_
  refine v_ild2 (pc := 18) dX5_resets_18 ?_
  refine v_iconst (pc := 19) dX5_resets_19 ?_
  refine v_iadd (pc := 20) dX5_resets_20 ?_
  refine v_iconst (pc := 21) dX5_resets_21 ?_
  refine v_stM_now hM (pc := 22) dX5_resets_22 (by omega) (fun h hM => ?_)
  refine v_ald0 (pc := 23) dX5_resets_23 ?_
  refine v_getf KX5 1 (pc := 24) dX5_resets_24 (lw_all_tbl q1995) (Or.inl rfl) (Nat.le_of_ble_eq_true rfl) (mw_obj hM) rfl ?_
  refine v_ild2 (pc := 27) dX5_resets_27 ?_
  refine v_iconst (pc := 28) dX5_resets_28 ?_
  refine v_iadd (pc := 29) dX5_resets_29 ?_
  refine v_iconst (pc := 30) dX5_resets_30 ?_
  refine v_stM_now hM (pc := 31) dX5_resets_31 (by omega) (fun h hM => ?_)
  refine v_ald0 (pc := 32) dX5_resets_32 ?_
  refine v_getf KX5 1 (pc := 33) dX5_resets_33 (lw_all_tbl q1995) (Or.inl rfl) (Nat.le_of_ble_eq_true rfl) (mw_obj hM) rfl ?_
  refine v_ild2 (pc := 36) dX5_resets_36 ?_
  refine v_iconst (pc := 37) dX5_resets_37 ?_
  refine v_iadd (pc := 38) dX5_resets_38 ?_
  refine v_dup2 (pc := 39) dX5_resets_39 rfl rfl ?_
  refine v_ldM_now hM (pc := 40) dX5_resets_40 (by omega) ?_
  refine v_iconst (pc := 41) dX5_resets_41 ?_
  refine v_iadd (pc := 42) dX5_resets_42 ?_
  refine v_stM_now hM (pc := 43) dX5_resets_43 (by omega) (fun h hM => ?_)
  refine v_ald0 (pc := 44) dX5_resets_44 ?_
  refine v_getf KX5 1 (pc := 45) dX5_resets_45 (lw_all_tbl q1995) (Or.inl rfl) (Nat.le_of_ble_eq_true rfl) (mw_obj hM) rfl ?_
  refine v_bipush (pc := 48) dX5_resets_48 ⟨by decide, by decide⟩ ?_
  refine v_dup2 (pc := 50) dX5_resets_50 rfl rfl ?_
  refine v_ldM_now hM (pc := 51) dX5_resets_51 (by omega) ?_
  refine v_iconst (pc := 52) dX5_resets_52 ?_
  refine v_iadd (pc := 53) dX5_resets_53 ?_
  refine v_stM_now hM (pc := 54) dX5_resets_54 (by omega) (fun h hM => ?_)
  refine v_ret_v (pc := 55) dX5_resets_55 rfl ?_
  exact qv_ok hM
theorem sp_X5_lastDay {Γ : Cx} {t : Nat} {α : Nat → Nat} {h0 h : AH} {thrown : Int} {now : Int → Int} {aside : Int → Int} {tried : Int → Int} {undos : Int → Int} {undoMany : Int} {saved : Int → Int} {isSaved : Int → Int} {accounts : Int → Int} {way : Int} {leftOut : Int} {here : Int → Int} {text : Int → Int} {length : Int} {atp : Int} {frm : Int} {token : Int} {number : Int} {error : Int} {errorAt : Int} {commands : Int} {command : Int → Int} {out : Int → Int} {outLong : Int} {z : Int} (hM : MW t α h0 h thrown now aside tried undos undoMany saved isSaved accounts way leftOut here text length atp frm token number error errorAt commands command out outLong) (hz : 0 ≤ z ∧ z ≤ 11) : Sp Γ yX5_lastDay mX5_lastDay 3 0 0 [.ref (α 0), vi z] h (Qe (now (1706 + 13 * z + 0) * now 2 + now 2 - 1) h) NoX := by
  refine sp_of okX5_lastDay (cat_all rfl) (Nat.le_of_ble_eq_true rfl) rfl ?_
  refine v_ald0 (pc := 0) dX5_lastDay_0 ?_
  refine v_ild1 (pc := 1) dX5_lastDay_1 ?_
  refine v_ce0 (pc := 2) (v_runV1 okX5_windowOf rfl (sp_X5_windowOf hM (by omega)) dX5_lastDay_2 (lw_all_tbl q2119) (lw_all_tbl q2121) (lw_all_tbl qs54) rfl (mw_obj hM) (Nat.le_of_ble_eq_true rfl) ⟨Nat.zero_le _, Nat.zero_le _⟩ (Nat.le_of_ble_eq_true rfl)) ?_
  refine v_ald0 (pc := 5) dX5_lastDay_5 ?_
  refine v_getf KX5 1 (pc := 6) dX5_lastDay_6 (lw_all_tbl q1995) (Or.inl rfl) (Nat.le_of_ble_eq_true rfl) (mw_obj hM) rfl ?_
  refine v_iconst (pc := 9) dX5_lastDay_9 ?_
  refine v_ldM_now hM (pc := 10) dX5_lastDay_10 (by omega) ?_
  refine v_imul (pc := 11) dX5_lastDay_11 ?_
  refine v_ald0 (pc := 12) dX5_lastDay_12 ?_
  refine v_getf KX5 1 (pc := 13) dX5_lastDay_13 (lw_all_tbl q1995) (Or.inl rfl) (Nat.le_of_ble_eq_true rfl) (mw_obj hM) rfl ?_
  refine v_iconst (pc := 16) dX5_lastDay_16 ?_
  refine v_ldM_now hM (pc := 17) dX5_lastDay_17 (by omega) ?_
  refine v_iadd (pc := 18) dX5_lastDay_18 ?_
  refine v_iconst (pc := 19) dX5_lastDay_19 ?_
  refine v_isub (pc := 20) dX5_lastDay_20 ?_
  refine v_ret_n (pc := 21) dX5_lastDay_21 rfl ?_
  exact qe_ok (by first | rfl | omega)
theorem sp_X5_copies {Γ : Cx} {h : AH} {one other t1 t2 n1 n2 : Nat} {f g : Int → Int} {there here : Int} (h1o : h one = some (t1, oI n1 f)) (h2o : h other = some (t2, oI n2 g)) (hne : one ≠ other) (ht2 : t2 ≠ 1) (hr1 : 0 ≤ there ∧ there + 2462 ≤ n1 ∧ n1 ≤ 20000) (hr2 : 0 ≤ here ∧ here + 2462 ≤ n2 ∧ n2 ≤ 20000) : Sp Γ yX5_copies mX5_copies 1 0 0 [.ref one, vi there, .ref other, vi here] h (Qv (fun h' => h' = hset h other (t2, oI n2 (cpy f there g here)))) NoX := by
  refine sp_of okX5_copies (cat_all rfl) (Nat.le_of_ble_eq_true rfl) rfl ?_
  have L3 : ∀ (n9 : Nat) (h1 : AH) (g1 : Int → Int) (k : Int), (2462 - k).toNat = n9 → (0 ≤ k ∧ k ≤ 2462) → (h1 = hset h other (t2, oI n2 g1)) → (∀ i, g1 i = if here ≤ i ∧ i < here + k then f (i - here + there) else g i) → V Γ mX5_copies 1 0 0 (Qv (fun h' => h' = hset h other (t2, oI n2 (cpy f there g here)))) (NoX) h1 0 0 3 [some (.ref one), some (vi there), some (.ref other), some (vi here), some (vi k)] [] := by
    intro n9
    induction n9 using Nat.strongRecOn with
    | _ n9 ih =>
      intro h1 g1 k hn9 hk hh hg
      refine v_ild4 (pc := 3) dX5_copies_3 ?_
      refine v_sipush (pc := 5) dX5_copies_5 ⟨by decide, by decide⟩ ?_
      refine v_icmp_ge (pc := 8) (tgt := 29) dX5_copies_8 rfl (by omega) (by omega) (fun c8 => ?_) (fun c8 => ?_)
      · refine v_ret_v (pc := 29) dX5_copies_29 rfl ?_
        exact qv_ok (by rw [hh]; congr 3; funext i; rw [hg i, show k = 2462 by omega]; rfl)
      · refine v_ald2 (pc := 11) dX5_copies_11 ?_
        refine v_ild3 (pc := 12) dX5_copies_12 ?_
        refine v_ild4 (pc := 13) dX5_copies_13 ?_
        refine v_iadd (pc := 15) dX5_copies_15 ?_
        refine v_ald0 (pc := 16) dX5_copies_16 ?_
        refine v_ild1 (pc := 17) dX5_copies_17 ?_
        refine v_ild4 (pc := 18) dX5_copies_18 ?_
        refine v_iadd (pc := 20) dX5_copies_20 ?_
        refine v_iald (pc := 21) dX5_copies_21 (a := one) (t := t1) (n := n1) (g := f) (by rw [hh, hset_n hne]; exact h1o) (by omega) ?_
        refine v_iast (pc := 22) dX5_copies_22 (a := other) (t := t2) (n := n2) (g := g1) (by rw [hh, hset_s]) ht2 (by omega) ?_
        refine v_iinc4 (pc := 23) dX5_copies_23 rfl ?_
        refine v_goto (pc := 26) (tgt := 3) dX5_copies_26 rfl ?_
        exact ih _ (by omega) _ _ _ rfl (by omega) (by rw [hh, hset_hset]) (fun i => if e : i = here + k then (by rw [e, upi_s, if_pos (by omega)]; congr 1; omega) else (by rw [upi_n e, hg i]; exact cpy_step e))
  refine v_iconst (pc := 0) dX5_copies_0 ?_
  refine v_ist4 (pc := 1) dX5_copies_1 rfl ?_
  exact L3 _ _ _ _ rfl (by omega) (hset_id h2o).symm (fun i => by rw [if_neg (by omega)])
theorem sp_cp_now_tried {Γ : Cx} {t : Nat} {α : Nat → Nat} {h0 h : AH} {thrown : Int} {now : Int → Int} {aside : Int → Int} {tried : Int → Int} {undos : Int → Int} {undoMany : Int} {saved : Int → Int} {isSaved : Int → Int} {accounts : Int → Int} {way : Int} {leftOut : Int} {here : Int → Int} {text : Int → Int} {length : Int} {atp : Int} {frm : Int} {token : Int} {number : Int} {error : Int} {errorAt : Int} {commands : Int} {command : Int → Int} {out : Int → Int} {outLong : Int}  (hM : MW t α h0 h thrown now aside tried undos undoMany saved isSaved accounts way leftOut here text length atp frm token number error errorAt commands command out outLong)  : Sp Γ yX5_copies mX5_copies 1 0 0 [.ref (α 1), vi (0), .ref (α 3), vi (0)] h (Qv (fun h' => MW t α h0 h' thrown now aside (cpy now (0) tried (0)) undos undoMany saved isSaved accounts way leftOut here text length atp frm token number error errorAt commands command out outLong)) NoX := by
  exact (sp_X5_copies (mw_now hM) (mw_tried hM) (mw_ne hM (by decide) (by decide) (by decide)) (mw_t hM) (by omega) (by omega)).post (fun v h' q => ⟨q.1, by rw [q.2]; exact mw_set_tried hM _⟩) (fun _ _ _ x => x)
theorem sp_cp_tried_now {Γ : Cx} {t : Nat} {α : Nat → Nat} {h0 h : AH} {thrown : Int} {now : Int → Int} {aside : Int → Int} {tried : Int → Int} {undos : Int → Int} {undoMany : Int} {saved : Int → Int} {isSaved : Int → Int} {accounts : Int → Int} {way : Int} {leftOut : Int} {here : Int → Int} {text : Int → Int} {length : Int} {atp : Int} {frm : Int} {token : Int} {number : Int} {error : Int} {errorAt : Int} {commands : Int} {command : Int → Int} {out : Int → Int} {outLong : Int}  (hM : MW t α h0 h thrown now aside tried undos undoMany saved isSaved accounts way leftOut here text length atp frm token number error errorAt commands command out outLong)  : Sp Γ yX5_copies mX5_copies 1 0 0 [.ref (α 3), vi (0), .ref (α 1), vi (0)] h (Qv (fun h' => MW t α h0 h' thrown (cpy tried (0) now (0)) aside tried undos undoMany saved isSaved accounts way leftOut here text length atp frm token number error errorAt commands command out outLong)) NoX := by
  exact (sp_X5_copies (mw_tried hM) (mw_now hM) (mw_ne hM (by decide) (by decide) (by decide)) (mw_t hM) (by omega) (by omega)).post (fun v h' q => ⟨q.1, by rw [q.2]; exact mw_set_now hM _⟩) (fun _ _ _ x => x)
theorem sp_cp_now_aside {Γ : Cx} {t : Nat} {α : Nat → Nat} {h0 h : AH} {thrown : Int} {now : Int → Int} {aside : Int → Int} {tried : Int → Int} {undos : Int → Int} {undoMany : Int} {saved : Int → Int} {isSaved : Int → Int} {accounts : Int → Int} {way : Int} {leftOut : Int} {here : Int → Int} {text : Int → Int} {length : Int} {atp : Int} {frm : Int} {token : Int} {number : Int} {error : Int} {errorAt : Int} {commands : Int} {command : Int → Int} {out : Int → Int} {outLong : Int}  (hM : MW t α h0 h thrown now aside tried undos undoMany saved isSaved accounts way leftOut here text length atp frm token number error errorAt commands command out outLong)  : Sp Γ yX5_copies mX5_copies 1 0 0 [.ref (α 1), vi (0), .ref (α 2), vi (0)] h (Qv (fun h' => MW t α h0 h' thrown now (cpy now (0) aside (0)) tried undos undoMany saved isSaved accounts way leftOut here text length atp frm token number error errorAt commands command out outLong)) NoX := by
  exact (sp_X5_copies (mw_now hM) (mw_aside hM) (mw_ne hM (by decide) (by decide) (by decide)) (mw_t hM) (by omega) (by omega)).post (fun v h' q => ⟨q.1, by rw [q.2]; exact mw_set_aside hM _⟩) (fun _ _ _ x => x)
theorem sp_cp_aside_now {Γ : Cx} {t : Nat} {α : Nat → Nat} {h0 h : AH} {thrown : Int} {now : Int → Int} {aside : Int → Int} {tried : Int → Int} {undos : Int → Int} {undoMany : Int} {saved : Int → Int} {isSaved : Int → Int} {accounts : Int → Int} {way : Int} {leftOut : Int} {here : Int → Int} {text : Int → Int} {length : Int} {atp : Int} {frm : Int} {token : Int} {number : Int} {error : Int} {errorAt : Int} {commands : Int} {command : Int → Int} {out : Int → Int} {outLong : Int}  (hM : MW t α h0 h thrown now aside tried undos undoMany saved isSaved accounts way leftOut here text length atp frm token number error errorAt commands command out outLong)  : Sp Γ yX5_copies mX5_copies 1 0 0 [.ref (α 2), vi (0), .ref (α 1), vi (0)] h (Qv (fun h' => MW t α h0 h' thrown (cpy aside (0) now (0)) aside tried undos undoMany saved isSaved accounts way leftOut here text length atp frm token number error errorAt commands command out outLong)) NoX := by
  exact (sp_X5_copies (mw_aside hM) (mw_now hM) (mw_ne hM (by decide) (by decide) (by decide)) (mw_t hM) (by omega) (by omega)).post (fun v h' q => ⟨q.1, by rw [q.2]; exact mw_set_now hM _⟩) (fun _ _ _ x => x)
theorem sp_cp_now_undos {Γ : Cx} {t : Nat} {α : Nat → Nat} {h0 h : AH} {thrown : Int} {now : Int → Int} {aside : Int → Int} {tried : Int → Int} {undos : Int → Int} {undoMany : Int} {saved : Int → Int} {isSaved : Int → Int} {accounts : Int → Int} {way : Int} {leftOut : Int} {here : Int → Int} {text : Int → Int} {length : Int} {atp : Int} {frm : Int} {token : Int} {number : Int} {error : Int} {errorAt : Int} {commands : Int} {command : Int → Int} {out : Int → Int} {outLong : Int} {k : Int} (hM : MW t α h0 h thrown now aside tried undos undoMany saved isSaved accounts way leftOut here text length atp frm token number error errorAt commands command out outLong) (hk : 0 ≤ k ∧ k ≤ 7) : Sp Γ yX5_copies mX5_copies 1 0 0 [.ref (α 1), vi (0), .ref (α 4), vi (2462 * k)] h (Qv (fun h' => MW t α h0 h' thrown now aside tried (cpy now (0) undos (2462 * k)) undoMany saved isSaved accounts way leftOut here text length atp frm token number error errorAt commands command out outLong)) NoX := by
  exact (sp_X5_copies (mw_now hM) (mw_undos hM) (mw_ne hM (by decide) (by decide) (by decide)) (mw_t hM) (by omega) (by omega)).post (fun v h' q => ⟨q.1, by rw [q.2]; exact mw_set_undos hM _⟩) (fun _ _ _ x => x)
theorem sp_cp_undos_now {Γ : Cx} {t : Nat} {α : Nat → Nat} {h0 h : AH} {thrown : Int} {now : Int → Int} {aside : Int → Int} {tried : Int → Int} {undos : Int → Int} {undoMany : Int} {saved : Int → Int} {isSaved : Int → Int} {accounts : Int → Int} {way : Int} {leftOut : Int} {here : Int → Int} {text : Int → Int} {length : Int} {atp : Int} {frm : Int} {token : Int} {number : Int} {error : Int} {errorAt : Int} {commands : Int} {command : Int → Int} {out : Int → Int} {outLong : Int} {k : Int} (hM : MW t α h0 h thrown now aside tried undos undoMany saved isSaved accounts way leftOut here text length atp frm token number error errorAt commands command out outLong) (hk : 0 ≤ k ∧ k ≤ 7) : Sp Γ yX5_copies mX5_copies 1 0 0 [.ref (α 4), vi (2462 * k), .ref (α 1), vi (0)] h (Qv (fun h' => MW t α h0 h' thrown (cpy undos (2462 * k) now (0)) aside tried undos undoMany saved isSaved accounts way leftOut here text length atp frm token number error errorAt commands command out outLong)) NoX := by
  exact (sp_X5_copies (mw_undos hM) (mw_now hM) (mw_ne hM (by decide) (by decide) (by decide)) (mw_t hM) (by omega) (by omega)).post (fun v h' q => ⟨q.1, by rw [q.2]; exact mw_set_now hM _⟩) (fun _ _ _ x => x)
theorem sp_cp_now_saved {Γ : Cx} {t : Nat} {α : Nat → Nat} {h0 h : AH} {thrown : Int} {now : Int → Int} {aside : Int → Int} {tried : Int → Int} {undos : Int → Int} {undoMany : Int} {saved : Int → Int} {isSaved : Int → Int} {accounts : Int → Int} {way : Int} {leftOut : Int} {here : Int → Int} {text : Int → Int} {length : Int} {atp : Int} {frm : Int} {token : Int} {number : Int} {error : Int} {errorAt : Int} {commands : Int} {command : Int → Int} {out : Int → Int} {outLong : Int} {k : Int} (hM : MW t α h0 h thrown now aside tried undos undoMany saved isSaved accounts way leftOut here text length atp frm token number error errorAt commands command out outLong) (hk : 0 ≤ k ∧ k ≤ 1) : Sp Γ yX5_copies mX5_copies 1 0 0 [.ref (α 1), vi (0), .ref (α 6), vi (2462 * k)] h (Qv (fun h' => MW t α h0 h' thrown now aside tried undos undoMany (cpy now (0) saved (2462 * k)) isSaved accounts way leftOut here text length atp frm token number error errorAt commands command out outLong)) NoX := by
  exact (sp_X5_copies (mw_now hM) (mw_saved hM) (mw_ne hM (by decide) (by decide) (by decide)) (mw_t hM) (by omega) (by omega)).post (fun v h' q => ⟨q.1, by rw [q.2]; exact mw_set_saved hM _⟩) (fun _ _ _ x => x)
theorem sp_cp_saved_now {Γ : Cx} {t : Nat} {α : Nat → Nat} {h0 h : AH} {thrown : Int} {now : Int → Int} {aside : Int → Int} {tried : Int → Int} {undos : Int → Int} {undoMany : Int} {saved : Int → Int} {isSaved : Int → Int} {accounts : Int → Int} {way : Int} {leftOut : Int} {here : Int → Int} {text : Int → Int} {length : Int} {atp : Int} {frm : Int} {token : Int} {number : Int} {error : Int} {errorAt : Int} {commands : Int} {command : Int → Int} {out : Int → Int} {outLong : Int} {k : Int} (hM : MW t α h0 h thrown now aside tried undos undoMany saved isSaved accounts way leftOut here text length atp frm token number error errorAt commands command out outLong) (hk : 0 ≤ k ∧ k ≤ 1) : Sp Γ yX5_copies mX5_copies 1 0 0 [.ref (α 6), vi (2462 * k), .ref (α 1), vi (0)] h (Qv (fun h' => MW t α h0 h' thrown (cpy saved (2462 * k) now (0)) aside tried undos undoMany saved isSaved accounts way leftOut here text length atp frm token number error errorAt commands command out outLong)) NoX := by
  exact (sp_X5_copies (mw_saved hM) (mw_now hM) (mw_ne hM (by decide) (by decide) (by decide)) (mw_t hM) (by omega) (by omega)).post (fun v h' q => ⟨q.1, by rw [q.2]; exact mw_set_now hM _⟩) (fun _ _ _ x => x)
