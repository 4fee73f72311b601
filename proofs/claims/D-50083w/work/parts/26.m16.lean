/-! FlashZonesModel: walks, 16: the text (printed by gen) -/
set_option maxRecDepth 100000
theorem sp_X5_goesOn {Γ : Cx} {t : Nat} {α : Nat → Nat} {h0 h : AH} {thrown : Int} {now : Int → Int} {aside : Int → Int} {tried : Int → Int} {undos : Int → Int} {undoMany : Int} {saved : Int → Int} {isSaved : Int → Int} {accounts : Int → Int} {way : Int} {leftOut : Int} {here : Int → Int} {text : Int → Int} {length : Int} {atp : Int} {frm : Int} {token : Int} {number : Int} {error : Int} {errorAt : Int} {commands : Int} {command : Int → Int} {out : Int → Int} {outLong : Int}  (hM : MW t α h0 h thrown now aside tried undos undoMany saved isSaved accounts way leftOut here text length atp frm token number error errorAt commands command out outLong) (hat : 0 ≤ atp ∧ atp ≤ length) (hl : 0 ≤ length ∧ length ≤ 700) : Sp Γ yX5_goesOn mX5_goesOn 3 0 0 [.ref (α 0)] h (Qv (fun h' => MW t α h0 h' thrown now aside tried undos undoMany saved isSaved accounts way leftOut here text length ((tGo text length atp).1) ((tGo text length atp).2.1) ((tGo text length atp).2.2.1) ((tGo text length atp).2.2.2) error errorAt commands command out outLong)) NoX := by
  refine sp_of okX5_goesOn (cat_all rfl) (Nat.le_of_ble_eq_true rfl) rfl ?_
  have hf0 := tSkip_r (tx := text) hat.2
  have hk0 := tKind_r text length (tSkip text length atp)
  have hkn : mSee text length (tSkip text length atp) ≠ -1 → tSkip text length atp < length := mSee_lt
  have hs0 := mSee_r text length (tSkip text length atp)
  have hke : (tKind text length (tSkip text length atp)) ≠ 0 → mSee text length (tSkip text length atp) ≠ -1 := fun z y => z (by unfold tKind; rw [if_pos y])
  have L146 : ∀ (n9 : Nat) (h1 : AH) (a : Int) (n : Int) (j : Int), (700 - a).toNat = n9 → (MW t α h0 h1 thrown now aside tried undos undoMany saved isSaved accounts way leftOut here text length a ((tSkip text length atp)) ((tKind text length (tSkip text length atp))) n error errorAt commands command out outLong) → (0 ≤ j ∧ (tSkip text length atp) ≤ a ∧ a ≤ length ∧ 0 ≤ n ∧ n ≤ 110000) → ((tKind text length (tSkip text length atp)) = 2 → fI j (fun _ => tD1 text length) ((tSkip text length atp), 0) = (a, n) ∧ a = (tSkip text length atp) + j) → ((tKind text length (tSkip text length atp)) ≠ 2 → a = tEnd text length (tSkip text length atp) (tKind text length (tSkip text length atp)) ∧ n = 0) → V Γ mX5_goesOn 3 0 0 (Qv (fun h' => MW t α h0 h' thrown now aside tried undos undoMany saved isSaved accounts way leftOut here text length ((tGo text length atp).1) ((tGo text length atp).2.1) ((tGo text length atp).2.2.1) ((tGo text length atp).2.2.2) error errorAt commands command out outLong)) (NoX) h1 0 0 146 [some (.ref (α 0))] [] := by
    intro n9
    induction n9 using Nat.strongRecOn with
    | _ n9 ih =>
      intro h1 a n j hn9 hM hj he ho
      have hs := mSee_r text length a
      have hsl : mSee text length a ≠ -1 → a < length := mSee_lt
      refine v_ald0 (pc := 146) dX5_goesOn_146 ?_
      refine v_getf KX5 16 (pc := 147) dX5_goesOn_147 (lw_all_tbl q2010) (Or.inl rfl) (Nat.le_of_ble_eq_true rfl) (mw_obj hM) rfl ?_
      refine v_iconst (pc := 150) dX5_goesOn_150 ?_
      refine v_icmp_ne (pc := 151) (tgt := 210) dX5_goesOn_151 rfl (by omega) (by omega) (fun c151 => ?_) (fun c151 => ?_)
      · refine v_ret_v (pc := 210) dX5_goesOn_210 rfl ?_
        have hfin : a = tEnd text length (tSkip text length atp) (tKind text length (tSkip text length atp)) ∧ n = tNum text length (tSkip text length atp) (tKind text length (tSkip text length atp)) := by
          by_cases q : (tKind text length (tSkip text length atp)) = 2
          · have hq2 := (he q).2
            have hx : tDig text length ((tSkip text length atp), 0) = (a, n) := fI_stay (f := fun _ => tD1 text length) hj.1 (by omega) (he q).1 (fun _ _ _ => by unfold tD1; dsimp only; rw [if_neg (by omega)])
            unfold tEnd tNum
            rw [if_neg (by omega), if_neg (by omega), if_pos q, if_pos q, hx]
            exact ⟨rfl, rfl⟩
          · unfold tNum
            rw [if_neg q]
            exact ho q
        exact qv_ok (by unfold tGo; dsimp only; rw [← hfin.1, ← hfin.2]; exact hM)
      · refine v_ald0 (pc := 154) dX5_goesOn_154 ?_
        refine v_cb0 (pc := 155) (v_runV0 okX5_isDigit rfl (sp_X5_isDigit hM (by omega) (by omega)) dX5_goesOn_155 (lw_all_tbl q2462) (lw_all_tbl q2464) (lw_all_tbl qs102) rfl (mw_obj hM) (Nat.le_of_ble_eq_true rfl) ⟨Nat.zero_le _, Nat.zero_le _⟩ (Nat.le_of_ble_eq_true rfl)) (fun c155 => ?_) (fun c155 => ?_)
        · refine v_if_eq1 (pc := 158) (tgt := 210) dX5_goesOn_158 rfl ?_
          refine v_ald0 (pc := 161) dX5_goesOn_161 ?_
          refine v_ald0 (pc := 162) dX5_goesOn_162 ?_
          refine v_getf KX5 17 (pc := 163) dX5_goesOn_163 (lw_all_tbl q2011) (Or.inl rfl) (Nat.le_of_ble_eq_true rfl) (mw_obj hM) rfl ?_
          refine v_sipush (pc := 166) dX5_goesOn_166 ⟨by decide, by decide⟩ ?_
          refine v_icmp_le (pc := 169) (tgt := 179) dX5_goesOn_169 rfl (by omega) (by omega) (fun c169 => ?_) (fun c169 => ?_)
          · refine v_bipush (pc := 179) dX5_goesOn_179 ⟨by decide, by decide⟩ ?_
            refine v_ald0 (pc := 181) dX5_goesOn_181 ?_
            refine v_getf KX5 17 (pc := 182) dX5_goesOn_182 (lw_all_tbl q2011) (Or.inl rfl) (Nat.le_of_ble_eq_true rfl) (mw_obj hM) rfl ?_
            refine v_imul (pc := 185) dX5_goesOn_185 ?_
            refine v_ald0 (pc := 186) dX5_goesOn_186 ?_
            refine v_ce0 (pc := 187) (v_runV0 okX5_see rfl (sp_X5_see hM (by omega) (by omega)) dX5_goesOn_187 (lw_all_tbl q2454) (lw_all_tbl q2456) (lw_all_tbl qs100) rfl (mw_obj hM) (Nat.le_of_ble_eq_true rfl) ⟨Nat.zero_le _, Nat.zero_le _⟩ (Nat.le_of_ble_eq_true rfl)) ?_
            refine v_iadd (pc := 190) dX5_goesOn_190 ?_
            refine v_bipush (pc := 191) dX5_goesOn_191 ⟨by decide, by decide⟩ ?_
            refine v_isub (pc := 193) dX5_goesOn_193 ?_
            refine v_ptM_number hM (pc := 194) dX5_goesOn_194 (lw_all_tbl q2011) (fun h hM => ?_)
            refine v_ald0 (pc := 197) dX5_goesOn_197 ?_
            refine v_dup (pc := 198) dX5_goesOn_198 rfl ?_
            refine v_getf KX5 14 (pc := 199) dX5_goesOn_199 (lw_all_tbl q2008) (Or.inl rfl) (Nat.le_of_ble_eq_true rfl) (mw_obj hM) rfl ?_
            refine v_iconst (pc := 202) dX5_goesOn_202 ?_
            refine v_iadd (pc := 203) dX5_goesOn_203 ?_
            refine v_ptM_atp hM (pc := 204) dX5_goesOn_204 (lw_all_tbl q2008) (fun h hM => ?_)
            refine v_goto (pc := 207) (tgt := 146) dX5_goesOn_207 rfl ?_
            exact ih _ (by omega) _ _ _ (j + 1) rfl hM ⟨by omega, by omega, by omega, by omega, by omega⟩ (fun z => ⟨by rw [fI_s hj.1, (he z).1]; unfold tD1; dsimp only; rw [if_pos (by omega)]; first | rw [if_pos (by omega)] | rw [if_neg (by omega)], by have := (he z).2; omega⟩) (fun z => absurd z (by omega))
          · refine v_ald0 (pc := 172) dX5_goesOn_172 ?_
            refine v_getf KX5 17 (pc := 173) dX5_goesOn_173 (lw_all_tbl q2011) (Or.inl rfl) (Nat.le_of_ble_eq_true rfl) (mw_obj hM) rfl ?_
            refine v_goto (pc := 176) (tgt := 194) dX5_goesOn_176 rfl ?_
            refine v_ptM_number hM (pc := 194) dX5_goesOn_194 (lw_all_tbl q2011) (fun h hM => ?_)
            refine v_ald0 (pc := 197) dX5_goesOn_197 ?_
            refine v_dup (pc := 198) dX5_goesOn_198 rfl ?_
            refine v_getf KX5 14 (pc := 199) dX5_goesOn_199 (lw_all_tbl q2008) (Or.inl rfl) (Nat.le_of_ble_eq_true rfl) (mw_obj hM) rfl ?_
            refine v_iconst (pc := 202) dX5_goesOn_202 ?_
            refine v_iadd (pc := 203) dX5_goesOn_203 ?_
            refine v_ptM_atp hM (pc := 204) dX5_goesOn_204 (lw_all_tbl q2008) (fun h hM => ?_)
            refine v_goto (pc := 207) (tgt := 146) dX5_goesOn_207 rfl ?_
            exact ih _ (by omega) _ _ _ (j + 1) rfl hM ⟨by omega, by omega, by omega, by omega, by omega⟩ (fun z => ⟨by rw [fI_s hj.1, (he z).1]; unfold tD1; dsimp only; rw [if_pos (by omega)]; first | rw [if_pos (by omega)] | rw [if_neg (by omega)], by have := (he z).2; omega⟩) (fun z => absurd z (by omega))
        · refine v_if_eq0 (pc := 158) (tgt := 210) dX5_goesOn_158 rfl ?_
          refine v_ret_v (pc := 210) dX5_goesOn_210 rfl ?_
          have hfin : a = tEnd text length (tSkip text length atp) (tKind text length (tSkip text length atp)) ∧ n = tNum text length (tSkip text length atp) (tKind text length (tSkip text length atp)) := by
            by_cases q : (tKind text length (tSkip text length atp)) = 2
            · have hq2 := (he q).2
              have hx : tDig text length ((tSkip text length atp), 0) = (a, n) := fI_stay (f := fun _ => tD1 text length) hj.1 (by omega) (he q).1 (fun _ _ _ => by unfold tD1; dsimp only; rw [if_neg (by omega)])
              unfold tEnd tNum
              rw [if_neg (by omega), if_neg (by omega), if_pos q, if_pos q, hx]
              exact ⟨rfl, rfl⟩
            · unfold tNum
              rw [if_neg q]
              exact ho q
          exact qv_ok (by unfold tGo; dsimp only; rw [← hfin.1, ← hfin.2]; exact hM)
  have L118 : ∀ (n9 : Nat) (h1 : AH) (a : Int) (j : Int), (700 - a).toNat = n9 → (MW t α h0 h1 thrown now aside tried undos undoMany saved isSaved accounts way leftOut here text length a ((tSkip text length atp)) ((tKind text length (tSkip text length atp))) 0 error errorAt commands command out outLong) → (0 ≤ j ∧ (tSkip text length atp) ≤ a ∧ a ≤ length) → ((tKind text length (tSkip text length atp)) = 1 → fI j (fun _ => tW1 text length) (tSkip text length atp) = a ∧ a = (tSkip text length atp) + j) → ((tKind text length (tSkip text length atp)) ≠ 1 → a = (if 3 ≤ (tKind text length (tSkip text length atp)) then (tSkip text length atp) + 1 else (tSkip text length atp))) → V Γ mX5_goesOn 3 0 0 (Qv (fun h' => MW t α h0 h' thrown now aside tried undos undoMany saved isSaved accounts way leftOut here text length ((tGo text length atp).1) ((tGo text length atp).2.1) ((tGo text length atp).2.2.1) ((tGo text length atp).2.2.2) error errorAt commands command out outLong)) (NoX) h1 0 0 118 [some (.ref (α 0))] [] := by
    intro n9
    induction n9 using Nat.strongRecOn with
    | _ n9 ih =>
      intro h1 a j hn9 hM hj he ho
      have hs := mSee_r text length a
      have hsl : mSee text length a ≠ -1 → a < length := mSee_lt
      refine v_ald0 (pc := 118) dX5_goesOn_118 ?_
      refine v_getf KX5 16 (pc := 119) dX5_goesOn_119 (lw_all_tbl q2010) (Or.inl rfl) (Nat.le_of_ble_eq_true rfl) (mw_obj hM) rfl ?_
      refine v_iconst (pc := 122) dX5_goesOn_122 ?_
      refine v_icmp_ne (pc := 123) (tgt := 146) dX5_goesOn_123 rfl (by omega) (by omega) (fun c123 => ?_) (fun c123 => ?_)
      · exact L146 _ _ _ _ 0 rfl hM ⟨by omega, by omega, by omega, by omega, by omega⟩ (fun z => by have hq := ho (by omega); rw [if_neg (by omega)] at hq; exact ⟨by rw [fI_0, hq], by omega⟩) (fun z => ⟨by have hq := ho (by omega); unfold tEnd; by_cases q : 3 ≤ (tKind text length (tSkip text length atp)); (rw [if_pos q] at hq ⊢; exact hq); (rw [if_neg q] at hq ⊢; rw [if_neg (by omega), if_neg (by omega)]; exact hq), rfl⟩)
      · refine v_ald0 (pc := 126) dX5_goesOn_126 ?_
        refine v_cb0 (pc := 127) (v_runV0 okX5_isSmall rfl (sp_X5_isSmall hM (by omega) (by omega)) dX5_goesOn_127 (lw_all_tbl q2458) (lw_all_tbl q2460) (lw_all_tbl qs101) rfl (mw_obj hM) (Nat.le_of_ble_eq_true rfl) ⟨Nat.zero_le _, Nat.zero_le _⟩ (Nat.le_of_ble_eq_true rfl)) (fun c127 => ?_) (fun c127 => ?_)
        · refine v_if_eq1 (pc := 130) (tgt := 146) dX5_goesOn_130 rfl ?_
          refine v_ald0 (pc := 133) dX5_goesOn_133 ?_
          refine v_dup (pc := 134) dX5_goesOn_134 rfl ?_
          refine v_getf KX5 14 (pc := 135) dX5_goesOn_135 (lw_all_tbl q2008) (Or.inl rfl) (Nat.le_of_ble_eq_true rfl) (mw_obj hM) rfl ?_
          refine v_iconst (pc := 138) dX5_goesOn_138 ?_
          refine v_iadd (pc := 139) dX5_goesOn_139 ?_
          refine v_ptM_atp hM (pc := 140) dX5_goesOn_140 (lw_all_tbl q2008) (fun h hM => ?_)
          refine v_goto (pc := 143) (tgt := 118) dX5_goesOn_143 rfl ?_
          exact ih _ (by omega) _ _ (j + 1) rfl hM ⟨by omega, by omega, by omega⟩ (fun z => ⟨by rw [fI_s hj.1, (he z).1]; unfold tW1; rw [if_pos (by omega)], by have := (he z).2; omega⟩) (fun z => absurd z (by omega))
        · refine v_if_eq0 (pc := 130) (tgt := 146) dX5_goesOn_130 rfl ?_
          have hx : tWord text length (tSkip text length atp) = a := fI_stay (f := fun _ => tW1 text length) hj.1 (by have := (he (by omega)).2; omega) (he (by omega)).1 (fun _ _ _ => by unfold tW1; rw [if_neg (by omega)])
          exact L146 _ _ _ _ 0 rfl hM ⟨by omega, by omega, by omega, by omega, by omega⟩ (fun z => absurd z (by omega)) (fun z => ⟨by unfold tEnd; rw [if_neg (by omega), if_pos (by omega)]; exact hx.symm, rfl⟩)
  have L0 : ∀ (n9 : Nat) (h1 : AH) (a : Int) (j : Int), (700 - a).toNat = n9 → (MW t α h0 h1 thrown now aside tried undos undoMany saved isSaved accounts way leftOut here text length a frm token number error errorAt commands command out outLong) → (0 ≤ j ∧ a = atp + j ∧ a ≤ length) → (fI j (fun _ => tSp text length) atp = a) → V Γ mX5_goesOn 3 0 0 (Qv (fun h' => MW t α h0 h' thrown now aside tried undos undoMany saved isSaved accounts way leftOut here text length ((tGo text length atp).1) ((tGo text length atp).2.1) ((tGo text length atp).2.2.1) ((tGo text length atp).2.2.2) error errorAt commands command out outLong)) (NoX) h1 0 0 0 [some (.ref (α 0))] [] := by
    intro n9
    induction n9 using Nat.strongRecOn with
    | _ n9 ih =>
      intro h1 a j hn9 hM hj he
      have hs := mSee_r text length a
      have hsl : mSee text length a ≠ -1 → a < length := mSee_lt
      refine v_ald0 (pc := 0) dX5_goesOn_0 ?_
      refine v_ce0 (pc := 1) (v_runV0 okX5_see rfl (sp_X5_see hM (by omega) (by omega)) dX5_goesOn_1 (lw_all_tbl q2454) (lw_all_tbl q2456) (lw_all_tbl qs100) rfl (mw_obj hM) (Nat.le_of_ble_eq_true rfl) ⟨Nat.zero_le _, Nat.zero_le _⟩ (Nat.le_of_ble_eq_true rfl)) ?_
      refine v_bipush (pc := 4) dX5_goesOn_4 ⟨by decide, by decide⟩ ?_
      refine v_icmp_eq (pc := 6) (tgt := 18) dX5_goesOn_6 rfl (by omega) (by omega) (fun c6 => ?_) (fun c6 => ?_)
      · refine v_ald0 (pc := 18) dX5_goesOn_18 ?_
        refine v_dup (pc := 19) dX5_goesOn_19 rfl ?_
        refine v_getf KX5 14 (pc := 20) dX5_goesOn_20 (lw_all_tbl q2008) (Or.inl rfl) (Nat.le_of_ble_eq_true rfl) (mw_obj hM) rfl ?_
        refine v_iconst (pc := 23) dX5_goesOn_23 ?_
        refine v_iadd (pc := 24) dX5_goesOn_24 ?_
        refine v_ptM_atp hM (pc := 25) dX5_goesOn_25 (lw_all_tbl q2008) (fun h hM => ?_)
        refine v_goto (pc := 28) (tgt := 0) dX5_goesOn_28 rfl ?_
        exact ih _ (by omega) _ _ (j + 1) rfl hM ⟨by omega, by omega, by omega⟩ (by rw [fI_s hj.1, he]; unfold tSp; rw [if_pos (by omega)])
      · refine v_ald0 (pc := 9) dX5_goesOn_9 ?_
        refine v_ce0 (pc := 10) (v_runV0 okX5_see rfl (sp_X5_see hM (by omega) (by omega)) dX5_goesOn_10 (lw_all_tbl q2454) (lw_all_tbl q2456) (lw_all_tbl qs100) rfl (mw_obj hM) (Nat.le_of_ble_eq_true rfl) ⟨Nat.zero_le _, Nat.zero_le _⟩ (Nat.le_of_ble_eq_true rfl)) ?_
        refine v_bipush (pc := 13) dX5_goesOn_13 ⟨by decide, by decide⟩ ?_
        refine v_icmp_ne (pc := 15) (tgt := 31) dX5_goesOn_15 rfl (by omega) (by omega) (fun c15 => ?_) (fun c15 => ?_)
        · have hx : tSkip text length atp = a := fI_stay (f := fun _ => tSp text length) hj.1 (by omega) he (fun _ _ _ => by unfold tSp; rw [if_neg (by omega)])
          subst hx
          refine v_ald0 (pc := 31) dX5_goesOn_31 ?_
          refine v_ald0 (pc := 32) dX5_goesOn_32 ?_
          refine v_getf KX5 14 (pc := 33) dX5_goesOn_33 (lw_all_tbl q2008) (Or.inl rfl) (Nat.le_of_ble_eq_true rfl) (mw_obj hM) rfl ?_
          refine v_ptM_frm hM (pc := 36) dX5_goesOn_36 (lw_all_tbl q2009) (fun h hM => ?_)
          refine v_ald0 (pc := 39) dX5_goesOn_39 ?_
          refine v_ald0 (pc := 40) dX5_goesOn_40 ?_
          refine v_ce0 (pc := 41) (v_runV0 okX5_see rfl (sp_X5_see hM (by omega) (by omega)) dX5_goesOn_41 (lw_all_tbl q2454) (lw_all_tbl q2456) (lw_all_tbl qs100) rfl (mw_obj hM) (Nat.le_of_ble_eq_true rfl) ⟨Nat.zero_le _, Nat.zero_le _⟩ (Nat.le_of_ble_eq_true rfl)) ?_
          refine v_iconst (pc := 44) dX5_goesOn_44 ?_
          refine v_icmp_ne (pc := 45) (tgt := 52) dX5_goesOn_45 rfl (by omega) (by omega) (fun c45 => ?_) (fun c45 => ?_)
          · refine v_ald0 (pc := 52) dX5_goesOn_52 ?_
            refine v_cb0 (pc := 53) (v_runV0 okX5_isSmall rfl (sp_X5_isSmall hM (by omega) (by omega)) dX5_goesOn_53 (lw_all_tbl q2458) (lw_all_tbl q2460) (lw_all_tbl qs101) rfl (mw_obj hM) (Nat.le_of_ble_eq_true rfl) ⟨Nat.zero_le _, Nat.zero_le _⟩ (Nat.le_of_ble_eq_true rfl)) (fun c53 => ?_) (fun c53 => ?_)
            · have hkk : (tKind text length (tSkip text length atp)) = 1 := (by unfold tKind; first | rw [if_pos (by omega)] | rw [if_neg (by omega), if_pos (by omega)] | rw [if_neg (by omega), if_neg (by omega), if_pos (by omega)] | rw [if_neg (by omega), if_neg (by omega), if_neg (by omega), if_pos (by omega)] | rw [if_neg (by omega), if_neg (by omega), if_neg (by omega), if_neg (by omega)])
              refine v_if_eq1 (pc := 56) (tgt := 63) dX5_goesOn_56 rfl ?_
              refine v_iconst (pc := 59) dX5_goesOn_59 ?_
              refine v_goto (pc := 60) (tgt := 88) dX5_goesOn_60 rfl ?_
              refine v_ptM_token hM (pc := 88) dX5_goesOn_88 (lw_all_tbl q2010) (fun h hM => ?_)
              refine v_ald0 (pc := 91) dX5_goesOn_91 ?_
              refine v_iconst (pc := 92) dX5_goesOn_92 ?_
              refine v_ptM_number hM (pc := 93) dX5_goesOn_93 (lw_all_tbl q2011) (fun h hM => ?_)
              refine v_ald0 (pc := 96) dX5_goesOn_96 ?_
              refine v_dup (pc := 97) dX5_goesOn_97 rfl ?_
              refine v_getf KX5 14 (pc := 98) dX5_goesOn_98 (lw_all_tbl q2008) (Or.inl rfl) (Nat.le_of_ble_eq_true rfl) (mw_obj hM) rfl ?_
              refine v_ald0 (pc := 101) dX5_goesOn_101 ?_
              refine v_getf KX5 16 (pc := 102) dX5_goesOn_102 (lw_all_tbl q2010) (Or.inl rfl) (Nat.le_of_ble_eq_true rfl) (mw_obj hM) rfl ?_
              refine v_iconst (pc := 105) dX5_goesOn_105 ?_
              refine v_icmp_lt (pc := 106) (tgt := 113) dX5_goesOn_106 rfl (by omega) (by omega) (fun c106 => ?_) (fun c106 => ?_)
              · refine v_iconst (pc := 113) dX5_goesOn_113 ?_
                refine v_iadd (pc := 114) dX5_goesOn_114 ?_
                refine v_ptM_atp hM (pc := 115) dX5_goesOn_115 (lw_all_tbl q2008) (fun h hM => ?_)
                exact L118 _ _ _ 0 rfl (mw_e_token hM hkk.symm) ⟨by omega, by omega, by omega⟩ (fun z => ⟨by rw [fI_0]; omega, by omega⟩) (fun z => by first | (exfalso; omega) | (rw [if_pos (by omega)]) | (rw [if_neg (by omega)]; omega))
              · refine v_iconst (pc := 109) dX5_goesOn_109 ?_
                refine v_goto (pc := 110) (tgt := 114) dX5_goesOn_110 rfl ?_
                refine v_iadd (pc := 114) dX5_goesOn_114 ?_
                refine v_ptM_atp hM (pc := 115) dX5_goesOn_115 (lw_all_tbl q2008) (fun h hM => ?_)
                exact L118 _ _ _ 0 rfl (mw_e_token hM hkk.symm) ⟨by omega, by omega, by omega⟩ (fun z => ⟨by rw [fI_0]; omega, by omega⟩) (fun z => by first | (exfalso; omega) | (rw [if_pos (by omega)]) | (rw [if_neg (by omega)]; omega))
            · refine v_if_eq0 (pc := 56) (tgt := 63) dX5_goesOn_56 rfl ?_
              refine v_ald0 (pc := 63) dX5_goesOn_63 ?_
              refine v_cb0 (pc := 64) (v_runV0 okX5_isDigit rfl (sp_X5_isDigit hM (by omega) (by omega)) dX5_goesOn_64 (lw_all_tbl q2462) (lw_all_tbl q2464) (lw_all_tbl qs102) rfl (mw_obj hM) (Nat.le_of_ble_eq_true rfl) ⟨Nat.zero_le _, Nat.zero_le _⟩ (Nat.le_of_ble_eq_true rfl)) (fun c64 => ?_) (fun c64 => ?_)
              · have hkk : (tKind text length (tSkip text length atp)) = 2 := (by unfold tKind; first | rw [if_pos (by omega)] | rw [if_neg (by omega), if_pos (by omega)] | rw [if_neg (by omega), if_neg (by omega), if_pos (by omega)] | rw [if_neg (by omega), if_neg (by omega), if_neg (by omega), if_pos (by omega)] | rw [if_neg (by omega), if_neg (by omega), if_neg (by omega), if_neg (by omega)])
                refine v_if_eq1 (pc := 67) (tgt := 74) dX5_goesOn_67 rfl ?_
                refine v_iconst (pc := 70) dX5_goesOn_70 ?_
                refine v_goto (pc := 71) (tgt := 88) dX5_goesOn_71 rfl ?_
                refine v_ptM_token hM (pc := 88) dX5_goesOn_88 (lw_all_tbl q2010) (fun h hM => ?_)
                refine v_ald0 (pc := 91) dX5_goesOn_91 ?_
                refine v_iconst (pc := 92) dX5_goesOn_92 ?_
                refine v_ptM_number hM (pc := 93) dX5_goesOn_93 (lw_all_tbl q2011) (fun h hM => ?_)
                refine v_ald0 (pc := 96) dX5_goesOn_96 ?_
                refine v_dup (pc := 97) dX5_goesOn_97 rfl ?_
                refine v_getf KX5 14 (pc := 98) dX5_goesOn_98 (lw_all_tbl q2008) (Or.inl rfl) (Nat.le_of_ble_eq_true rfl) (mw_obj hM) rfl ?_
                refine v_ald0 (pc := 101) dX5_goesOn_101 ?_
                refine v_getf KX5 16 (pc := 102) dX5_goesOn_102 (lw_all_tbl q2010) (Or.inl rfl) (Nat.le_of_ble_eq_true rfl) (mw_obj hM) rfl ?_
                refine v_iconst (pc := 105) dX5_goesOn_105 ?_
                refine v_icmp_lt (pc := 106) (tgt := 113) dX5_goesOn_106 rfl (by omega) (by omega) (fun c106 => ?_) (fun c106 => ?_)
                · refine v_iconst (pc := 113) dX5_goesOn_113 ?_
                  refine v_iadd (pc := 114) dX5_goesOn_114 ?_
                  refine v_ptM_atp hM (pc := 115) dX5_goesOn_115 (lw_all_tbl q2008) (fun h hM => ?_)
                  exact L118 _ _ _ 0 rfl (mw_e_token hM hkk.symm) ⟨by omega, by omega, by omega⟩ (fun z => ⟨by rw [fI_0]; omega, by omega⟩) (fun z => by first | (exfalso; omega) | (rw [if_pos (by omega)]) | (rw [if_neg (by omega)]; omega))
                · refine v_iconst (pc := 109) dX5_goesOn_109 ?_
                  refine v_goto (pc := 110) (tgt := 114) dX5_goesOn_110 rfl ?_
                  refine v_iadd (pc := 114) dX5_goesOn_114 ?_
                  refine v_ptM_atp hM (pc := 115) dX5_goesOn_115 (lw_all_tbl q2008) (fun h hM => ?_)
                  exact L118 _ _ _ 0 rfl (mw_e_token hM hkk.symm) ⟨by omega, by omega, by omega⟩ (fun z => ⟨by rw [fI_0]; omega, by omega⟩) (fun z => by first | (exfalso; omega) | (rw [if_pos (by omega)]) | (rw [if_neg (by omega)]; omega))
              · refine v_if_eq0 (pc := 67) (tgt := 74) dX5_goesOn_67 rfl ?_
                refine v_ald0 (pc := 74) dX5_goesOn_74 ?_
                refine v_ce0 (pc := 75) (v_runV0 okX5_see rfl (sp_X5_see hM (by omega) (by omega)) dX5_goesOn_75 (lw_all_tbl q2454) (lw_all_tbl q2456) (lw_all_tbl qs100) rfl (mw_obj hM) (Nat.le_of_ble_eq_true rfl) ⟨Nat.zero_le _, Nat.zero_le _⟩ (Nat.le_of_ble_eq_true rfl)) ?_
                refine v_bipush (pc := 78) dX5_goesOn_78 ⟨by decide, by decide⟩ ?_
                refine v_icmp_ne (pc := 80) (tgt := 87) dX5_goesOn_80 rfl (by omega) (by omega) (fun c80 => ?_) (fun c80 => ?_)
                · have hkk : (tKind text length (tSkip text length atp)) = 4 := (by unfold tKind; first | rw [if_pos (by omega)] | rw [if_neg (by omega), if_pos (by omega)] | rw [if_neg (by omega), if_neg (by omega), if_pos (by omega)] | rw [if_neg (by omega), if_neg (by omega), if_neg (by omega), if_pos (by omega)] | rw [if_neg (by omega), if_neg (by omega), if_neg (by omega), if_neg (by omega)])
                  refine v_iconst (pc := 87) dX5_goesOn_87 ?_
                  refine v_ptM_token hM (pc := 88) dX5_goesOn_88 (lw_all_tbl q2010) (fun h hM => ?_)
                  refine v_ald0 (pc := 91) dX5_goesOn_91 ?_
                  refine v_iconst (pc := 92) dX5_goesOn_92 ?_
                  refine v_ptM_number hM (pc := 93) dX5_goesOn_93 (lw_all_tbl q2011) (fun h hM => ?_)
                  refine v_ald0 (pc := 96) dX5_goesOn_96 ?_
                  refine v_dup (pc := 97) dX5_goesOn_97 rfl ?_
                  refine v_getf KX5 14 (pc := 98) dX5_goesOn_98 (lw_all_tbl q2008) (Or.inl rfl) (Nat.le_of_ble_eq_true rfl) (mw_obj hM) rfl ?_
                  refine v_ald0 (pc := 101) dX5_goesOn_101 ?_
                  refine v_getf KX5 16 (pc := 102) dX5_goesOn_102 (lw_all_tbl q2010) (Or.inl rfl) (Nat.le_of_ble_eq_true rfl) (mw_obj hM) rfl ?_
                  refine v_iconst (pc := 105) dX5_goesOn_105 ?_
                  refine v_icmp_lt (pc := 106) (tgt := 113) dX5_goesOn_106 rfl (by omega) (by omega) (fun c106 => ?_) (fun c106 => ?_)
                  · refine v_iconst (pc := 113) dX5_goesOn_113 ?_
                    refine v_iadd (pc := 114) dX5_goesOn_114 ?_
                    refine v_ptM_atp hM (pc := 115) dX5_goesOn_115 (lw_all_tbl q2008) (fun h hM => ?_)
                    exact L118 _ _ _ 0 rfl (mw_e_token hM hkk.symm) ⟨by omega, by omega, by omega⟩ (fun z => ⟨by rw [fI_0]; omega, by omega⟩) (fun z => by first | (exfalso; omega) | (rw [if_pos (by omega)]) | (rw [if_neg (by omega)]; omega))
                  · refine v_iconst (pc := 109) dX5_goesOn_109 ?_
                    refine v_goto (pc := 110) (tgt := 114) dX5_goesOn_110 rfl ?_
                    refine v_iadd (pc := 114) dX5_goesOn_114 ?_
                    refine v_ptM_atp hM (pc := 115) dX5_goesOn_115 (lw_all_tbl q2008) (fun h hM => ?_)
                    exact L118 _ _ _ 0 rfl (mw_e_token hM hkk.symm) ⟨by omega, by omega, by omega⟩ (fun z => ⟨by rw [fI_0]; omega, by omega⟩) (fun z => by first | (exfalso; omega) | (rw [if_pos (by omega)]) | (rw [if_neg (by omega)]; omega))
                · have hkk : (tKind text length (tSkip text length atp)) = 3 := (by unfold tKind; first | rw [if_pos (by omega)] | rw [if_neg (by omega), if_pos (by omega)] | rw [if_neg (by omega), if_neg (by omega), if_pos (by omega)] | rw [if_neg (by omega), if_neg (by omega), if_neg (by omega), if_pos (by omega)] | rw [if_neg (by omega), if_neg (by omega), if_neg (by omega), if_neg (by omega)])
                  refine v_iconst (pc := 83) dX5_goesOn_83 ?_
                  refine v_goto (pc := 84) (tgt := 88) dX5_goesOn_84 rfl ?_
                  refine v_ptM_token hM (pc := 88) dX5_goesOn_88 (lw_all_tbl q2010) (fun h hM => ?_)
                  refine v_ald0 (pc := 91) dX5_goesOn_91 ?_
                  refine v_iconst (pc := 92) dX5_goesOn_92 ?_
                  refine v_ptM_number hM (pc := 93) dX5_goesOn_93 (lw_all_tbl q2011) (fun h hM => ?_)
                  refine v_ald0 (pc := 96) dX5_goesOn_96 ?_
                  refine v_dup (pc := 97) dX5_goesOn_97 rfl ?_
                  refine v_getf KX5 14 (pc := 98) dX5_goesOn_98 (lw_all_tbl q2008) (Or.inl rfl) (Nat.le_of_ble_eq_true rfl) (mw_obj hM) rfl ?_
                  refine v_ald0 (pc := 101) dX5_goesOn_101 ?_
                  refine v_getf KX5 16 (pc := 102) dX5_goesOn_102 (lw_all_tbl q2010) (Or.inl rfl) (Nat.le_of_ble_eq_true rfl) (mw_obj hM) rfl ?_
                  refine v_iconst (pc := 105) dX5_goesOn_105 ?_
                  refine v_icmp_lt (pc := 106) (tgt := 113) dX5_goesOn_106 rfl (by omega) (by omega) (fun c106 => ?_) (fun c106 => ?_)
                  · refine v_iconst (pc := 113) dX5_goesOn_113 ?_
                    refine v_iadd (pc := 114) dX5_goesOn_114 ?_
                    refine v_ptM_atp hM (pc := 115) dX5_goesOn_115 (lw_all_tbl q2008) (fun h hM => ?_)
                    exact L118 _ _ _ 0 rfl (mw_e_token hM hkk.symm) ⟨by omega, by omega, by omega⟩ (fun z => ⟨by rw [fI_0]; omega, by omega⟩) (fun z => by first | (exfalso; omega) | (rw [if_pos (by omega)]) | (rw [if_neg (by omega)]; omega))
                  · refine v_iconst (pc := 109) dX5_goesOn_109 ?_
                    refine v_goto (pc := 110) (tgt := 114) dX5_goesOn_110 rfl ?_
                    refine v_iadd (pc := 114) dX5_goesOn_114 ?_
                    refine v_ptM_atp hM (pc := 115) dX5_goesOn_115 (lw_all_tbl q2008) (fun h hM => ?_)
                    exact L118 _ _ _ 0 rfl (mw_e_token hM hkk.symm) ⟨by omega, by omega, by omega⟩ (fun z => ⟨by rw [fI_0]; omega, by omega⟩) (fun z => by first | (exfalso; omega) | (rw [if_pos (by omega)]) | (rw [if_neg (by omega)]; omega))
          · have hkk : (tKind text length (tSkip text length atp)) = 0 := (by unfold tKind; first | rw [if_pos (by omega)] | rw [if_neg (by omega), if_pos (by omega)] | rw [if_neg (by omega), if_neg (by omega), if_pos (by omega)] | rw [if_neg (by omega), if_neg (by omega), if_neg (by omega), if_pos (by omega)] | rw [if_neg (by omega), if_neg (by omega), if_neg (by omega), if_neg (by omega)])
            refine v_iconst (pc := 48) dX5_goesOn_48 ?_
            refine v_goto (pc := 49) (tgt := 88) dX5_goesOn_49 rfl ?_
            refine v_ptM_token hM (pc := 88) dX5_goesOn_88 (lw_all_tbl q2010) (fun h hM => ?_)
            refine v_ald0 (pc := 91) dX5_goesOn_91 ?_
            refine v_iconst (pc := 92) dX5_goesOn_92 ?_
            refine v_ptM_number hM (pc := 93) dX5_goesOn_93 (lw_all_tbl q2011) (fun h hM => ?_)
            refine v_ald0 (pc := 96) dX5_goesOn_96 ?_
            refine v_dup (pc := 97) dX5_goesOn_97 rfl ?_
            refine v_getf KX5 14 (pc := 98) dX5_goesOn_98 (lw_all_tbl q2008) (Or.inl rfl) (Nat.le_of_ble_eq_true rfl) (mw_obj hM) rfl ?_
            refine v_ald0 (pc := 101) dX5_goesOn_101 ?_
            refine v_getf KX5 16 (pc := 102) dX5_goesOn_102 (lw_all_tbl q2010) (Or.inl rfl) (Nat.le_of_ble_eq_true rfl) (mw_obj hM) rfl ?_
            refine v_iconst (pc := 105) dX5_goesOn_105 ?_
            refine v_icmp_lt (pc := 106) (tgt := 113) dX5_goesOn_106 rfl (by omega) (by omega) (fun c106 => ?_) (fun c106 => ?_)
            · refine v_iconst (pc := 113) dX5_goesOn_113 ?_
              refine v_iadd (pc := 114) dX5_goesOn_114 ?_
              refine v_ptM_atp hM (pc := 115) dX5_goesOn_115 (lw_all_tbl q2008) (fun h hM => ?_)
              exact L118 _ _ _ 0 rfl (mw_e_token hM hkk.symm) ⟨by omega, by omega, by omega⟩ (fun z => ⟨by rw [fI_0]; omega, by omega⟩) (fun z => by first | (exfalso; omega) | (rw [if_pos (by omega)]) | (rw [if_neg (by omega)]; omega))
            · refine v_iconst (pc := 109) dX5_goesOn_109 ?_
              refine v_goto (pc := 110) (tgt := 114) dX5_goesOn_110 rfl ?_
              refine v_iadd (pc := 114) dX5_goesOn_114 ?_
              refine v_ptM_atp hM (pc := 115) dX5_goesOn_115 (lw_all_tbl q2008) (fun h hM => ?_)
              exact L118 _ _ _ 0 rfl (mw_e_token hM hkk.symm) ⟨by omega, by omega, by omega⟩ (fun z => ⟨by rw [fI_0]; omega, by omega⟩) (fun z => by first | (exfalso; omega) | (rw [if_pos (by omega)]) | (rw [if_neg (by omega)]; omega))
        · refine v_ald0 (pc := 18) dX5_goesOn_18 ?_
          refine v_dup (pc := 19) dX5_goesOn_19 rfl ?_
          refine v_getf KX5 14 (pc := 20) dX5_goesOn_20 (lw_all_tbl q2008) (Or.inl rfl) (Nat.le_of_ble_eq_true rfl) (mw_obj hM) rfl ?_
          refine v_iconst (pc := 23) dX5_goesOn_23 ?_
          refine v_iadd (pc := 24) dX5_goesOn_24 ?_
          refine v_ptM_atp hM (pc := 25) dX5_goesOn_25 (lw_all_tbl q2008) (fun h hM => ?_)
          refine v_goto (pc := 28) (tgt := 0) dX5_goesOn_28 rfl ?_
          exact ih _ (by omega) _ _ (j + 1) rfl hM ⟨by omega, by omega, by omega⟩ (by rw [fI_s hj.1, he]; unfold tSp; rw [if_pos (by omega)])
  exact L0 _ _ _ 0 rfl hM ⟨by omega, by omega, by omega⟩ rfl
theorem wSL (v : Int) (hv : 0 ≤ v ∧ v ≤ 5) : wS v + wL v ≤ 30 := by
  rcases (show v = 0 ∨ v = 1 ∨ v = 2 ∨ v = 3 ∨ v = 4 ∨ v = 5 by omega) with rfl | rfl | rfl | rfl | rfl | rfl <;> decide
theorem sp_X5_wordHere {Γ : Cx} {t : Nat} {α : Nat → Nat} {h0 h : AH} {thrown : Int} {now : Int → Int} {aside : Int → Int} {tried : Int → Int} {undos : Int → Int} {undoMany : Int} {saved : Int → Int} {isSaved : Int → Int} {accounts : Int → Int} {way : Int} {leftOut : Int} {here : Int → Int} {text : Int → Int} {length : Int} {atp : Int} {frm : Int} {token : Int} {number : Int} {error : Int} {errorAt : Int} {commands : Int} {command : Int → Int} {out : Int → Int} {outLong : Int}  (hM : MW t α h0 h thrown now aside tried undos undoMany saved isSaved accounts way leftOut here text length atp frm token number error errorAt commands command out outLong) (hat : 0 ≤ frm ∧ frm ≤ atp ∧ atp ≤ 700) (htx : ∀ i, -128 ≤ text i ∧ text i ≤ 127) (htk : 0 ≤ token ∧ token ≤ 4) : Sp Γ yX5_wordHere mX5_wordHere 1 0 0 [.ref (α 0)] h (Qe (tWd text (atp, frm, token, number)) h) NoX := by
  refine sp_of okX5_wordHere (cat_all rfl) (Nat.le_of_ble_eq_true rfl) rfl ?_
  have L23 : ∀ (n9 : Nat) (w : Int) (d : Int) (b : Int), (10 * (6 - w) + (6 - d)).toNat = n9 → (0 ≤ w ∧ w ≤ 5 ∧ 0 ≤ d ∧ d ≤ wL w ∧ token = 1) → (b = if tEq text frm w d = 1 ∧ frm + d ≤ atp then 1 else 0) → (fst (fun w => tIsW text frm atp w) w = -1) → V Γ mX5_wordHere 1 0 0 (Qe (tWd text (atp, frm, token, number)) h) (NoX) h 0 0 23 [some (.ref (α 0)), some (vi (wS w)), some (vi w), some (vi d), some (vi b)] [] := by
    intro n9
    induction n9 using Nat.strongRecOn with
    | _ n9 ih =>
      intro w d b hn9 hw hb hf
      have hwsl : wS w + wL w ≤ 30 := wSL w ⟨by omega, by omega⟩
      have hws := wS_r w
      have hwl := wL_r w
      have hwt := wTab (w := w) (d := d) ⟨by omega, by omega⟩ ⟨by omega, by omega⟩
      have hb2 : b = 1 ∧ (tEq text frm w d = 1 ∧ frm + d ≤ atp) ∨ b = 0 ∧ ¬ (tEq text frm w d = 1 ∧ frm + d ≤ atp) := by split at hb <;> omega
      have htd := htx (frm + d)
      refine v_ald0 (pc := 23) dX5_wordHere_23 ?_
      refine v_getf KX5 20 (pc := 24) dX5_wordHere_24 (lw_all_tbl q2014) (Or.inl rfl) (Nat.le_of_ble_eq_true rfl) (mw_obj hM) rfl ?_
      refine v_ild1 (pc := 27) dX5_wordHere_27 ?_
      refine v_ild3 (pc := 28) dX5_wordHere_28 ?_
      refine v_iadd (pc := 29) dX5_wordHere_29 ?_
      refine v_ldM_words hM (pc := 30) dX5_wordHere_30 (by omega) ?_
      refine v_bipush (pc := 31) dX5_wordHere_31 ⟨by decide, by decide⟩ ?_
      refine v_icmp_eq (pc := 33) (tgt := 89) dX5_wordHere_33 rfl (by omega) (by omega) (fun c33 => ?_) (fun c33 => ?_)
      · have hd : d = wL w := hwt.1.mp c33
        subst hd
        refine v_ild4 (pc := 89) dX5_wordHere_89 ?_
        refine v_if_eq (pc := 91) (tgt := 109) dX5_wordHere_91 rfl (by omega) (fun c91 => ?_) (fun c91 => ?_)
        · refine v_ild1 (pc := 109) dX5_wordHere_109 ?_
          refine v_ild3 (pc := 110) dX5_wordHere_110 ?_
          refine v_iconst (pc := 111) dX5_wordHere_111 ?_
          refine v_iadd (pc := 112) dX5_wordHere_112 ?_
          refine v_iadd (pc := 113) dX5_wordHere_113 ?_
          refine v_ist1 (pc := 114) dX5_wordHere_114 rfl ?_
          refine v_iinc2 (pc := 115) dX5_wordHere_115 rfl ?_
          refine v_goto (pc := 118) (tgt := 4) dX5_wordHere_118 rfl ?_
          refine v_ald0 (pc := 4) dX5_wordHere_4 ?_
          refine v_getf KX5 16 (pc := 5) dX5_wordHere_5 (lw_all_tbl q2010) (Or.inl rfl) (Nat.le_of_ble_eq_true rfl) (mw_obj hM) rfl ?_
          refine v_iconst (pc := 8) dX5_wordHere_8 ?_
          refine v_icmp_ne (pc := 9) (tgt := 121) dX5_wordHere_9 rfl (by omega) (by omega) (fun c9 => ?_) (fun c9 => ?_)
          · refine v_iconst (pc := 121) dX5_wordHere_121 ?_
            refine v_ret_n (pc := 122) dX5_wordHere_122 rfl ?_
            first | exact qe_ok (by unfold tWd; dsimp only; rw [if_neg (by omega)]) | exact qe_ok (by unfold tWd; dsimp only; rw [if_pos (by omega), show (6 : Int) = w + 1 by omega, fst_s (by omega), if_neg (fun q => by have q1 := q.2; omega)]; exact hf.symm)
          · refine v_ild2 (pc := 12) dX5_wordHere_12 ?_
            refine v_bipush (pc := 13) dX5_wordHere_13 ⟨by decide, by decide⟩ ?_
            refine v_icmp_ge (pc := 15) (tgt := 121) dX5_wordHere_15 rfl (by omega) (by omega) (fun c15 => ?_) (fun c15 => ?_)
            · refine v_iconst (pc := 121) dX5_wordHere_121 ?_
              refine v_ret_n (pc := 122) dX5_wordHere_122 rfl ?_
              first | exact qe_ok (by unfold tWd; dsimp only; rw [if_neg (by omega)]) | exact qe_ok (by unfold tWd; dsimp only; rw [if_pos (by omega), show (6 : Int) = w + 1 by omega, fst_s (by omega), if_neg (fun q => by have q1 := q.2; omega)]; exact hf.symm)
            · refine v_iconst (pc := 18) dX5_wordHere_18 ?_
              refine v_ist3 (pc := 19) dX5_wordHere_19 rfl ?_
              refine v_iconst (pc := 20) dX5_wordHere_20 ?_
              refine v_ist4 (pc := 21) dX5_wordHere_21 rfl ?_
              try rw [wS_s (by omega)]
              exact ih _ (by omega) _ _ _ rfl (by first | (have hwl2 := wL_r (w + 1); omega) | (have hwl2 := wL_r 0; omega)) (by rw [if_pos ⟨rfl, by omega⟩]) (by first | rfl | (rw [fst_s (by omega), if_neg (fun q => by have q1 := q.2; omega)]; exact hf))
        · refine v_ald0 (pc := 94) dX5_wordHere_94 ?_
          refine v_getf KX5 14 (pc := 95) dX5_wordHere_95 (lw_all_tbl q2008) (Or.inl rfl) (Nat.le_of_ble_eq_true rfl) (mw_obj hM) rfl ?_
          refine v_ald0 (pc := 98) dX5_wordHere_98 ?_
          refine v_getf KX5 15 (pc := 99) dX5_wordHere_99 (lw_all_tbl q2009) (Or.inl rfl) (Nat.le_of_ble_eq_true rfl) (mw_obj hM) rfl ?_
          refine v_isub (pc := 102) dX5_wordHere_102 ?_
          refine v_ild3 (pc := 103) dX5_wordHere_103 ?_
          refine v_icmp_ne (pc := 104) (tgt := 109) dX5_wordHere_104 rfl (by omega) (by omega) (fun c104 => ?_) (fun c104 => ?_)
          · refine v_ild1 (pc := 109) dX5_wordHere_109 ?_
            refine v_ild3 (pc := 110) dX5_wordHere_110 ?_
            refine v_iconst (pc := 111) dX5_wordHere_111 ?_
            refine v_iadd (pc := 112) dX5_wordHere_112 ?_
            refine v_iadd (pc := 113) dX5_wordHere_113 ?_
            refine v_ist1 (pc := 114) dX5_wordHere_114 rfl ?_
            refine v_iinc2 (pc := 115) dX5_wordHere_115 rfl ?_
            refine v_goto (pc := 118) (tgt := 4) dX5_wordHere_118 rfl ?_
            refine v_ald0 (pc := 4) dX5_wordHere_4 ?_
            refine v_getf KX5 16 (pc := 5) dX5_wordHere_5 (lw_all_tbl q2010) (Or.inl rfl) (Nat.le_of_ble_eq_true rfl) (mw_obj hM) rfl ?_
            refine v_iconst (pc := 8) dX5_wordHere_8 ?_
            refine v_icmp_ne (pc := 9) (tgt := 121) dX5_wordHere_9 rfl (by omega) (by omega) (fun c9 => ?_) (fun c9 => ?_)
            · refine v_iconst (pc := 121) dX5_wordHere_121 ?_
              refine v_ret_n (pc := 122) dX5_wordHere_122 rfl ?_
              first | exact qe_ok (by unfold tWd; dsimp only; rw [if_neg (by omega)]) | exact qe_ok (by unfold tWd; dsimp only; rw [if_pos (by omega), show (6 : Int) = w + 1 by omega, fst_s (by omega), if_neg (fun q => by have q1 := q.2; omega)]; exact hf.symm)
            · refine v_ild2 (pc := 12) dX5_wordHere_12 ?_
              refine v_bipush (pc := 13) dX5_wordHere_13 ⟨by decide, by decide⟩ ?_
              refine v_icmp_ge (pc := 15) (tgt := 121) dX5_wordHere_15 rfl (by omega) (by omega) (fun c15 => ?_) (fun c15 => ?_)
              · refine v_iconst (pc := 121) dX5_wordHere_121 ?_
                refine v_ret_n (pc := 122) dX5_wordHere_122 rfl ?_
                first | exact qe_ok (by unfold tWd; dsimp only; rw [if_neg (by omega)]) | exact qe_ok (by unfold tWd; dsimp only; rw [if_pos (by omega), show (6 : Int) = w + 1 by omega, fst_s (by omega), if_neg (fun q => by have q1 := q.2; omega)]; exact hf.symm)
              · refine v_iconst (pc := 18) dX5_wordHere_18 ?_
                refine v_ist3 (pc := 19) dX5_wordHere_19 rfl ?_
                refine v_iconst (pc := 20) dX5_wordHere_20 ?_
                refine v_ist4 (pc := 21) dX5_wordHere_21 rfl ?_
                try rw [wS_s (by omega)]
                exact ih _ (by omega) _ _ _ rfl (by first | (have hwl2 := wL_r (w + 1); omega) | (have hwl2 := wL_r 0; omega)) (by rw [if_pos ⟨rfl, by omega⟩]) (by first | rfl | (rw [fst_s (by omega), if_neg (fun q => by have q1 := q.2; omega)]; exact hf))
          · refine v_ild2 (pc := 107) dX5_wordHere_107 ?_
            refine v_ret_n (pc := 108) dX5_wordHere_108 rfl ?_
            exact qe_ok (by unfold tWd; dsimp only; rw [if_pos (by omega)]; exact (fst_hit hf (by omega) ⟨by omega, by omega⟩).symm)
      · have hd : d ≠ wL w := fun q => c33 (hwt.1.mpr q)
        refine v_ild4 (pc := 36) dX5_wordHere_36 ?_
        refine v_if_eq (pc := 38) (tgt := 80) dX5_wordHere_38 rfl (by omega) (fun c38 => ?_) (fun c38 => ?_)
        · refine v_iconst (pc := 80) dX5_wordHere_80 ?_
          refine v_ist4 (pc := 81) dX5_wordHere_81 rfl ?_
          refine v_iinc3 (pc := 83) dX5_wordHere_83 rfl ?_
          refine v_goto (pc := 86) (tgt := 23) dX5_wordHere_86 rfl ?_
          exact ih _ (by omega) _ _ _ rfl (by omega) (by first | rw [if_pos ⟨by rw [tEq_s (by omega), if_pos (by omega)], by omega⟩] | rw [if_neg (fun q => by have q1 := q.1; rw [tEq_s (by omega)] at q1; split at q1 <;> omega)]) hf
        · refine v_ald0 (pc := 41) dX5_wordHere_41 ?_
          refine v_getf KX5 15 (pc := 42) dX5_wordHere_42 (lw_all_tbl q2009) (Or.inl rfl) (Nat.le_of_ble_eq_true rfl) (mw_obj hM) rfl ?_
          refine v_ild3 (pc := 45) dX5_wordHere_45 ?_
          refine v_iadd (pc := 46) dX5_wordHere_46 ?_
          refine v_ald0 (pc := 47) dX5_wordHere_47 ?_
          refine v_getf KX5 14 (pc := 48) dX5_wordHere_48 (lw_all_tbl q2008) (Or.inl rfl) (Nat.le_of_ble_eq_true rfl) (mw_obj hM) rfl ?_
          refine v_icmp_ge (pc := 51) (tgt := 80) dX5_wordHere_51 rfl (by omega) (by omega) (fun c51 => ?_) (fun c51 => ?_)
          · refine v_iconst (pc := 80) dX5_wordHere_80 ?_
            refine v_ist4 (pc := 81) dX5_wordHere_81 rfl ?_
            refine v_iinc3 (pc := 83) dX5_wordHere_83 rfl ?_
            refine v_goto (pc := 86) (tgt := 23) dX5_wordHere_86 rfl ?_
            exact ih _ (by omega) _ _ _ rfl (by omega) (by first | rw [if_pos ⟨by rw [tEq_s (by omega), if_pos (by omega)], by omega⟩] | rw [if_neg (fun q => by have q1 := q.1; rw [tEq_s (by omega)] at q1; split at q1 <;> omega)]) hf
          · refine v_ald0 (pc := 54) dX5_wordHere_54 ?_
            refine v_getf KX5 12 (pc := 55) dX5_wordHere_55 (lw_all_tbl q2006) (Or.inl rfl) (Nat.le_of_ble_eq_true rfl) (mw_obj hM) rfl ?_
            refine v_ald0 (pc := 58) dX5_wordHere_58 ?_
            refine v_getf KX5 15 (pc := 59) dX5_wordHere_59 (lw_all_tbl q2009) (Or.inl rfl) (Nat.le_of_ble_eq_true rfl) (mw_obj hM) rfl ?_
            refine v_ild3 (pc := 62) dX5_wordHere_62 ?_
            refine v_iadd (pc := 63) dX5_wordHere_63 ?_
            refine v_ldM_text hM (pc := 64) dX5_wordHere_64 (by omega) ?_
            refine v_ald0 (pc := 65) dX5_wordHere_65 ?_
            refine v_getf KX5 20 (pc := 66) dX5_wordHere_66 (lw_all_tbl q2014) (Or.inl rfl) (Nat.le_of_ble_eq_true rfl) (mw_obj hM) rfl ?_
            refine v_ild1 (pc := 69) dX5_wordHere_69 ?_
            refine v_ild3 (pc := 70) dX5_wordHere_70 ?_
            refine v_iadd (pc := 71) dX5_wordHere_71 ?_
            refine v_ldM_words hM (pc := 72) dX5_wordHere_72 (by omega) ?_
            refine v_icmp_ne (pc := 73) (tgt := 80) dX5_wordHere_73 rfl (by omega) (by omega) (fun c73 => ?_) (fun c73 => ?_)
            · refine v_iconst (pc := 80) dX5_wordHere_80 ?_
              refine v_ist4 (pc := 81) dX5_wordHere_81 rfl ?_
              refine v_iinc3 (pc := 83) dX5_wordHere_83 rfl ?_
              refine v_goto (pc := 86) (tgt := 23) dX5_wordHere_86 rfl ?_
              exact ih _ (by omega) _ _ _ rfl (by omega) (by first | rw [if_pos ⟨by rw [tEq_s (by omega), if_pos (by omega)], by omega⟩] | rw [if_neg (fun q => by have q1 := q.1; rw [tEq_s (by omega)] at q1; split at q1 <;> omega)]) hf
            · refine v_iconst (pc := 76) dX5_wordHere_76 ?_
              refine v_goto (pc := 77) (tgt := 81) dX5_wordHere_77 rfl ?_
              refine v_ist4 (pc := 81) dX5_wordHere_81 rfl ?_
              refine v_iinc3 (pc := 83) dX5_wordHere_83 rfl ?_
              refine v_goto (pc := 86) (tgt := 23) dX5_wordHere_86 rfl ?_
              exact ih _ (by omega) _ _ _ rfl (by omega) (by first | rw [if_pos ⟨by rw [tEq_s (by omega), if_pos (by omega)], by omega⟩] | rw [if_neg (fun q => by have q1 := q.1; rw [tEq_s (by omega)] at q1; split at q1 <;> omega)]) hf
  refine v_iconst (pc := 0) dX5_wordHere_0 ?_
  refine v_ist1 (pc := 1) dX5_wordHere_1 rfl ?_
  refine v_iconst (pc := 2) dX5_wordHere_2 ?_
  refine v_ist2 (pc := 3) dX5_wordHere_3 rfl ?_
  refine v_ald0 (pc := 4) dX5_wordHere_4 ?_
  refine v_getf KX5 16 (pc := 5) dX5_wordHere_5 (lw_all_tbl q2010) (Or.inl rfl) (Nat.le_of_ble_eq_true rfl) (mw_obj hM) rfl ?_
  refine v_iconst (pc := 8) dX5_wordHere_8 ?_
  refine v_icmp_ne (pc := 9) (tgt := 121) dX5_wordHere_9 rfl (by omega) (by omega) (fun c9 => ?_) (fun c9 => ?_)
  · refine v_iconst (pc := 121) dX5_wordHere_121 ?_
    refine v_ret_n (pc := 122) dX5_wordHere_122 rfl ?_
    first | exact qe_ok (by unfold tWd; dsimp only; rw [if_neg (by omega)]) | exact qe_ok (by unfold tWd; dsimp only; rw [if_pos (by omega), show (6 : Int) = w + 1 by omega, fst_s (by omega), if_neg (fun q => by have q1 := q.2; omega)]; exact hf.symm)
  · refine v_ild2 (pc := 12) dX5_wordHere_12 ?_
    refine v_bipush (pc := 13) dX5_wordHere_13 ⟨by decide, by decide⟩ ?_
    refine v_icmp_ge (pc := 15) (tgt := 121) dX5_wordHere_15 rfl (by omega) (by omega) (fun c15 => ?_) (fun c15 => ?_)
    · refine v_iconst (pc := 121) dX5_wordHere_121 ?_
      refine v_ret_n (pc := 122) dX5_wordHere_122 rfl ?_
      first | exact qe_ok (by unfold tWd; dsimp only; rw [if_neg (by omega)]) | exact qe_ok (by unfold tWd; dsimp only; rw [if_pos (by omega), show (6 : Int) = w + 1 by omega, fst_s (by omega), if_neg (fun q => by have q1 := q.2; omega)]; exact hf.symm)
    · refine v_iconst (pc := 18) dX5_wordHere_18 ?_
      refine v_ist3 (pc := 19) dX5_wordHere_19 rfl ?_
      refine v_iconst (pc := 20) dX5_wordHere_20 ?_
      refine v_ist4 (pc := 21) dX5_wordHere_21 rfl ?_
      try rw [wS_s (by omega)]
      exact L23 _ _ _ _ rfl (by first | (have hwl2 := wL_r (w + 1); omega) | (have hwl2 := wL_r 0; omega)) (by rw [if_pos ⟨rfl, by omega⟩]) (by first | rfl | (rw [fst_s (by omega), if_neg (fun q => by have q1 := q.2; omega)]; exact hf))
theorem sp_must1 {Γ : Cx} {t : Nat} {α : Nat → Nat} {h0 h : AH} {thrown : Int} {now : Int → Int} {aside : Int → Int} {tried : Int → Int} {undos : Int → Int} {undoMany : Int} {saved : Int → Int} {isSaved : Int → Int} {accounts : Int → Int} {way : Int} {leftOut : Int} {here : Int → Int} {text : Int → Int} {length : Int} {atp : Int} {frm : Int} {token : Int} {number : Int} {error : Int} {errorAt : Int} {commands : Int} {command : Int → Int} {out : Int → Int} {outLong : Int} {k : Int} (hM : MW t α h0 h thrown now aside tried undos undoMany saved isSaved accounts way leftOut here text length atp frm token number error errorAt commands command out outLong) : Sp Γ yX5_must mX5_must 1 0 0 [.ref (α 0), vi 1, vi k] h (Qv (fun h' => MW t α h0 h' thrown now aside tried undos undoMany saved isSaved accounts way leftOut here text length atp frm token number error errorAt commands command out outLong)) NoX := by
  refine sp_of okX5_must (cat_all rfl) (Nat.le_of_ble_eq_true rfl) rfl ?_
  refine v_ild1 (pc := 0) dX5_must_0 ?_
  refine v_if_ne1 (pc := 1) (tgt := 24) dX5_must_1 rfl ?_
  refine v_ret_v (pc := 24) dX5_must_24 rfl ?_
  exact qv_ok hM
theorem sp_must0 {Γ : Cx} {t : Nat} {α : Nat → Nat} {h0 h : AH} {thrown : Int} {now : Int → Int} {aside : Int → Int} {tried : Int → Int} {undos : Int → Int} {undoMany : Int} {saved : Int → Int} {isSaved : Int → Int} {accounts : Int → Int} {way : Int} {leftOut : Int} {here : Int → Int} {text : Int → Int} {length : Int} {atp : Int} {frm : Int} {token : Int} {number : Int} {error : Int} {errorAt : Int} {commands : Int} {command : Int → Int} {out : Int → Int} {outLong : Int} {k : Int} (hM : MW t α h0 h thrown now aside tried undos undoMany saved isSaved accounts way leftOut here text length atp frm token number error errorAt commands command out outLong) (he : error = 0) : Sp Γ yX5_must mX5_must 1 0 0 [.ref (α 0), vi 0, vi k] h (Qv (fun h' => MW t α h0 h' thrown now aside tried undos undoMany saved isSaved accounts way leftOut here text length atp frm token number k frm commands command out outLong)) NoX := by
  refine sp_of okX5_must (cat_all rfl) (Nat.le_of_ble_eq_true rfl) rfl ?_
  refine v_ild1 (pc := 0) dX5_must_0 ?_
  refine v_if_ne0 (pc := 1) (tgt := 24) dX5_must_1 rfl ?_
  refine v_ald0 (pc := 4) dX5_must_4 ?_
  refine v_getf KX5 18 (pc := 5) dX5_must_5 (lw_all_tbl q2012) (Or.inl rfl) (Nat.le_of_ble_eq_true rfl) (mw_obj hM) rfl ?_
  refine v_if_ne (pc := 8) (tgt := 24) dX5_must_8 rfl (by omega) (fun c8 => ?_) (fun c8 => ?_)
  · refine v_ret_v (pc := 24) dX5_must_24 rfl ?_
    first | exact qv_ok hM | exact absurd he (by omega)
  · refine v_ald0 (pc := 11) dX5_must_11 ?_
    refine v_ild2 (pc := 12) dX5_must_12 ?_
    refine v_ptM_error hM (pc := 13) dX5_must_13 (lw_all_tbl q2012) (fun h hM => ?_)
    refine v_ald0 (pc := 16) dX5_must_16 ?_
    refine v_ald0 (pc := 17) dX5_must_17 ?_
    refine v_getf KX5 15 (pc := 18) dX5_must_18 (lw_all_tbl q2009) (Or.inl rfl) (Nat.le_of_ble_eq_true rfl) (mw_obj hM) rfl ?_
    refine v_ptM_errorAt hM (pc := 21) dX5_must_21 (lw_all_tbl q2013) (fun h hM => ?_)
    refine v_ret_v (pc := 24) dX5_must_24 rfl ?_
    first | exact qv_ok hM | exact absurd he (by omega)
theorem sp_mustE {Γ : Cx} {t : Nat} {α : Nat → Nat} {h0 h : AH} {thrown : Int} {now : Int → Int} {aside : Int → Int} {tried : Int → Int} {undos : Int → Int} {undoMany : Int} {saved : Int → Int} {isSaved : Int → Int} {accounts : Int → Int} {way : Int} {leftOut : Int} {here : Int → Int} {text : Int → Int} {length : Int} {atp : Int} {frm : Int} {token : Int} {number : Int} {error : Int} {errorAt : Int} {commands : Int} {command : Int → Int} {out : Int → Int} {outLong : Int} {b k : Int} (hM : MW t α h0 h thrown now aside tried undos undoMany saved isSaved accounts way leftOut here text length atp frm token number error errorAt commands command out outLong) (hb : 0 ≤ b ∧ b ≤ 1) (he : 0 < error ∧ error ≤ 9) : Sp Γ yX5_must mX5_must 1 0 0 [.ref (α 0), vi b, vi k] h (Qv (fun h' => MW t α h0 h' thrown now aside tried undos undoMany saved isSaved accounts way leftOut here text length atp frm token number error errorAt commands command out outLong)) NoX := by
  refine sp_of okX5_must (cat_all rfl) (Nat.le_of_ble_eq_true rfl) rfl ?_
  refine v_ild1 (pc := 0) dX5_must_0 ?_
  refine v_if_ne (pc := 1) (tgt := 24) dX5_must_1 rfl (by omega) (fun c1 => ?_) (fun c1 => ?_)
  · refine v_ret_v (pc := 24) dX5_must_24 rfl ?_
    first | exact qv_ok hM | (exfalso; omega)
  · refine v_ald0 (pc := 4) dX5_must_4 ?_
    refine v_getf KX5 18 (pc := 5) dX5_must_5 (lw_all_tbl q2012) (Or.inl rfl) (Nat.le_of_ble_eq_true rfl) (mw_obj hM) rfl ?_
    refine v_if_ne (pc := 8) (tgt := 24) dX5_must_8 rfl (by omega) (fun c8 => ?_) (fun c8 => ?_)
    · refine v_ret_v (pc := 24) dX5_must_24 rfl ?_
      first | exact qv_ok hM | (exfalso; omega)
    · refine v_ald0 (pc := 11) dX5_must_11 ?_
      refine v_ild2 (pc := 12) dX5_must_12 ?_
      refine v_ptM_error hM (pc := 13) dX5_must_13 (lw_all_tbl q2012) (fun h hM => ?_)
      refine v_ald0 (pc := 16) dX5_must_16 ?_
      refine v_ald0 (pc := 17) dX5_must_17 ?_
      refine v_getf KX5 15 (pc := 18) dX5_must_18 (lw_all_tbl q2009) (Or.inl rfl) (Nat.le_of_ble_eq_true rfl) (mw_obj hM) rfl ?_
      refine v_ptM_errorAt hM (pc := 21) dX5_must_21 (lw_all_tbl q2013) (fun h hM => ?_)
      refine v_ret_v (pc := 24) dX5_must_24 rfl ?_
      first | exact qv_ok hM | (exfalso; omega)
theorem sp_reads0 {Γ : Cx} {t : Nat} {α : Nat → Nat} {h0 h : AH} {thrown : Int} {now : Int → Int} {aside : Int → Int} {tried : Int → Int} {undos : Int → Int} {undoMany : Int} {saved : Int → Int} {isSaved : Int → Int} {accounts : Int → Int} {way : Int} {leftOut : Int} {here : Int → Int} {text : Int → Int} {length : Int} {error : Int} {errorAt : Int} {commands : Int} {command : Int → Int} {out : Int → Int} {outLong : Int} {s : TS} {lo hi : Int} (hM : MW t α h0 h thrown now aside tried undos undoMany saved isSaved accounts way leftOut here text length s.1 s.2.1 s.2.2.1 s.2.2.2 error errorAt commands command out outLong) (hat : 0 ≤ s.2.1 ∧ s.2.1 ≤ s.1 ∧ s.1 ≤ length) (hl : 0 ≤ length ∧ length ≤ 700) (htk : 0 ≤ s.2.2.1 ∧ s.2.2.1 ≤ 4) (hn : 0 ≤ s.2.2.2 ∧ s.2.2.2 ≤ 110000) (he : error = 0) (hlo : 0 ≤ lo ∧ lo ≤ 1000 ∧ 0 ≤ hi ∧ hi ≤ 1000) : Sp Γ yX5_reads mX5_reads 4 0 0 [.ref (α 0), vi lo, vi hi] h (Qi (fun x h' => (¬ tBad s lo hi ∧ x = s.2.2.2 ∧ MW t α h0 h' thrown now aside tried undos undoMany saved isSaved accounts way leftOut here text length ((tGo text length s.1).1) ((tGo text length s.1).2.1) ((tGo text length s.1).2.2.1) ((tGo text length s.1).2.2.2) error errorAt commands command out outLong) ∨ (tBad s lo hi ∧ x = lo ∧ MW t α h0 h' thrown now aside tried undos undoMany saved isSaved accounts way leftOut here text length s.1 s.2.1 s.2.2.1 s.2.2.2 ((tBadC s)) s.2.1 commands command out outLong))) NoX := by
  refine sp_of okX5_reads (cat_all rfl) (Nat.le_of_ble_eq_true rfl) rfl ?_
  refine v_ald0 (pc := 0) dX5_reads_0 ?_
  refine v_ald0 (pc := 1) dX5_reads_1 ?_
  refine v_getf KX5 16 (pc := 2) dX5_reads_2 (lw_all_tbl q2010) (Or.inl rfl) (Nat.le_of_ble_eq_true rfl) (mw_obj hM) rfl ?_
  refine v_iconst (pc := 5) dX5_reads_5 ?_
  refine v_icmp_ne (pc := 6) (tgt := 13) dX5_reads_6 rfl (by omega) (by omega) (fun c6 => ?_) (fun c6 => ?_)
  · refine v_iconst (pc := 13) dX5_reads_13 ?_
    refine v_iconst (pc := 14) dX5_reads_14 ?_
    refine v_cv0 (pc := 15) (v_runV2 okX5_must rfl (sp_must0 hM (by omega)) dX5_reads_15 (lw_all_tbl q2474) (lw_all_tbl q2476) (lw_all_tbl qs105) rfl (mw_obj hM) (Nat.le_of_ble_eq_true rfl) ⟨Nat.zero_le _, Nat.zero_le _⟩ (Nat.le_of_ble_eq_true rfl)) (fun h hM => ?_)
    refine v_ald0 (pc := 18) dX5_reads_18 ?_
    refine v_ald0 (pc := 19) dX5_reads_19 ?_
    refine v_getf KX5 18 (pc := 20) dX5_reads_20 (lw_all_tbl q2012) (Or.inl rfl) (Nat.le_of_ble_eq_true rfl) (mw_obj hM) rfl ?_
    refine v_if_gt (pc := 23) (tgt := 38) dX5_reads_23 rfl (by omega) (fun c23 => ?_) (fun c23 => absurd c23 (by omega))
    refine v_iconst (pc := 38) dX5_reads_38 ?_
    refine v_goto (pc := 39) (tgt := 43) dX5_reads_39 rfl ?_
    refine v_iconst (pc := 43) dX5_reads_43 ?_
    refine v_cv0 (pc := 44) (v_runV2 okX5_must rfl (sp_mustE hM (by omega) (by omega)) dX5_reads_44 (lw_all_tbl q2474) (lw_all_tbl q2476) (lw_all_tbl qs105) rfl (mw_obj hM) (Nat.le_of_ble_eq_true rfl) ⟨Nat.zero_le _, Nat.zero_le _⟩ (Nat.le_of_ble_eq_true rfl)) (fun h hM => ?_)
    refine v_ald0 (pc := 47) dX5_reads_47 ?_
    refine v_getf KX5 18 (pc := 48) dX5_reads_48 (lw_all_tbl q2012) (Or.inl rfl) (Nat.le_of_ble_eq_true rfl) (mw_obj hM) rfl ?_
    refine v_if_le (pc := 51) (tgt := 56) dX5_reads_51 rfl (by omega) (fun c51 => absurd c51 (by omega)) (fun c51 => ?_)
    refine v_ild1 (pc := 54) dX5_reads_54 ?_
    refine v_ret_n (pc := 55) dX5_reads_55 rfl ?_
    first | (exfalso; omega) | exact qi_ok (Or.inr ⟨(fun q => by omega), rfl, mw_e_error hM (by unfold tBadC; first | rw [if_pos (by omega)] | rw [if_neg (by omega)])⟩)
  · refine v_iconst (pc := 9) dX5_reads_9 ?_
    refine v_goto (pc := 10) (tgt := 14) dX5_reads_10 rfl ?_
    refine v_iconst (pc := 14) dX5_reads_14 ?_
    refine v_cv0 (pc := 15) (v_runV2 okX5_must rfl (sp_must1 hM) dX5_reads_15 (lw_all_tbl q2474) (lw_all_tbl q2476) (lw_all_tbl qs105) rfl (mw_obj hM) (Nat.le_of_ble_eq_true rfl) ⟨Nat.zero_le _, Nat.zero_le _⟩ (Nat.le_of_ble_eq_true rfl)) (fun h hM => ?_)
    refine v_ald0 (pc := 18) dX5_reads_18 ?_
    refine v_ald0 (pc := 19) dX5_reads_19 ?_
    refine v_getf KX5 18 (pc := 20) dX5_reads_20 (lw_all_tbl q2012) (Or.inl rfl) (Nat.le_of_ble_eq_true rfl) (mw_obj hM) rfl ?_
    refine v_if_gt (pc := 23) (tgt := 38) dX5_reads_23 rfl (by omega) (fun c23 => absurd c23 (by omega)) (fun c23 => ?_)
    refine v_ald0 (pc := 26) dX5_reads_26 ?_
    refine v_getf KX5 17 (pc := 27) dX5_reads_27 (lw_all_tbl q2011) (Or.inl rfl) (Nat.le_of_ble_eq_true rfl) (mw_obj hM) rfl ?_
    refine v_ild1 (pc := 30) dX5_reads_30 ?_
    refine v_ild2 (pc := 31) dX5_reads_31 ?_
    refine v_cb0 (pc := 32) (v_runS3 okX5_in rfl (sp_X5_in (by omega) (by omega) (by omega)) dX5_reads_32 (lw_all_tbl q2079) (lw_all_tbl q2080) (Nat.le_of_ble_eq_true rfl) ⟨Nat.zero_le _, Nat.zero_le _⟩ (Nat.le_of_ble_eq_true rfl)) (fun c32 => ?_) (fun c32 => ?_)
    · refine v_if_eq1 (pc := 35) (tgt := 42) dX5_reads_35 rfl ?_
      refine v_iconst (pc := 38) dX5_reads_38 ?_
      refine v_goto (pc := 39) (tgt := 43) dX5_reads_39 rfl ?_
      refine v_iconst (pc := 43) dX5_reads_43 ?_
      refine v_cv0 (pc := 44) (v_runV2 okX5_must rfl (sp_must1 hM) dX5_reads_44 (lw_all_tbl q2474) (lw_all_tbl q2476) (lw_all_tbl qs105) rfl (mw_obj hM) (Nat.le_of_ble_eq_true rfl) ⟨Nat.zero_le _, Nat.zero_le _⟩ (Nat.le_of_ble_eq_true rfl)) (fun h hM => ?_)
      refine v_ald0 (pc := 47) dX5_reads_47 ?_
      refine v_getf KX5 18 (pc := 48) dX5_reads_48 (lw_all_tbl q2012) (Or.inl rfl) (Nat.le_of_ble_eq_true rfl) (mw_obj hM) rfl ?_
      refine v_if_le (pc := 51) (tgt := 56) dX5_reads_51 rfl (by omega) (fun c51 => ?_) (fun c51 => absurd c51 (by omega))
      refine v_ald0 (pc := 56) dX5_reads_56 ?_
      refine v_getf KX5 17 (pc := 57) dX5_reads_57 (lw_all_tbl q2011) (Or.inl rfl) (Nat.le_of_ble_eq_true rfl) (mw_obj hM) rfl ?_
      refine v_ist3 (pc := 60) dX5_reads_60 rfl ?_
      refine v_ald0 (pc := 61) dX5_reads_61 ?_
      refine v_cv0 (pc := 62) (v_runV0 okX5_goesOn rfl (sp_X5_goesOn hM (by omega) (by omega)) dX5_reads_62 (lw_all_tbl q2450) (lw_all_tbl q2452) (lw_all_tbl qs99) rfl (mw_obj hM) (Nat.le_of_ble_eq_true rfl) ⟨Nat.zero_le _, Nat.zero_le _⟩ (Nat.le_of_ble_eq_true rfl)) (fun h hM => ?_)
      refine v_ild3 (pc := 65) dX5_reads_65 ?_
      refine v_ret_n (pc := 66) dX5_reads_66 rfl ?_
      first | (exfalso; omega) | exact qi_ok (Or.inl ⟨fun q => q (by omega), rfl, hM⟩)
    · refine v_if_eq0 (pc := 35) (tgt := 42) dX5_reads_35 rfl ?_
      refine v_iconst (pc := 42) dX5_reads_42 ?_
      refine v_iconst (pc := 43) dX5_reads_43 ?_
      refine v_cv0 (pc := 44) (v_runV2 okX5_must rfl (sp_must0 hM (by omega)) dX5_reads_44 (lw_all_tbl q2474) (lw_all_tbl q2476) (lw_all_tbl qs105) rfl (mw_obj hM) (Nat.le_of_ble_eq_true rfl) ⟨Nat.zero_le _, Nat.zero_le _⟩ (Nat.le_of_ble_eq_true rfl)) (fun h hM => ?_)
      refine v_ald0 (pc := 47) dX5_reads_47 ?_
      refine v_getf KX5 18 (pc := 48) dX5_reads_48 (lw_all_tbl q2012) (Or.inl rfl) (Nat.le_of_ble_eq_true rfl) (mw_obj hM) rfl ?_
      refine v_if_le (pc := 51) (tgt := 56) dX5_reads_51 rfl (by omega) (fun c51 => absurd c51 (by omega)) (fun c51 => ?_)
      refine v_ild1 (pc := 54) dX5_reads_54 ?_
      refine v_ret_n (pc := 55) dX5_reads_55 rfl ?_
      first | (exfalso; omega) | exact qi_ok (Or.inr ⟨(fun q => by omega), rfl, mw_e_error hM (by unfold tBadC; first | rw [if_pos (by omega)] | rw [if_neg (by omega)])⟩)
theorem sp_readsE {Γ : Cx} {t : Nat} {α : Nat → Nat} {h0 h : AH} {thrown : Int} {now : Int → Int} {aside : Int → Int} {tried : Int → Int} {undos : Int → Int} {undoMany : Int} {saved : Int → Int} {isSaved : Int → Int} {accounts : Int → Int} {way : Int} {leftOut : Int} {here : Int → Int} {text : Int → Int} {length : Int} {error : Int} {errorAt : Int} {commands : Int} {command : Int → Int} {out : Int → Int} {outLong : Int} {s : TS} {lo hi : Int} (hM : MW t α h0 h thrown now aside tried undos undoMany saved isSaved accounts way leftOut here text length s.1 s.2.1 s.2.2.1 s.2.2.2 error errorAt commands command out outLong) (hat : 0 ≤ s.2.1 ∧ s.2.1 ≤ s.1 ∧ s.1 ≤ length) (hl : 0 ≤ length ∧ length ≤ 700) (htk : 0 ≤ s.2.2.1 ∧ s.2.2.1 ≤ 4) (hn : 0 ≤ s.2.2.2 ∧ s.2.2.2 ≤ 110000) (he : 0 < error ∧ error ≤ 9) (hlo : 0 ≤ lo ∧ lo ≤ 1000 ∧ 0 ≤ hi ∧ hi ≤ 1000) : Sp Γ yX5_reads mX5_reads 4 0 0 [.ref (α 0), vi lo, vi hi] h (Qi (fun x h' => x = lo ∧ MW t α h0 h' thrown now aside tried undos undoMany saved isSaved accounts way leftOut here text length s.1 s.2.1 s.2.2.1 s.2.2.2 error errorAt commands command out outLong)) NoX := by
  refine sp_of okX5_reads (cat_all rfl) (Nat.le_of_ble_eq_true rfl) rfl ?_
  refine v_ald0 (pc := 0) dX5_reads_0 ?_
  refine v_ald0 (pc := 1) dX5_reads_1 ?_
  refine v_getf KX5 16 (pc := 2) dX5_reads_2 (lw_all_tbl q2010) (Or.inl rfl) (Nat.le_of_ble_eq_true rfl) (mw_obj hM) rfl ?_
  refine v_iconst (pc := 5) dX5_reads_5 ?_
  refine v_icmp_ne (pc := 6) (tgt := 13) dX5_reads_6 rfl (by omega) (by omega) (fun c6 => ?_) (fun c6 => ?_)
  · refine v_iconst (pc := 13) dX5_reads_13 ?_
    refine v_iconst (pc := 14) dX5_reads_14 ?_
    refine v_cv0 (pc := 15) (v_runV2 okX5_must rfl (sp_mustE hM (by omega) (by omega)) dX5_reads_15 (lw_all_tbl q2474) (lw_all_tbl q2476) (lw_all_tbl qs105) rfl (mw_obj hM) (Nat.le_of_ble_eq_true rfl) ⟨Nat.zero_le _, Nat.zero_le _⟩ (Nat.le_of_ble_eq_true rfl)) (fun h hM => ?_)
    refine v_ald0 (pc := 18) dX5_reads_18 ?_
    refine v_ald0 (pc := 19) dX5_reads_19 ?_
    refine v_getf KX5 18 (pc := 20) dX5_reads_20 (lw_all_tbl q2012) (Or.inl rfl) (Nat.le_of_ble_eq_true rfl) (mw_obj hM) rfl ?_
    refine v_if_gt (pc := 23) (tgt := 38) dX5_reads_23 rfl (by omega) (fun c23 => ?_) (fun c23 => absurd c23 (by omega))
    refine v_iconst (pc := 38) dX5_reads_38 ?_
    refine v_goto (pc := 39) (tgt := 43) dX5_reads_39 rfl ?_
    refine v_iconst (pc := 43) dX5_reads_43 ?_
    refine v_cv0 (pc := 44) (v_runV2 okX5_must rfl (sp_mustE hM (by omega) (by omega)) dX5_reads_44 (lw_all_tbl q2474) (lw_all_tbl q2476) (lw_all_tbl qs105) rfl (mw_obj hM) (Nat.le_of_ble_eq_true rfl) ⟨Nat.zero_le _, Nat.zero_le _⟩ (Nat.le_of_ble_eq_true rfl)) (fun h hM => ?_)
    refine v_ald0 (pc := 47) dX5_reads_47 ?_
    refine v_getf KX5 18 (pc := 48) dX5_reads_48 (lw_all_tbl q2012) (Or.inl rfl) (Nat.le_of_ble_eq_true rfl) (mw_obj hM) rfl ?_
    refine v_if_le (pc := 51) (tgt := 56) dX5_reads_51 rfl (by omega) (fun c51 => absurd c51 (by omega)) (fun c51 => ?_)
    refine v_ild1 (pc := 54) dX5_reads_54 ?_
    refine v_ret_n (pc := 55) dX5_reads_55 rfl ?_
    first | (exfalso; omega) | exact qi_ok ⟨rfl, hM⟩
  · refine v_iconst (pc := 9) dX5_reads_9 ?_
    refine v_goto (pc := 10) (tgt := 14) dX5_reads_10 rfl ?_
    refine v_iconst (pc := 14) dX5_reads_14 ?_
    refine v_cv0 (pc := 15) (v_runV2 okX5_must rfl (sp_mustE hM (by omega) (by omega)) dX5_reads_15 (lw_all_tbl q2474) (lw_all_tbl q2476) (lw_all_tbl qs105) rfl (mw_obj hM) (Nat.le_of_ble_eq_true rfl) ⟨Nat.zero_le _, Nat.zero_le _⟩ (Nat.le_of_ble_eq_true rfl)) (fun h hM => ?_)
    refine v_ald0 (pc := 18) dX5_reads_18 ?_
    refine v_ald0 (pc := 19) dX5_reads_19 ?_
    refine v_getf KX5 18 (pc := 20) dX5_reads_20 (lw_all_tbl q2012) (Or.inl rfl) (Nat.le_of_ble_eq_true rfl) (mw_obj hM) rfl ?_
    refine v_if_gt (pc := 23) (tgt := 38) dX5_reads_23 rfl (by omega) (fun c23 => ?_) (fun c23 => absurd c23 (by omega))
    refine v_iconst (pc := 38) dX5_reads_38 ?_
    refine v_goto (pc := 39) (tgt := 43) dX5_reads_39 rfl ?_
    refine v_iconst (pc := 43) dX5_reads_43 ?_
    refine v_cv0 (pc := 44) (v_runV2 okX5_must rfl (sp_mustE hM (by omega) (by omega)) dX5_reads_44 (lw_all_tbl q2474) (lw_all_tbl q2476) (lw_all_tbl qs105) rfl (mw_obj hM) (Nat.le_of_ble_eq_true rfl) ⟨Nat.zero_le _, Nat.zero_le _⟩ (Nat.le_of_ble_eq_true rfl)) (fun h hM => ?_)
    refine v_ald0 (pc := 47) dX5_reads_47 ?_
    refine v_getf KX5 18 (pc := 48) dX5_reads_48 (lw_all_tbl q2012) (Or.inl rfl) (Nat.le_of_ble_eq_true rfl) (mw_obj hM) rfl ?_
    refine v_if_le (pc := 51) (tgt := 56) dX5_reads_51 rfl (by omega) (fun c51 => absurd c51 (by omega)) (fun c51 => ?_)
    refine v_ild1 (pc := 54) dX5_reads_54 ?_
    refine v_ret_n (pc := 55) dX5_reads_55 rfl ?_
    first | (exfalso; omega) | exact qi_ok ⟨rfl, hM⟩
