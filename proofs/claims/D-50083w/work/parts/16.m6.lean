/-! FlashZonesModel: walks, 6 (printed by gen) -/
set_option maxRecDepth 100000
theorem sp_X5_keeps {Γ : Cx} {t : Nat} {α : Nat → Nat} {h0 h : AH} {thrown : Int} {now : Int → Int} {aside : Int → Int} {tried : Int → Int} {undos : Int → Int} {undoMany : Int} {saved : Int → Int} {isSaved : Int → Int} {accounts : Int → Int} {way : Int} {leftOut : Int} {here : Int → Int} {text : Int → Int} {length : Int} {atp : Int} {frm : Int} {token : Int} {number : Int} {error : Int} {errorAt : Int} {commands : Int} {command : Int → Int} {out : Int → Int} {outLong : Int}  (hM : MW t α h0 h thrown now aside tried undos undoMany saved isSaved accounts way leftOut here text length atp frm token number error errorAt commands command out outLong) (hum : 0 ≤ undoMany ∧ undoMany ≤ 8) : Sp Γ yX5_keeps mX5_keeps 2 0 0 [.ref (α 0)] h (Qv (fun h' => MW t α h0 h' thrown now aside tried ((kUndos now undos undoMany)) ((kMany undoMany)) saved isSaved accounts way leftOut here text length atp frm token number error errorAt commands command out outLong)) NoX := by
  refine sp_of okX5_keeps (cat_all rfl) (Nat.le_of_ble_eq_true rfl) rfl ?_
  have L11 : ∀ (n9 : Nat) (h1 : AH) (un1 : Int → Int) (k : Int), (17234 - k).toNat = n9 → (MW t α h0 h1 thrown now aside tried un1 undoMany saved isSaved accounts way leftOut here text length atp frm token number error errorAt commands command out outLong) → (0 ≤ k ∧ k ≤ 17234) → (∀ i, un1 i = if 0 ≤ i ∧ i < k then undos (i + 2462) else undos i) → (undoMany = 8) → V Γ mX5_keeps 2 0 0 (Qv (fun h' => MW t α h0 h' thrown now aside tried ((kUndos now undos undoMany)) ((kMany undoMany)) saved isSaved accounts way leftOut here text length atp frm token number error errorAt commands command out outLong)) (NoX) h1 0 0 11 [some (.ref (α 0)), some (vi k)] [] := by
    intro n9
    induction n9 using Nat.strongRecOn with
    | _ n9 ih =>
      intro h1 un1 k hn9 hM hk he c4
      refine v_ild1 (pc := 11) dX5_keeps_11 ?_
      refine v_sipush (pc := 12) dX5_keeps_12 ⟨by decide, by decide⟩ ?_
      refine v_icmp_ge (pc := 15) (tgt := 40) dX5_keeps_15 rfl (by omega) (by omega) (fun c15 => ?_) (fun c15 => ?_)
      · have es : un1 = kShift undos := funext fun i => by rw [he i, show k = 17234 by omega]; rfl
        have e1 : kUndos now undos undoMany = cpy now 0 un1 (2462 * (undoMany - 1)) := by rw [kUndos, if_pos c4, ← es, show undoMany - 1 = 7 by omega]
        have e2 : kMany undoMany = undoMany - 1 + 1 := by rw [kMany, if_pos c4]; omega
        refine v_ald0 (pc := 40) dX5_keeps_40 ?_
        refine v_dup (pc := 41) dX5_keeps_41 rfl ?_
        refine v_getf KX5 5 (pc := 42) dX5_keeps_42 (lw_all_tbl q1999) (Or.inl rfl) (Nat.le_of_ble_eq_true rfl) (mw_obj hM) rfl ?_
        refine v_iconst (pc := 45) dX5_keeps_45 ?_
        refine v_isub (pc := 46) dX5_keeps_46 ?_
        refine v_ptM_undoMany hM (pc := 47) dX5_keeps_47 (lw_all_tbl q1999) (fun h hM => ?_)
        refine v_ald0 (pc := 50) dX5_keeps_50 ?_
        refine v_getf KX5 1 (pc := 51) dX5_keeps_51 (lw_all_tbl q1995) (Or.inl rfl) (Nat.le_of_ble_eq_true rfl) (mw_obj hM) rfl ?_
        refine v_iconst (pc := 54) dX5_keeps_54 ?_
        refine v_ald0 (pc := 55) dX5_keeps_55 ?_
        refine v_getf KX5 4 (pc := 56) dX5_keeps_56 (lw_all_tbl q1998) (Or.inl rfl) (Nat.le_of_ble_eq_true rfl) (mw_obj hM) rfl ?_
        refine v_sipush (pc := 59) dX5_keeps_59 ⟨by decide, by decide⟩ ?_
        refine v_ald0 (pc := 62) dX5_keeps_62 ?_
        refine v_getf KX5 5 (pc := 63) dX5_keeps_63 (lw_all_tbl q1999) (Or.inl rfl) (Nat.le_of_ble_eq_true rfl) (mw_obj hM) rfl ?_
        refine v_imul (pc := 66) dX5_keeps_66 ?_
        refine v_cv0 (pc := 67) (v_runS4 okX5_copies rfl (sp_cp_now_undos hM (by omega)) dX5_keeps_67 (lw_all_tbl q2253) (lw_all_tbl q2254) (Nat.le_of_ble_eq_true rfl) ⟨Nat.zero_le _, Nat.zero_le _⟩ (Nat.le_of_ble_eq_true rfl)) (fun h hM => ?_)
        refine v_ald0 (pc := 70) dX5_keeps_70 ?_
        refine v_dup (pc := 71) dX5_keeps_71 rfl ?_
        refine v_getf KX5 5 (pc := 72) dX5_keeps_72 (lw_all_tbl q1999) (Or.inl rfl) (Nat.le_of_ble_eq_true rfl) (mw_obj hM) rfl ?_
        refine v_iconst (pc := 75) dX5_keeps_75 ?_
        refine v_iadd (pc := 76) dX5_keeps_76 ?_
        refine v_ptM_undoMany hM (pc := 77) dX5_keeps_77 (lw_all_tbl q1999) (fun h hM => ?_)
        refine v_ret_v (pc := 80) dX5_keeps_80 rfl ?_
        exact qv_ok (by rw [e1, e2]; exact hM)
      · refine v_ald0 (pc := 18) dX5_keeps_18 ?_
        refine v_getf KX5 4 (pc := 19) dX5_keeps_19 (lw_all_tbl q1998) (Or.inl rfl) (Nat.le_of_ble_eq_true rfl) (mw_obj hM) rfl ?_
        refine v_ild1 (pc := 22) dX5_keeps_22 ?_
        refine v_ald0 (pc := 23) dX5_keeps_23 ?_
        refine v_getf KX5 4 (pc := 24) dX5_keeps_24 (lw_all_tbl q1998) (Or.inl rfl) (Nat.le_of_ble_eq_true rfl) (mw_obj hM) rfl ?_
        refine v_ild1 (pc := 27) dX5_keeps_27 ?_
        refine v_sipush (pc := 28) dX5_keeps_28 ⟨by decide, by decide⟩ ?_
        refine v_iadd (pc := 31) dX5_keeps_31 ?_
        refine v_ldM_undos hM (pc := 32) dX5_keeps_32 (by omega) ?_
        refine v_stM_undos hM (pc := 33) dX5_keeps_33 (by omega) (fun h hM => ?_)
        refine v_iinc1 (pc := 34) dX5_keeps_34 rfl ?_
        refine v_goto (pc := 37) (tgt := 11) dX5_keeps_37 rfl ?_
        exact ih _ (by omega) _ _ _ rfl hM (by omega) (fun i => if e : i = k then (by rw [e, upi_s, if_pos (by omega), he, if_neg (by omega)]) else (by rw [upi_n e, he i]; exact ite_iff (by omega) _ _)) c4
  refine v_ald0 (pc := 0) dX5_keeps_0 ?_
  refine v_getf KX5 5 (pc := 1) dX5_keeps_1 (lw_all_tbl q1999) (Or.inl rfl) (Nat.le_of_ble_eq_true rfl) (mw_obj hM) rfl ?_
  refine v_bipush (pc := 4) dX5_keeps_4 ⟨by decide, by decide⟩ ?_
  refine v_icmp_ne (pc := 6) (tgt := 50) dX5_keeps_6 rfl (by omega) (by omega) (fun c6 => ?_) (fun c6 => ?_)
  · have e1 : kUndos now undos undoMany = cpy now 0 undos (2462 * undoMany) := by rw [kUndos, if_neg (by omega)]
    have e2 : kMany undoMany = undoMany + 1 := by rw [kMany, if_neg (by omega)]
    refine v_ald0 (pc := 50) dX5_keeps_50 ?_
    refine v_getf KX5 1 (pc := 51) dX5_keeps_51 (lw_all_tbl q1995) (Or.inl rfl) (Nat.le_of_ble_eq_true rfl) (mw_obj hM) rfl ?_
    refine v_iconst (pc := 54) dX5_keeps_54 ?_
    refine v_ald0 (pc := 55) dX5_keeps_55 ?_
    refine v_getf KX5 4 (pc := 56) dX5_keeps_56 (lw_all_tbl q1998) (Or.inl rfl) (Nat.le_of_ble_eq_true rfl) (mw_obj hM) rfl ?_
    refine v_sipush (pc := 59) dX5_keeps_59 ⟨by decide, by decide⟩ ?_
    refine v_ald0 (pc := 62) dX5_keeps_62 ?_
    refine v_getf KX5 5 (pc := 63) dX5_keeps_63 (lw_all_tbl q1999) (Or.inl rfl) (Nat.le_of_ble_eq_true rfl) (mw_obj hM) rfl ?_
    refine v_imul (pc := 66) dX5_keeps_66 ?_
    refine v_cv0 (pc := 67) (v_runS4 okX5_copies rfl (sp_cp_now_undos hM (by omega)) dX5_keeps_67 (lw_all_tbl q2253) (lw_all_tbl q2254) (Nat.le_of_ble_eq_true rfl) ⟨Nat.zero_le _, Nat.zero_le _⟩ (Nat.le_of_ble_eq_true rfl)) (fun h hM => ?_)
    refine v_ald0 (pc := 70) dX5_keeps_70 ?_
    refine v_dup (pc := 71) dX5_keeps_71 rfl ?_
    refine v_getf KX5 5 (pc := 72) dX5_keeps_72 (lw_all_tbl q1999) (Or.inl rfl) (Nat.le_of_ble_eq_true rfl) (mw_obj hM) rfl ?_
    refine v_iconst (pc := 75) dX5_keeps_75 ?_
    refine v_iadd (pc := 76) dX5_keeps_76 ?_
    refine v_ptM_undoMany hM (pc := 77) dX5_keeps_77 (lw_all_tbl q1999) (fun h hM => ?_)
    refine v_ret_v (pc := 80) dX5_keeps_80 rfl ?_
    exact qv_ok (by rw [e1, e2]; exact hM)
  · refine v_iconst (pc := 9) dX5_keeps_9 ?_
    refine v_ist1 (pc := 10) dX5_keeps_10 rfl ?_
    exact L11 _ _ _ _ rfl hM (by omega) (fun i => by rw [if_neg (by omega)]) c6
theorem sp_X5_does {Γ : Cx} {t : Nat} {α : Nat → Nat} {h0 h : AH} {thrown : Int} {now : Int → Int} {aside : Int → Int} {tried : Int → Int} {undos : Int → Int} {undoMany : Int} {saved : Int → Int} {isSaved : Int → Int} {accounts : Int → Int} {way : Int} {leftOut : Int} {here : Int → Int} {text : Int → Int} {length : Int} {atp : Int} {frm : Int} {token : Int} {number : Int} {error : Int} {errorAt : Int} {commands : Int} {command : Int → Int} {out : Int → Int} {outLong : Int} {act one other third : Int} (hM : MW t α h0 h thrown now aside tried undos undoMany saved isSaved accounts way leftOut here text length atp frm token number error errorAt commands command out outLong) (hum : 0 ≤ undoMany ∧ undoMany ≤ 8) (h11 : 0 ≤ now 11 ∧ now 11 < 150) : Sp Γ yX5_does mX5_does 3 0 0 [.ref (α 0), vi act, vi one, vi other, vi third] h (Qi (fun x h' => x = 0 ∧ MW t α h0 h' thrown ((mHist now act one other third)) aside tried ((kUndos now undos undoMany)) ((kMany undoMany)) saved isSaved ((upi accounts 0 (accounts 0 + 1))) way leftOut here text length atp frm token number error errorAt commands command out outLong)) NoX := by
  refine sp_of okX5_does (cat_all rfl) (Nat.le_of_ble_eq_true rfl) rfl ?_
  refine v_ald0 (pc := 0) dX5_does_0 ?_
  refine v_cv0 (pc := 1) (v_runV0 okX5_keeps rfl (sp_X5_keeps hM (by omega)) dX5_does_1 (lw_all_tbl q2367) (lw_all_tbl q2369) (lw_all_tbl qs93) rfl (mw_obj hM) (Nat.le_of_ble_eq_true rfl) ⟨Nat.zero_le _, Nat.zero_le _⟩ (Nat.le_of_ble_eq_true rfl)) (fun h hM => ?_)
  refine v_ald0 (pc := 4) dX5_does_4 ?_
  refine v_getf KX5 8 (pc := 5) dX5_does_5 (lw_all_tbl q2002) (Or.inl rfl) (Nat.le_of_ble_eq_true rfl) (mw_obj hM) rfl ?_
  refine v_iconst (pc := 8) dX5_does_8 ?_
  refine v_dup2 (pc := 9) dX5_does_9 rfl rfl ?_
  refine v_ldM_accounts hM (pc := 10) dX5_does_10 (by omega) ?_
  refine v_iconst (pc := 11) dX5_does_11 ?_
  refine v_iadd (pc := 12) dX5_does_12 ?_
  refine v_stM_accounts hM (pc := 13) dX5_does_13 (by omega) (fun h hM => ?_)
  refine v_sipush (pc := 14) dX5_does_14 ⟨by decide, by decide⟩ ?_
  refine v_iconst (pc := 17) dX5_does_17 ?_
  refine v_ald0 (pc := 18) dX5_does_18 ?_
  refine v_getf KX5 1 (pc := 19) dX5_does_19 (lw_all_tbl q1995) (Or.inl rfl) (Nat.le_of_ble_eq_true rfl) (mw_obj hM) rfl ?_
  refine v_bipush (pc := 22) dX5_does_22 ⟨by decide, by decide⟩ ?_
  refine v_ldM_now hM (pc := 24) dX5_does_24 (by omega) ?_
  refine v_imul (pc := 25) dX5_does_25 ?_
  refine v_iadd (pc := 26) dX5_does_26 ?_
  refine v_ist5 (pc := 27) dX5_does_27 rfl ?_
  refine v_ald0 (pc := 29) dX5_does_29 ?_
  refine v_getf KX5 1 (pc := 30) dX5_does_30 (lw_all_tbl q1995) (Or.inl rfl) (Nat.le_of_ble_eq_true rfl) (mw_obj hM) rfl ?_
  refine v_ild5 (pc := 33) dX5_does_33 ?_
  refine v_ild1 (pc := 35) dX5_does_35 ?_
  refine v_stM_now hM (pc := 36) dX5_does_36 (by omega) (fun h hM => ?_)
  refine v_ald0 (pc := 37) dX5_does_37 ?_
  refine v_getf KX5 1 (pc := 38) dX5_does_38 (lw_all_tbl q1995) (Or.inl rfl) (Nat.le_of_ble_eq_true rfl) (mw_obj hM) rfl ?_
  refine v_ild5 (pc := 41) dX5_does_41 ?_
  refine v_iconst (pc := 43) dX5_does_43 ?_
  refine v_iadd (pc := 44) dX5_does_44 ?_
  refine v_ild2 (pc := 45) dX5_does_45 ?_
  refine v_stM_now hM (pc := 46) dX5_does_46 (by omega) (fun h hM => ?_)
  refine v_ald0 (pc := 47) dX5_does_47 ?_
  refine v_getf KX5 1 (pc := 48) dX5_does_48 (lw_all_tbl q1995) (Or.inl rfl) (Nat.le_of_ble_eq_true rfl) (mw_obj hM) rfl ?_
  refine v_ild5 (pc := 51) dX5_does_51 ?_
  refine v_iconst (pc := 53) dX5_does_53 ?_
  refine v_iadd (pc := 54) dX5_does_54 ?_
  refine v_ild3 (pc := 55) dX5_does_55 ?_
  refine v_stM_now hM (pc := 56) dX5_does_56 (by omega) (fun h hM => ?_)
  refine v_ald0 (pc := 57) dX5_does_57 ?_
  refine v_getf KX5 1 (pc := 58) dX5_does_58 (lw_all_tbl q1995) (Or.inl rfl) (Nat.le_of_ble_eq_true rfl) (mw_obj hM) rfl ?_
  refine v_ild5 (pc := 61) dX5_does_61 ?_
  refine v_iconst (pc := 63) dX5_does_63 ?_
  refine v_iadd (pc := 64) dX5_does_64 ?_
  refine v_ild4 (pc := 65) dX5_does_65 ?_
  refine v_stM_now hM (pc := 67) dX5_does_67 (by omega) (fun h hM => ?_)
  refine v_ald0 (pc := 68) dX5_does_68 ?_
  refine v_getf KX5 1 (pc := 69) dX5_does_69 (lw_all_tbl q1995) (Or.inl rfl) (Nat.le_of_ble_eq_true rfl) (mw_obj hM) rfl ?_
  refine v_bipush (pc := 72) dX5_does_72 ⟨by decide, by decide⟩ ?_
  refine v_dup2 (pc := 74) dX5_does_74 rfl rfl ?_
  refine v_ldM_now hM (pc := 75) dX5_does_75 (by omega) ?_
  refine v_iconst (pc := 76) dX5_does_76 ?_
  refine v_iadd (pc := 77) dX5_does_77 ?_
  refine v_stM_now hM (pc := 78) dX5_does_78 (by omega) (fun h hM => ?_)
  refine v_iconst (pc := 79) dX5_does_79 ?_
  refine v_ret_n (pc := 80) dX5_does_80 rfl ?_
  exact qi_ok ⟨rfl, hM⟩
theorem sp_X5_burial {Γ : Cx} {t : Nat} {α : Nat → Nat} {h0 h : AH} {thrown : Int} {now : Int → Int} {aside : Int → Int} {tried : Int → Int} {undos : Int → Int} {undoMany : Int} {saved : Int → Int} {isSaved : Int → Int} {accounts : Int → Int} {way : Int} {leftOut : Int} {here : Int → Int} {text : Int → Int} {length : Int} {atp : Int} {frm : Int} {token : Int} {number : Int} {error : Int} {errorAt : Int} {commands : Int} {command : Int → Int} {out : Int → Int} {outLong : Int} {c : Int} {ca z : Int} (hM : MW t α h0 h thrown now aside tried undos undoMany saved isSaved accounts way leftOut here text length atp frm token number error errorAt commands command out outLong) (hR : ROK now c) (hz : 0 ≤ z ∧ z ≤ 11) (hway : 0 ≤ way ∧ way ≤ 6) (hka : KA aside way ca now) (hc : c + 100 ≤ 14000000) : Sp Γ yX5_burial mX5_burial 8 0 0 [.ref (α 0), vi z] h (Qi (fun x h' => x = mBurialR now aside way z ∧ ∃ tr, MW t α h0 h' thrown ((mBurialW now aside way z)) aside tr undos undoMany saved isSaved accounts way leftOut here text length atp frm token number error errorAt commands command out outLong)) NoX := by
  refine sp_of okX5_burial (cat_all rfl) (Nat.le_of_ble_eq_true rfl) rfl ?_
  have hzw := hR.zW z hz
  have hc0 := hR.c0
  refine v_ald0 (pc := 0) dX5_burial_0 ?_
  refine v_ild1 (pc := 1) dX5_burial_1 ?_
  refine v_cb0 (pc := 2) (v_runV1 okX5_isFree rfl (sp_X5_isFree hM (by omega) (by omega)) dX5_burial_2 (lw_all_tbl q2115) (lw_all_tbl q2117) (lw_all_tbl qs53) rfl (mw_obj hM) (Nat.le_of_ble_eq_true rfl) ⟨Nat.zero_le _, Nat.zero_le _⟩ (Nat.le_of_ble_eq_true rfl)) (fun c2 => ?_) (fun c2 => ?_)
  · refine v_if_eq1 (pc := 5) (tgt := 12) dX5_burial_5 rfl ?_
    refine v_iconst (pc := 8) dX5_burial_8 ?_
    refine v_goto (pc := 9) (tgt := 25) dX5_burial_9 rfl ?_
    refine v_ret_n (pc := 25) dX5_burial_25 rfl ?_
    first | exact qi_ok ⟨by rw [mBurialR, if_pos (by omega)], _, by rw [mBurialW, if_pos (by omega)]; exact hM⟩ | exact qi_ok ⟨by unfold mBurialR; rw [if_neg (by omega), c14]; rfl, _, by unfold mBurialW; rw [if_neg (by omega), c14]; exact hM⟩
  · refine v_if_eq0 (pc := 5) (tgt := 12) dX5_burial_5 rfl ?_
    refine v_ald0 (pc := 12) dX5_burial_12 ?_
    refine v_ild1 (pc := 13) dX5_burial_13 ?_
    refine v_ci0 (pc := 14) (v_runV1 okX5_buries rfl (sp_X5_buries hM (by omega) (by omega) (by omega) (fun q => hka q) (by omega)) dX5_burial_14 (lw_all_tbl q2320) (lw_all_tbl q2322) (lw_all_tbl qs85) rfl (mw_obj hM) (Nat.le_of_ble_eq_true rfl) ⟨Nat.zero_le _, Nat.zero_le _⟩ (Nat.le_of_ble_eq_true rfl)) (fun x14 h hq14 => ?_)
    rcases hq14 with ⟨ex14, w', c14, hM⟩ | ⟨ex14, c14, hM⟩ <;> subst ex14
    · refine v_if_eq1 (pc := 17) (tgt := 24) dX5_burial_17 rfl ?_
      refine v_iconst (pc := 20) dX5_burial_20 ?_
      refine v_goto (pc := 21) (tgt := 25) dX5_burial_21 rfl ?_
      refine v_ret_n (pc := 25) dX5_burial_25 rfl ?_
      first | exact qi_ok ⟨by rw [mBurialR, if_pos (by omega)], _, by rw [mBurialW, if_pos (by omega)]; exact hM⟩ | exact qi_ok ⟨by unfold mBurialR; rw [if_neg (by omega), c14]; rfl, _, by unfold mBurialW; rw [if_neg (by omega), c14]; exact hM⟩
    · refine v_if_eq0 (pc := 17) (tgt := 24) dX5_burial_17 rfl ?_
      refine v_iconst (pc := 24) dX5_burial_24 ?_
      refine v_ret_n (pc := 25) dX5_burial_25 rfl ?_
      first | exact qi_ok ⟨by rw [mBurialR, if_pos (by omega)], _, by rw [mBurialW, if_pos (by omega)]; exact hM⟩ | exact qi_ok ⟨by unfold mBurialR; rw [if_neg (by omega), c14]; rfl, _, by unfold mBurialW; rw [if_neg (by omega), c14]; exact hM⟩
theorem sp_X5_toBuryOf {Γ : Cx} {t : Nat} {α : Nat → Nat} {h0 h : AH} {thrown : Int} {now : Int → Int} {aside : Int → Int} {tried : Int → Int} {undos : Int → Int} {undoMany : Int} {saved : Int → Int} {isSaved : Int → Int} {accounts : Int → Int} {way : Int} {leftOut : Int} {here : Int → Int} {text : Int → Int} {length : Int} {atp : Int} {frm : Int} {token : Int} {number : Int} {error : Int} {errorAt : Int} {commands : Int} {command : Int → Int} {out : Int → Int} {outLong : Int} {c : Int} {ca z : Int} (hM : MW t α h0 h thrown now aside tried undos undoMany saved isSaved accounts way leftOut here text length atp frm token number error errorAt commands command out outLong) (hR : ROK now c) (hz : 0 ≤ z ∧ z ≤ 11) (hway : 0 ≤ way ∧ way ≤ 6) (hka : KA aside way ca now) (hc : c + 100 ≤ 14000000) : Sp Γ yX5_toBuryOf mX5_toBuryOf 8 0 0 [.ref (α 0), vi z] h (Qi (fun x h' => x = mToBury now aside way z ∧ ∃ tr, MW t α h0 h' thrown now aside tr undos undoMany saved isSaved accounts way leftOut here text length atp frm token number error errorAt commands command out outLong)) NoX := by
  refine sp_of okX5_toBuryOf (cat_all rfl) (Nat.le_of_ble_eq_true rfl) rfl ?_
  have hzw := hR.zW z hz
  have hc0 := hR.c0
  refine v_ald0 (pc := 0) dX5_toBuryOf_0 ?_
  refine v_ild1 (pc := 1) dX5_toBuryOf_1 ?_
  refine v_cb0 (pc := 2) (v_runV1 okX5_isFree rfl (sp_X5_isFree hM (by omega) (by omega)) dX5_toBuryOf_2 (lw_all_tbl q2115) (lw_all_tbl q2117) (lw_all_tbl qs53) rfl (mw_obj hM) (Nat.le_of_ble_eq_true rfl) ⟨Nat.zero_le _, Nat.zero_le _⟩ (Nat.le_of_ble_eq_true rfl)) (fun c2 => ?_) (fun c2 => ?_)
  · refine v_if_eq1 (pc := 5) (tgt := 10) dX5_toBuryOf_5 rfl ?_
    refine v_iconst (pc := 8) dX5_toBuryOf_8 ?_
    refine v_ret_n (pc := 9) dX5_toBuryOf_9 rfl ?_
    exact qi_ok ⟨by rw [mToBury, if_pos (by omega)], _, hM⟩
  · refine v_if_eq0 (pc := 5) (tgt := 10) dX5_toBuryOf_5 rfl ?_
    refine v_ald0 (pc := 10) dX5_toBuryOf_10 ?_
    refine v_getf KX5 1 (pc := 11) dX5_toBuryOf_11 (lw_all_tbl q1995) (Or.inl rfl) (Nat.le_of_ble_eq_true rfl) (mw_obj hM) rfl ?_
    refine v_bipush (pc := 14) dX5_toBuryOf_14 ⟨by decide, by decide⟩ ?_
    refine v_ldM_now hM (pc := 16) dX5_toBuryOf_16 (by omega) ?_
    refine v_ist2 (pc := 17) dX5_toBuryOf_17 rfl ?_
    refine v_ald0 (pc := 18) dX5_toBuryOf_18 ?_
    refine v_ild1 (pc := 19) dX5_toBuryOf_19 ?_
    refine v_ci0 (pc := 20) (v_runV1 okX5_buries rfl (sp_X5_buries hM (by omega) (by omega) (by omega) (fun q => hka q) (by omega)) dX5_toBuryOf_20 (lw_all_tbl q2320) (lw_all_tbl q2322) (lw_all_tbl qs85) rfl (mw_obj hM) (Nat.le_of_ble_eq_true rfl) ⟨Nat.zero_le _, Nat.zero_le _⟩ (Nat.le_of_ble_eq_true rfl)) (fun x20 h hq20 => ?_)
    rcases hq20 with ⟨ex20, w', c20, hM⟩ | ⟨ex20, c20, hM⟩ <;> subst ex20
    · refine v_if_ne1 (pc := 23) (tgt := 28) dX5_toBuryOf_23 rfl ?_
      refine v_ald0 (pc := 28) dX5_toBuryOf_28 ?_
      refine v_getf KX5 1 (pc := 29) dX5_toBuryOf_29 (lw_all_tbl q1995) (Or.inl rfl) (Nat.le_of_ble_eq_true rfl) (mw_obj hM) rfl ?_
      refine v_bipush (pc := 32) dX5_toBuryOf_32 ⟨by decide, by decide⟩ ?_
      refine v_ldM_now hM (pc := 34) dX5_toBuryOf_34 (by omega) ?_
      refine v_ild2 (pc := 35) dX5_toBuryOf_35 ?_
      refine v_isub (pc := 36) dX5_toBuryOf_36 ?_
      refine v_ist3 (pc := 37) dX5_toBuryOf_37 rfl ?_
      refine v_ald0 (pc := 38) dX5_toBuryOf_38 ?_
      refine v_getf KX5 3 (pc := 39) dX5_toBuryOf_39 (lw_all_tbl q1997) (Or.inl rfl) (Nat.le_of_ble_eq_true rfl) (mw_obj hM) rfl ?_
      refine v_iconst (pc := 42) dX5_toBuryOf_42 ?_
      refine v_ald0 (pc := 43) dX5_toBuryOf_43 ?_
      refine v_getf KX5 1 (pc := 44) dX5_toBuryOf_44 (lw_all_tbl q1995) (Or.inl rfl) (Nat.le_of_ble_eq_true rfl) (mw_obj hM) rfl ?_
      refine v_iconst (pc := 47) dX5_toBuryOf_47 ?_
      refine v_cv0 (pc := 48) (v_runS4 okX5_copies rfl (sp_cp_tried_now hM) dX5_toBuryOf_48 (lw_all_tbl q2253) (lw_all_tbl q2254) (Nat.le_of_ble_eq_true rfl) ⟨Nat.zero_le _, Nat.zero_le _⟩ (Nat.le_of_ble_eq_true rfl)) (fun h hM => ?_)
      refine v_ild3 (pc := 51) dX5_toBuryOf_51 ?_
      refine v_ret_n (pc := 52) dX5_toBuryOf_52 rfl ?_
      rw [cpy_back hR.sup (mBuries_inv hR (by omega) hz c20).1.sup] at hM
      exact qi_ok ⟨by rw [mToBury, if_neg (by omega), c20], _, hM⟩
    · refine v_if_ne0 (pc := 23) (tgt := 28) dX5_toBuryOf_23 rfl ?_
      refine v_iconst (pc := 26) dX5_toBuryOf_26 ?_
      refine v_ret_n (pc := 27) dX5_toBuryOf_27 rfl ?_
      exact qi_ok ⟨by rw [mToBury, if_neg (by omega), c20], _, hM⟩
theorem sp_X5_actsWrite {Γ : Cx} {t : Nat} {α : Nat → Nat} {h0 h : AH} {thrown : Int} {now : Int → Int} {aside : Int → Int} {tried : Int → Int} {undos : Int → Int} {undoMany : Int} {saved : Int → Int} {isSaved : Int → Int} {accounts : Int → Int} {way : Int} {leftOut : Int} {here : Int → Int} {text : Int → Int} {length : Int} {atp : Int} {frm : Int} {token : Int} {number : Int} {error : Int} {errorAt : Int} {commands : Int} {command : Int → Int} {out : Int → Int} {outLong : Int} {c : Int} {wr sz fa : Int} (hM : MW t α h0 h thrown now aside tried undos undoMany saved isSaved accounts way leftOut here text length atp frm token number error errorAt commands command out outLong) (hR : ROK now c) (hum : 0 ≤ undoMany ∧ undoMany ≤ 8) (hw5 : way = 5) (hwr : 0 ≤ wr ∧ wr ≤ 7) (hsz : 1 ≤ sz ∧ sz ≤ 3) (hfa : 0 ≤ fa ∧ fa ≤ 99) : Sp Γ yX5_actsWrite mX5_actsWrite 8 0 0 [.ref (α 0), vi wr, vi sz, vi fa] h (Qi (fun x h' => x = (rWrite now aside way wr sz) ∧ ((0 < (rWrite now aside way wr sz) ∧ MW t α h0 h' thrown now aside tried undos undoMany saved isSaved ((upi accounts ((rWrite now aside way wr sz)) (accounts ((rWrite now aside way wr sz)) + 1))) way leftOut here text length atp frm token number error errorAt commands command out outLong) ∨ ((rWrite now aside way wr sz) = 0 ∧ MW t α h0 h' thrown ((mWrites (mHist now 0 wr sz fa) aside way wr sz fa (now 7))) aside tried ((kUndos now undos undoMany)) ((kMany undoMany)) saved isSaved ((upi accounts 0 (accounts 0 + 1))) way leftOut here text length atp frm token number error errorAt commands command out outLong)))) NoX := by
  refine sp_of okX5_actsWrite (cat_all rfl) (Nat.le_of_ble_eq_true rfl) rfl ?_
  have h11 := hR.s11
  have h7 := hR.s7
  have hs0 := hR.s0
  have hc0 := hR.c0
  have hwr1 : mWhyWrite now aside way wr sz (now 7) = 0 ∨ mWhyWrite now aside way wr sz (now 7) = 1 := by unfold mWhyWrite; split <;> omega
  refine v_ald0 (pc := 0) dX5_actsWrite_0 ?_
  refine v_cb0 (pc := 1) (v_runV0 okX5_isLong rfl (sp_X5_isLong hM (by omega)) dX5_actsWrite_1 (lw_all_tbl q2355) (lw_all_tbl q2357) (lw_all_tbl qs90) rfl (mw_obj hM) (Nat.le_of_ble_eq_true rfl) ⟨Nat.zero_le _, Nat.zero_le _⟩ (Nat.le_of_ble_eq_true rfl)) (fun c1 => ?_) (fun c1 => ?_)
  · refine v_if_eq1 (pc := 4) (tgt := 12) dX5_actsWrite_4 rfl ?_
    refine v_bipush (pc := 7) dX5_actsWrite_7 ⟨by decide, by decide⟩ ?_
    refine v_goto (pc := 9) (tgt := 42) dX5_actsWrite_9 rfl ?_
    refine v_ist4 (pc := 42) dX5_actsWrite_42 rfl ?_
    refine v_ild4 (pc := 44) dX5_actsWrite_44 ?_
    refine v_if_le (pc := 46) (tgt := 56) dX5_actsWrite_46 rfl (by omega) (fun c => absurd c (by decide)) (fun _ => ?_)
    refine v_ald0 (pc := 49) dX5_actsWrite_49 ?_
    refine v_ild4 (pc := 50) dX5_actsWrite_50 ?_
    refine v_ci0 (pc := 52) (v_runV1 okX5_refuses rfl (sp_X5_refuses hM (by omega)) dX5_actsWrite_52 (lw_all_tbl q2359) (lw_all_tbl q2361) (lw_all_tbl qs91) rfl (mw_obj hM) (Nat.le_of_ble_eq_true rfl) ⟨Nat.zero_le _, Nat.zero_le _⟩ (Nat.le_of_ble_eq_true rfl)) (fun x52 h ⟨ex52, hM⟩ => ?_)
    subst ex52
    refine v_ret_n (pc := 55) dX5_actsWrite_55 rfl ?_
    first | exact qi_ok (by rw [show (rWrite now aside way wr sz) = 7 by rw [rWrite, if_pos (by omega)]]; exact ⟨rfl, Or.inl ⟨by omega, hM⟩⟩) | exact qi_ok (by rw [show (rWrite now aside way wr sz) = 6 by rw [rWrite, if_neg (by omega), if_pos (by omega)]]; exact ⟨rfl, Or.inl ⟨by omega, hM⟩⟩) | exact qi_ok (by rw [show (rWrite now aside way wr sz) = mWhyWrite now aside way wr sz (now 7) by rw [rWrite, if_neg (by omega), if_neg (by omega)]]; exact ⟨rfl, Or.inl ⟨by omega, hM⟩⟩)
  · refine v_if_eq0 (pc := 4) (tgt := 12) dX5_actsWrite_4 rfl ?_
    refine v_ald0 (pc := 12) dX5_actsWrite_12 ?_
    refine v_getf KX5 1 (pc := 13) dX5_actsWrite_13 (lw_all_tbl q1995) (Or.inl rfl) (Nat.le_of_ble_eq_true rfl) (mw_obj hM) rfl ?_
    refine v_bipush (pc := 16) dX5_actsWrite_16 ⟨by decide, by decide⟩ ?_
    refine v_ldM_now hM (pc := 18) dX5_actsWrite_18 (by omega) ?_
    refine v_bipush (pc := 19) dX5_actsWrite_19 ⟨by decide, by decide⟩ ?_
    refine v_icmp_ne (pc := 21) (tgt := 29) dX5_actsWrite_21 rfl (by omega) (by omega) (fun c21 => ?_) (fun c21 => ?_)
    · refine v_ald0 (pc := 29) dX5_actsWrite_29 ?_
      refine v_ild1 (pc := 30) dX5_actsWrite_30 ?_
      refine v_ild2 (pc := 31) dX5_actsWrite_31 ?_
      refine v_ald0 (pc := 32) dX5_actsWrite_32 ?_
      refine v_getf KX5 1 (pc := 33) dX5_actsWrite_33 (lw_all_tbl q1995) (Or.inl rfl) (Nat.le_of_ble_eq_true rfl) (mw_obj hM) rfl ?_
      refine v_bipush (pc := 36) dX5_actsWrite_36 ⟨by decide, by decide⟩ ?_
      refine v_ldM_now hM (pc := 38) dX5_actsWrite_38 (by omega) ?_
      refine v_ce0 (pc := 39) (v_runV3 okX5_whyWrite rfl (sp_X5_whyWrite (ca := 0) hM hR (by omega) (fun q => by omega) hwr hsz (by omega)) dX5_actsWrite_39 (lw_all_tbl q2260) (lw_all_tbl q2262) (lw_all_tbl qs70) rfl (mw_obj hM) (Nat.le_of_ble_eq_true rfl) ⟨Nat.zero_le _, Nat.zero_le _⟩ (Nat.le_of_ble_eq_true rfl)) ?_
      refine v_ist4 (pc := 42) dX5_actsWrite_42 rfl ?_
      refine v_ild4 (pc := 44) dX5_actsWrite_44 ?_
      refine v_if_le (pc := 46) (tgt := 56) dX5_actsWrite_46 rfl (by omega) (fun c46 => ?_) (fun c46 => ?_)
      · refine v_ald0 (pc := 56) dX5_actsWrite_56 ?_
        refine v_iconst (pc := 57) dX5_actsWrite_57 ?_
        refine v_ild1 (pc := 58) dX5_actsWrite_58 ?_
        refine v_ild2 (pc := 59) dX5_actsWrite_59 ?_
        refine v_ild3 (pc := 60) dX5_actsWrite_60 ?_
        refine v_ci0 (pc := 61) (v_runV4 okX5_does rfl (sp_X5_does hM (by omega) (by omega)) dX5_actsWrite_61 (lw_all_tbl q2363) (lw_all_tbl q2365) (lw_all_tbl qs92) rfl (mw_obj hM) (Nat.le_of_ble_eq_true rfl) ⟨Nat.zero_le _, Nat.zero_le _⟩ (Nat.le_of_ble_eq_true rfl)) (fun x61 h ⟨ex61, hM⟩ => ?_)
        subst ex61
        refine v_ist5 (pc := 64) dX5_actsWrite_64 rfl ?_
        refine v_ald0 (pc := 66) dX5_actsWrite_66 ?_
        refine v_ild1 (pc := 67) dX5_actsWrite_67 ?_
        refine v_ild2 (pc := 68) dX5_actsWrite_68 ?_
        refine v_ild3 (pc := 69) dX5_actsWrite_69 ?_
        refine v_ald0 (pc := 70) dX5_actsWrite_70 ?_
        refine v_getf KX5 1 (pc := 71) dX5_actsWrite_71 (lw_all_tbl q1995) (Or.inl rfl) (Nat.le_of_ble_eq_true rfl) (mw_obj hM) rfl ?_
        refine v_bipush (pc := 74) dX5_actsWrite_74 ⟨by decide, by decide⟩ ?_
        refine v_ldM_now hM (pc := 76) dX5_actsWrite_76 (by omega) ?_
        have hhk := mHist_hk (w := now) (a := 0) (b := wr) (c := sz) (d := fa) h11.1
        have hh7 := hhk 7 (by omega) (by omega)
        rw [hh7]
        refine v_cv0 (pc := 77) (v_runV4 okX5_writes rfl (sp_X5_writes (ca := 0) hM (mHist_ok hR (by omega)) (by omega) (fun q => by omega) hwr hsz hfa (by omega) (by omega) (by rw [mWhyWrite_congr hhk h7 (by omega)]; omega)) dX5_actsWrite_77 (lw_all_tbl q2284) (lw_all_tbl q2286) (lw_all_tbl qs76) rfl (mw_obj hM) (Nat.le_of_ble_eq_true rfl) ⟨Nat.zero_le _, Nat.zero_le _⟩ (Nat.le_of_ble_eq_true rfl)) (fun h hM => ?_)
        refine v_ild5 (pc := 80) dX5_actsWrite_80 ?_
        refine v_ret_n (pc := 82) dX5_actsWrite_82 rfl ?_
        exact qi_ok (by have e : (rWrite now aside way wr sz) = 0 := (by rw [rWrite, if_neg (by omega), if_neg (by omega)]; omega); rw [e]; exact ⟨rfl, Or.inr ⟨rfl, hM⟩⟩)
      · refine v_ald0 (pc := 49) dX5_actsWrite_49 ?_
        refine v_ild4 (pc := 50) dX5_actsWrite_50 ?_
        refine v_ci0 (pc := 52) (v_runV1 okX5_refuses rfl (sp_X5_refuses hM (by omega)) dX5_actsWrite_52 (lw_all_tbl q2359) (lw_all_tbl q2361) (lw_all_tbl qs91) rfl (mw_obj hM) (Nat.le_of_ble_eq_true rfl) ⟨Nat.zero_le _, Nat.zero_le _⟩ (Nat.le_of_ble_eq_true rfl)) (fun x52 h ⟨ex52, hM⟩ => ?_)
        subst ex52
        refine v_ret_n (pc := 55) dX5_actsWrite_55 rfl ?_
        first | exact qi_ok (by rw [show (rWrite now aside way wr sz) = 7 by rw [rWrite, if_pos (by omega)]]; exact ⟨rfl, Or.inl ⟨by omega, hM⟩⟩) | exact qi_ok (by rw [show (rWrite now aside way wr sz) = 6 by rw [rWrite, if_neg (by omega), if_pos (by omega)]]; exact ⟨rfl, Or.inl ⟨by omega, hM⟩⟩) | exact qi_ok (by rw [show (rWrite now aside way wr sz) = mWhyWrite now aside way wr sz (now 7) by rw [rWrite, if_neg (by omega), if_neg (by omega)]]; exact ⟨rfl, Or.inl ⟨by omega, hM⟩⟩)
    · refine v_bipush (pc := 24) dX5_actsWrite_24 ⟨by decide, by decide⟩ ?_
      refine v_goto (pc := 26) (tgt := 42) dX5_actsWrite_26 rfl ?_
      refine v_ist4 (pc := 42) dX5_actsWrite_42 rfl ?_
      refine v_ild4 (pc := 44) dX5_actsWrite_44 ?_
      refine v_if_le (pc := 46) (tgt := 56) dX5_actsWrite_46 rfl (by omega) (fun c => absurd c (by decide)) (fun _ => ?_)
      refine v_ald0 (pc := 49) dX5_actsWrite_49 ?_
      refine v_ild4 (pc := 50) dX5_actsWrite_50 ?_
      refine v_ci0 (pc := 52) (v_runV1 okX5_refuses rfl (sp_X5_refuses hM (by omega)) dX5_actsWrite_52 (lw_all_tbl q2359) (lw_all_tbl q2361) (lw_all_tbl qs91) rfl (mw_obj hM) (Nat.le_of_ble_eq_true rfl) ⟨Nat.zero_le _, Nat.zero_le _⟩ (Nat.le_of_ble_eq_true rfl)) (fun x52 h ⟨ex52, hM⟩ => ?_)
      subst ex52
      refine v_ret_n (pc := 55) dX5_actsWrite_55 rfl ?_
      first | exact qi_ok (by rw [show (rWrite now aside way wr sz) = 7 by rw [rWrite, if_pos (by omega)]]; exact ⟨rfl, Or.inl ⟨by omega, hM⟩⟩) | exact qi_ok (by rw [show (rWrite now aside way wr sz) = 6 by rw [rWrite, if_neg (by omega), if_pos (by omega)]]; exact ⟨rfl, Or.inl ⟨by omega, hM⟩⟩) | exact qi_ok (by rw [show (rWrite now aside way wr sz) = mWhyWrite now aside way wr sz (now 7) by rw [rWrite, if_neg (by omega), if_neg (by omega)]]; exact ⟨rfl, Or.inl ⟨by omega, hM⟩⟩)
theorem sp_X5_actsDie {Γ : Cx} {t : Nat} {α : Nat → Nat} {h0 h : AH} {thrown : Int} {now : Int → Int} {aside : Int → Int} {tried : Int → Int} {undos : Int → Int} {undoMany : Int} {saved : Int → Int} {isSaved : Int → Int} {accounts : Int → Int} {way : Int} {leftOut : Int} {here : Int → Int} {text : Int → Int} {length : Int} {atp : Int} {frm : Int} {token : Int} {number : Int} {error : Int} {errorAt : Int} {commands : Int} {command : Int → Int} {out : Int → Int} {outLong : Int} {c : Int} {u : Int} (hM : MW t α h0 h thrown now aside tried undos undoMany saved isSaved accounts way leftOut here text length atp frm token number error errorAt commands command out outLong) (hR : ROK now c) (hum : 0 ≤ undoMany ∧ undoMany ≤ 8) (hw5 : way = 5) (hu : 0 ≤ u ∧ u < now 7) : Sp Γ yX5_actsDie mX5_actsDie 6 0 0 [.ref (α 0), vi u] h (Qi (fun x h' => x = (rDie now u) ∧ ((0 < (rDie now u) ∧ MW t α h0 h' thrown now aside tried undos undoMany saved isSaved ((upi accounts ((rDie now u)) (accounts ((rDie now u)) + 1))) way leftOut here text length atp frm token number error errorAt commands command out outLong) ∨ ((rDie now u) = 0 ∧ MW t α h0 h' thrown ((mDies (mHist now 1 u (-1) (-1)) u)) aside tried ((kUndos now undos undoMany)) ((kMany undoMany)) saved isSaved ((upi accounts 0 (accounts 0 + 1))) way leftOut here text length atp frm token number error errorAt commands command out outLong)))) NoX := by
  refine sp_of okX5_actsDie (cat_all rfl) (Nat.le_of_ble_eq_true rfl) rfl ?_
  have h11 := hR.s11
  have h7 := hR.s7
  have hs0 := hR.s0
  have hc0 := hR.c0
  have hlv := hR.uLv u hu
  refine v_ald0 (pc := 0) dX5_actsDie_0 ?_
  refine v_cb0 (pc := 1) (v_runV0 okX5_isLong rfl (sp_X5_isLong hM (by omega)) dX5_actsDie_1 (lw_all_tbl q2355) (lw_all_tbl q2357) (lw_all_tbl qs90) rfl (mw_obj hM) (Nat.le_of_ble_eq_true rfl) ⟨Nat.zero_le _, Nat.zero_le _⟩ (Nat.le_of_ble_eq_true rfl)) (fun c1 => ?_) (fun c1 => ?_)
  · refine v_if_ne1 (pc := 4) (tgt := 15) dX5_actsDie_4 rfl ?_
    refine v_ald0 (pc := 15) dX5_actsDie_15 ?_
    refine v_ald0 (pc := 16) dX5_actsDie_16 ?_
    refine v_cb0 (pc := 17) (v_runV0 okX5_isLong rfl (sp_X5_isLong hM (by omega)) dX5_actsDie_17 (lw_all_tbl q2355) (lw_all_tbl q2357) (lw_all_tbl qs90) rfl (mw_obj hM) (Nat.le_of_ble_eq_true rfl) ⟨Nat.zero_le _, Nat.zero_le _⟩ (Nat.le_of_ble_eq_true rfl)) (fun c17 => ?_) (fun c17 => ?_)
    · refine v_if_eq1 (pc := 20) (tgt := 28) dX5_actsDie_20 rfl ?_
      refine v_bipush (pc := 23) dX5_actsDie_23 ⟨by decide, by decide⟩ ?_
      refine v_goto (pc := 25) (tgt := 29) dX5_actsDie_25 rfl ?_
      refine v_ci0 (pc := 29) (v_runV1 okX5_refuses rfl (sp_X5_refuses hM (by omega)) dX5_actsDie_29 (lw_all_tbl q2359) (lw_all_tbl q2361) (lw_all_tbl qs91) rfl (mw_obj hM) (Nat.le_of_ble_eq_true rfl) ⟨Nat.zero_le _, Nat.zero_le _⟩ (Nat.le_of_ble_eq_true rfl)) (fun x29 h ⟨ex29, hM⟩ => ?_)
      subst ex29
      refine v_ret_n (pc := 32) dX5_actsDie_32 rfl ?_
      first | exact qi_ok (by rw [show (rDie now u) = 7 by rw [rDie, if_pos (by omega)]]; exact ⟨rfl, Or.inl ⟨by omega, hM⟩⟩) | exact qi_ok (by rw [show (rDie now u) = 2 by rw [rDie, if_neg (by omega), if_neg (by omega)]]; exact ⟨rfl, Or.inl ⟨by omega, hM⟩⟩)
    · refine v_if_eq0 (pc := 20) (tgt := 28) dX5_actsDie_20 rfl ?_
      refine v_iconst (pc := 28) dX5_actsDie_28 ?_
      refine v_ci0 (pc := 29) (v_runV1 okX5_refuses rfl (sp_X5_refuses hM (by omega)) dX5_actsDie_29 (lw_all_tbl q2359) (lw_all_tbl q2361) (lw_all_tbl qs91) rfl (mw_obj hM) (Nat.le_of_ble_eq_true rfl) ⟨Nat.zero_le _, Nat.zero_le _⟩ (Nat.le_of_ble_eq_true rfl)) (fun x29 h ⟨ex29, hM⟩ => ?_)
      subst ex29
      refine v_ret_n (pc := 32) dX5_actsDie_32 rfl ?_
      first | exact qi_ok (by rw [show (rDie now u) = 7 by rw [rDie, if_pos (by omega)]]; exact ⟨rfl, Or.inl ⟨by omega, hM⟩⟩) | exact qi_ok (by rw [show (rDie now u) = 2 by rw [rDie, if_neg (by omega), if_neg (by omega)]]; exact ⟨rfl, Or.inl ⟨by omega, hM⟩⟩)
  · refine v_if_ne0 (pc := 4) (tgt := 15) dX5_actsDie_4 rfl ?_
    refine v_ald0 (pc := 7) dX5_actsDie_7 ?_
    refine v_ild1 (pc := 8) dX5_actsDie_8 ?_
    refine v_cb0 (pc := 9) (v_runV1 okX5_lives rfl (sp_X5_lives hM (by omega) (by omega)) dX5_actsDie_9 (lw_all_tbl q2100) (lw_all_tbl q2102) (lw_all_tbl qs50) rfl (mw_obj hM) (Nat.le_of_ble_eq_true rfl) ⟨Nat.zero_le _, Nat.zero_le _⟩ (Nat.le_of_ble_eq_true rfl)) (fun c9 => ?_) (fun c9 => ?_)
    · refine v_if_ne1 (pc := 12) (tgt := 33) dX5_actsDie_12 rfl ?_
      refine v_ald0 (pc := 33) dX5_actsDie_33 ?_
      refine v_iconst (pc := 34) dX5_actsDie_34 ?_
      refine v_ild1 (pc := 35) dX5_actsDie_35 ?_
      refine v_iconst (pc := 36) dX5_actsDie_36 ?_
      refine v_iconst (pc := 37) dX5_actsDie_37 ?_
      refine v_ci0 (pc := 38) (v_runV4 okX5_does rfl (sp_X5_does hM (by omega) (by omega)) dX5_actsDie_38 (lw_all_tbl q2363) (lw_all_tbl q2365) (lw_all_tbl qs92) rfl (mw_obj hM) (Nat.le_of_ble_eq_true rfl) ⟨Nat.zero_le _, Nat.zero_le _⟩ (Nat.le_of_ble_eq_true rfl)) (fun x38 h ⟨ex38, hM⟩ => ?_)
      subst ex38
      refine v_ist2 (pc := 41) dX5_actsDie_41 rfl ?_
      refine v_ald0 (pc := 42) dX5_actsDie_42 ?_
      refine v_ild1 (pc := 43) dX5_actsDie_43 ?_
      refine v_cv0 (pc := 44) (v_runV1 okX5_dies rfl (sp_X5_dies hM (mHist_ok hR (by omega)) (by rw [mHist_hk h11.1 7 (by omega) (by omega)]; exact hu)) dX5_actsDie_44 (lw_all_tbl q2296) (lw_all_tbl q2298) (lw_all_tbl qs79) rfl (mw_obj hM) (Nat.le_of_ble_eq_true rfl) ⟨Nat.zero_le _, Nat.zero_le _⟩ (Nat.le_of_ble_eq_true rfl)) (fun h hM => ?_)
      refine v_ild2 (pc := 47) dX5_actsDie_47 ?_
      refine v_ret_n (pc := 48) dX5_actsDie_48 rfl ?_
      exact qi_ok (by have e : (rDie now u) = 0 := (by rw [rDie, if_neg (by omega), if_pos (by omega)]); rw [e]; exact ⟨rfl, Or.inr ⟨rfl, hM⟩⟩)
    · refine v_if_ne0 (pc := 12) (tgt := 33) dX5_actsDie_12 rfl ?_
      refine v_ald0 (pc := 15) dX5_actsDie_15 ?_
      refine v_ald0 (pc := 16) dX5_actsDie_16 ?_
      refine v_cb0 (pc := 17) (v_runV0 okX5_isLong rfl (sp_X5_isLong hM (by omega)) dX5_actsDie_17 (lw_all_tbl q2355) (lw_all_tbl q2357) (lw_all_tbl qs90) rfl (mw_obj hM) (Nat.le_of_ble_eq_true rfl) ⟨Nat.zero_le _, Nat.zero_le _⟩ (Nat.le_of_ble_eq_true rfl)) (fun c17 => ?_) (fun c17 => ?_)
      · refine v_if_eq1 (pc := 20) (tgt := 28) dX5_actsDie_20 rfl ?_
        refine v_bipush (pc := 23) dX5_actsDie_23 ⟨by decide, by decide⟩ ?_
        refine v_goto (pc := 25) (tgt := 29) dX5_actsDie_25 rfl ?_
        refine v_ci0 (pc := 29) (v_runV1 okX5_refuses rfl (sp_X5_refuses hM (by omega)) dX5_actsDie_29 (lw_all_tbl q2359) (lw_all_tbl q2361) (lw_all_tbl qs91) rfl (mw_obj hM) (Nat.le_of_ble_eq_true rfl) ⟨Nat.zero_le _, Nat.zero_le _⟩ (Nat.le_of_ble_eq_true rfl)) (fun x29 h ⟨ex29, hM⟩ => ?_)
        subst ex29
        refine v_ret_n (pc := 32) dX5_actsDie_32 rfl ?_
        first | exact qi_ok (by rw [show (rDie now u) = 7 by rw [rDie, if_pos (by omega)]]; exact ⟨rfl, Or.inl ⟨by omega, hM⟩⟩) | exact qi_ok (by rw [show (rDie now u) = 2 by rw [rDie, if_neg (by omega), if_neg (by omega)]]; exact ⟨rfl, Or.inl ⟨by omega, hM⟩⟩)
      · refine v_if_eq0 (pc := 20) (tgt := 28) dX5_actsDie_20 rfl ?_
        refine v_iconst (pc := 28) dX5_actsDie_28 ?_
        refine v_ci0 (pc := 29) (v_runV1 okX5_refuses rfl (sp_X5_refuses hM (by omega)) dX5_actsDie_29 (lw_all_tbl q2359) (lw_all_tbl q2361) (lw_all_tbl qs91) rfl (mw_obj hM) (Nat.le_of_ble_eq_true rfl) ⟨Nat.zero_le _, Nat.zero_le _⟩ (Nat.le_of_ble_eq_true rfl)) (fun x29 h ⟨ex29, hM⟩ => ?_)
        subst ex29
        refine v_ret_n (pc := 32) dX5_actsDie_32 rfl ?_
        first | exact qi_ok (by rw [show (rDie now u) = 7 by rw [rDie, if_pos (by omega)]]; exact ⟨rfl, Or.inl ⟨by omega, hM⟩⟩) | exact qi_ok (by rw [show (rDie now u) = 2 by rw [rDie, if_neg (by omega), if_neg (by omega)]]; exact ⟨rfl, Or.inl ⟨by omega, hM⟩⟩)
theorem sp_X5_actsReset {Γ : Cx} {t : Nat} {α : Nat → Nat} {h0 h : AH} {thrown : Int} {now : Int → Int} {aside : Int → Int} {tried : Int → Int} {undos : Int → Int} {undoMany : Int} {saved : Int → Int} {isSaved : Int → Int} {accounts : Int → Int} {way : Int} {leftOut : Int} {here : Int → Int} {text : Int → Int} {length : Int} {atp : Int} {frm : Int} {token : Int} {number : Int} {error : Int} {errorAt : Int} {commands : Int} {command : Int → Int} {out : Int → Int} {outLong : Int} {c : Int} {z : Int} (hM : MW t α h0 h thrown now aside tried undos undoMany saved isSaved accounts way leftOut here text length atp frm token number error errorAt commands command out outLong) (hR : ROK now c) (hum : 0 ≤ undoMany ∧ undoMany ≤ 8) (hw5 : way = 5) (hz : 0 ≤ z ∧ z ≤ 11) : Sp Γ yX5_actsReset mX5_actsReset 6 0 0 [.ref (α 0), vi z] h (Qi (fun x h' => x = (rReset now z) ∧ ((0 < (rReset now z) ∧ MW t α h0 h' thrown now aside tried undos undoMany saved isSaved ((upi accounts ((rReset now z)) (accounts ((rReset now z)) + 1))) way leftOut here text length atp frm token number error errorAt commands command out outLong) ∨ ((rReset now z) = 0 ∧ MW t α h0 h' thrown ((mResets (mHist now 2 z (-1) (-1)) z)) aside tried ((kUndos now undos undoMany)) ((kMany undoMany)) saved isSaved ((upi accounts 0 (accounts 0 + 1))) way leftOut here text length atp frm token number error errorAt commands command out outLong)))) NoX := by
  refine sp_of okX5_actsReset (cat_all rfl) (Nat.le_of_ble_eq_true rfl) rfl ?_
  have h11 := hR.s11
  have h7 := hR.s7
  have hs0 := hR.s0
  have hc0 := hR.c0
  refine v_ald0 (pc := 0) dX5_actsReset_0 ?_
  refine v_cb0 (pc := 1) (v_runV0 okX5_isLong rfl (sp_X5_isLong hM (by omega)) dX5_actsReset_1 (lw_all_tbl q2355) (lw_all_tbl q2357) (lw_all_tbl qs90) rfl (mw_obj hM) (Nat.le_of_ble_eq_true rfl) ⟨Nat.zero_le _, Nat.zero_le _⟩ (Nat.le_of_ble_eq_true rfl)) (fun c1 => ?_) (fun c1 => ?_)
  · refine v_if_eq1 (pc := 4) (tgt := 12) dX5_actsReset_4 rfl ?_
    refine v_bipush (pc := 7) dX5_actsReset_7 ⟨by decide, by decide⟩ ?_
    refine v_goto (pc := 9) (tgt := 17) dX5_actsReset_9 rfl ?_
    refine v_ist2 (pc := 17) dX5_actsReset_17 rfl ?_
    refine v_ild2 (pc := 18) dX5_actsReset_18 ?_
    refine v_if_le (pc := 19) (tgt := 28) dX5_actsReset_19 rfl (by omega) (fun c => absurd c (by decide)) (fun _ => ?_)
    refine v_ald0 (pc := 22) dX5_actsReset_22 ?_
    refine v_ild2 (pc := 23) dX5_actsReset_23 ?_
    refine v_ci0 (pc := 24) (v_runV1 okX5_refuses rfl (sp_X5_refuses hM (by omega)) dX5_actsReset_24 (lw_all_tbl q2359) (lw_all_tbl q2361) (lw_all_tbl qs91) rfl (mw_obj hM) (Nat.le_of_ble_eq_true rfl) ⟨Nat.zero_le _, Nat.zero_le _⟩ (Nat.le_of_ble_eq_true rfl)) (fun x24 h ⟨ex24, hM⟩ => ?_)
    subst ex24
    refine v_ret_n (pc := 27) dX5_actsReset_27 rfl ?_
    first | exact qi_ok (by have e : (rReset now z) = 0 := (by rw [rReset]; (repeat (any_goals split)) <;> omega); rw [e]; exact ⟨rfl, Or.inr ⟨rfl, hM⟩⟩) | first | exact qi_ok (by rw [show (rReset now z) = 7 by rw [rReset, if_pos (by omega)]]; exact ⟨rfl, Or.inl ⟨by omega, hM⟩⟩) | exact qi_ok (by rw [show (rReset now z) = (if now (1706 + 13 * z + 0) = -1 then 3 else if 0 < mLivIn now z (now 7) then 4 else 0) by rw [rReset, if_neg (by omega)]]; exact ⟨rfl, Or.inl ⟨by omega, hM⟩⟩)
  · refine v_if_eq0 (pc := 4) (tgt := 12) dX5_actsReset_4 rfl ?_
    refine v_ald0 (pc := 12) dX5_actsReset_12 ?_
    refine v_ild1 (pc := 13) dX5_actsReset_13 ?_
    refine v_ce0 (pc := 14) (v_runV1 okX5_whyReset rfl (sp_X5_whyReset hM (by omega) (by omega)) dX5_actsReset_14 (lw_all_tbl q2308) (lw_all_tbl q2310) (lw_all_tbl qs82) rfl (mw_obj hM) (Nat.le_of_ble_eq_true rfl) ⟨Nat.zero_le _, Nat.zero_le _⟩ (Nat.le_of_ble_eq_true rfl)) ?_
    refine v_ist2 (pc := 17) dX5_actsReset_17 rfl ?_
    refine v_ild2 (pc := 18) dX5_actsReset_18 ?_
    refine v_if_le (pc := 19) (tgt := 28) dX5_actsReset_19 rfl (by omega) (fun c19 => ?_) (fun c19 => ?_)
    · refine v_ald0 (pc := 28) dX5_actsReset_28 ?_
      refine v_iconst (pc := 29) dX5_actsReset_29 ?_
      refine v_ild1 (pc := 30) dX5_actsReset_30 ?_
      refine v_iconst (pc := 31) dX5_actsReset_31 ?_
      refine v_iconst (pc := 32) dX5_actsReset_32 ?_
      refine v_ci0 (pc := 33) (v_runV4 okX5_does rfl (sp_X5_does hM (by omega) (by omega)) dX5_actsReset_33 (lw_all_tbl q2363) (lw_all_tbl q2365) (lw_all_tbl qs92) rfl (mw_obj hM) (Nat.le_of_ble_eq_true rfl) ⟨Nat.zero_le _, Nat.zero_le _⟩ (Nat.le_of_ble_eq_true rfl)) (fun x33 h ⟨ex33, hM⟩ => ?_)
      subst ex33
      refine v_ist3 (pc := 36) dX5_actsReset_36 rfl ?_
      refine v_ald0 (pc := 37) dX5_actsReset_37 ?_
      refine v_ild1 (pc := 38) dX5_actsReset_38 ?_
      refine v_cv0 (pc := 39) (v_runV1 okX5_resets rfl (sp_X5_resets hM (by omega)) dX5_actsReset_39 (lw_all_tbl q2312) (lw_all_tbl q2314) (lw_all_tbl qs83) rfl (mw_obj hM) (Nat.le_of_ble_eq_true rfl) ⟨Nat.zero_le _, Nat.zero_le _⟩ (Nat.le_of_ble_eq_true rfl)) (fun h hM => ?_)
      refine v_ild3 (pc := 42) dX5_actsReset_42 ?_
      refine v_ret_n (pc := 43) dX5_actsReset_43 rfl ?_
      first | exact qi_ok (by have e : (rReset now z) = 0 := (by rw [rReset]; (repeat (any_goals split)) <;> omega); rw [e]; exact ⟨rfl, Or.inr ⟨rfl, hM⟩⟩) | first | exact qi_ok (by rw [show (rReset now z) = 7 by rw [rReset, if_pos (by omega)]]; exact ⟨rfl, Or.inl ⟨by omega, hM⟩⟩) | exact qi_ok (by rw [show (rReset now z) = (if now (1706 + 13 * z + 0) = -1 then 3 else if 0 < mLivIn now z (now 7) then 4 else 0) by rw [rReset, if_neg (by omega)]]; exact ⟨rfl, Or.inl ⟨by omega, hM⟩⟩)
    · refine v_ald0 (pc := 22) dX5_actsReset_22 ?_
      refine v_ild2 (pc := 23) dX5_actsReset_23 ?_
      refine v_ci0 (pc := 24) (v_runV1 okX5_refuses rfl (sp_X5_refuses hM (by omega)) dX5_actsReset_24 (lw_all_tbl q2359) (lw_all_tbl q2361) (lw_all_tbl qs91) rfl (mw_obj hM) (Nat.le_of_ble_eq_true rfl) ⟨Nat.zero_le _, Nat.zero_le _⟩ (Nat.le_of_ble_eq_true rfl)) (fun x24 h ⟨ex24, hM⟩ => ?_)
      subst ex24
      refine v_ret_n (pc := 27) dX5_actsReset_27 rfl ?_
      first | exact qi_ok (by have e : (rReset now z) = 0 := (by rw [rReset]; (repeat (any_goals split)) <;> omega); rw [e]; exact ⟨rfl, Or.inr ⟨rfl, hM⟩⟩) | first | exact qi_ok (by rw [show (rReset now z) = 7 by rw [rReset, if_pos (by omega)]]; exact ⟨rfl, Or.inl ⟨by omega, hM⟩⟩) | exact qi_ok (by rw [show (rReset now z) = (if now (1706 + 13 * z + 0) = -1 then 3 else if 0 < mLivIn now z (now 7) then 4 else 0) by rw [rReset, if_neg (by omega)]]; exact ⟨rfl, Or.inl ⟨by omega, hM⟩⟩)
