/-! FlashZonesModel: walks, 7 (printed by gen) -/
set_option maxRecDepth 100000
theorem sp_X5_actsBury {Γ : Cx} {t : Nat} {α : Nat → Nat} {h0 h : AH} {thrown : Int} {now : Int → Int} {aside : Int → Int} {tried : Int → Int} {undos : Int → Int} {undoMany : Int} {saved : Int → Int} {isSaved : Int → Int} {accounts : Int → Int} {way : Int} {leftOut : Int} {here : Int → Int} {text : Int → Int} {length : Int} {atp : Int} {frm : Int} {token : Int} {number : Int} {error : Int} {errorAt : Int} {commands : Int} {command : Int → Int} {out : Int → Int} {outLong : Int} {c : Int} {z : Int} (hM : MW t α h0 h thrown now aside tried undos undoMany saved isSaved accounts way leftOut here text length atp frm token number error errorAt commands command out outLong) (hR : ROK now c) (hum : 0 ≤ undoMany ∧ undoMany ≤ 8) (hw5 : way = 5) (hz : 0 ≤ z ∧ z ≤ 11) (hc : c + 200 ≤ 14000000) : Sp Γ yX5_actsBury mX5_actsBury 9 0 0 [.ref (α 0), vi z] h (Qi (fun x h' => x = (rBury now aside way z) ∧ ∃ tr, ((0 < (rBury now aside way z) ∧ MW t α h0 h' thrown now aside tr undos undoMany saved isSaved ((upi accounts ((rBury now aside way z)) (accounts ((rBury now aside way z)) + 1))) way leftOut here text length atp frm token number error errorAt commands command out outLong) ∨ ((rBury now aside way z) = 0 ∧ MW t α h0 h' thrown (((mBuries (mHist now 3 z (-1) (-1)) aside way z).getD (mHist now 3 z (-1) (-1)))) aside tr ((kUndos now undos undoMany)) ((kMany undoMany)) saved isSaved ((upi accounts 0 (accounts 0 + 1))) way leftOut here text length atp frm token number error errorAt commands command out outLong)))) NoX := by
  refine sp_of okX5_actsBury (cat_all rfl) (Nat.le_of_ble_eq_true rfl) rfl ?_
  have h11 := hR.s11
  have h7 := hR.s7
  have hs0 := hR.s0
  have hc0 := hR.c0
  have hzw := hR.zW z hz
  refine v_ald0 (pc := 0) dX5_actsBury_0 ?_
  refine v_cb0 (pc := 1) (v_runV0 okX5_isLong rfl (sp_X5_isLong hM (by omega)) dX5_actsBury_1 (lw_all_tbl q2355) (lw_all_tbl q2357) (lw_all_tbl qs90) rfl (mw_obj hM) (Nat.le_of_ble_eq_true rfl) ⟨Nat.zero_le _, Nat.zero_le _⟩ (Nat.le_of_ble_eq_true rfl)) (fun c1 => ?_) (fun c1 => ?_)
  · refine v_if_eq1 (pc := 4) (tgt := 12) dX5_actsBury_4 rfl ?_
    refine v_bipush (pc := 7) dX5_actsBury_7 ⟨by decide, by decide⟩ ?_
    refine v_goto (pc := 9) (tgt := 38) dX5_actsBury_9 rfl ?_
    refine v_ist2 (pc := 38) dX5_actsBury_38 rfl ?_
    refine v_ild2 (pc := 39) dX5_actsBury_39 ?_
    refine v_if_le (pc := 40) (tgt := 49) dX5_actsBury_40 rfl (by omega) (fun c => absurd c (by decide)) (fun _ => ?_)
    refine v_ald0 (pc := 43) dX5_actsBury_43 ?_
    refine v_ild2 (pc := 44) dX5_actsBury_44 ?_
    refine v_ci0 (pc := 45) (v_runV1 okX5_refuses rfl (sp_X5_refuses hM (by omega)) dX5_actsBury_45 (lw_all_tbl q2359) (lw_all_tbl q2361) (lw_all_tbl qs91) rfl (mw_obj hM) (Nat.le_of_ble_eq_true rfl) ⟨Nat.zero_le _, Nat.zero_le _⟩ (Nat.le_of_ble_eq_true rfl)) (fun x45 h ⟨ex45, hM⟩ => ?_)
    subst ex45
    refine v_ret_n (pc := 48) dX5_actsBury_48 rfl ?_
    first | exact qi_ok (by rw [show (rBury now aside way z) = 7 by rw [rBury, if_pos (by omega)]]; exact ⟨rfl, _, Or.inl ⟨by omega, hM⟩⟩) | exact qi_ok (by rw [show (rBury now aside way z) = 3 by rw [rBury, if_neg (by omega), if_pos (by omega), if_pos (by omega)]]; exact ⟨rfl, _, Or.inl ⟨by omega, hM⟩⟩) | exact qi_ok (by rw [show (rBury now aside way z) = 5 by rw [rBury, if_neg (by omega), if_pos (by omega), if_neg (by omega)]]; exact ⟨rfl, _, Or.inl ⟨by omega, hM⟩⟩)
  · refine v_if_eq0 (pc := 4) (tgt := 12) dX5_actsBury_4 rfl ?_
    refine v_ald0 (pc := 12) dX5_actsBury_12 ?_
    refine v_ild1 (pc := 13) dX5_actsBury_13 ?_
    refine v_ci0 (pc := 14) (v_runV1 okX5_toBuryOf rfl (sp_X5_toBuryOf (ca := 0) hM hR hz (by omega) (fun q => by omega) (by omega)) dX5_actsBury_14 (lw_all_tbl q2395) (lw_all_tbl q2397) (lw_all_tbl qs97) rfl (mw_obj hM) (Nat.le_of_ble_eq_true rfl) ⟨Nat.zero_le _, Nat.zero_le _⟩ (Nat.le_of_ble_eq_true rfl)) (fun x14 h ⟨ex14, tried, hM⟩ => ?_)
    subst ex14
    refine v_iconst (pc := 17) dX5_actsBury_17 ?_
    refine v_icmp_ne (pc := 18) (tgt := 37) dX5_actsBury_18 rfl (by have hqq := mToBury_r (as := aside) (way := way) hR hz (by omega); omega) (by omega) (fun c18 => ?_) (fun c18 => ?_)
    · refine v_iconst (pc := 37) dX5_actsBury_37 ?_
      refine v_ist2 (pc := 38) dX5_actsBury_38 rfl ?_
      refine v_ild2 (pc := 39) dX5_actsBury_39 ?_
      refine v_if_le (pc := 40) (tgt := 49) dX5_actsBury_40 rfl (by omega) (fun _ => ?_) (fun c => absurd c (by decide))
      refine v_ald0 (pc := 49) dX5_actsBury_49 ?_
      refine v_iconst (pc := 50) dX5_actsBury_50 ?_
      refine v_ild1 (pc := 51) dX5_actsBury_51 ?_
      refine v_iconst (pc := 52) dX5_actsBury_52 ?_
      refine v_iconst (pc := 53) dX5_actsBury_53 ?_
      refine v_ci0 (pc := 54) (v_runV4 okX5_does rfl (sp_X5_does hM (by omega) (by omega)) dX5_actsBury_54 (lw_all_tbl q2363) (lw_all_tbl q2365) (lw_all_tbl qs92) rfl (mw_obj hM) (Nat.le_of_ble_eq_true rfl) ⟨Nat.zero_le _, Nat.zero_le _⟩ (Nat.le_of_ble_eq_true rfl)) (fun x54 h ⟨ex54, hM⟩ => ?_)
      subst ex54
      refine v_ist3 (pc := 57) dX5_actsBury_57 rfl ?_
      refine v_ald0 (pc := 58) dX5_actsBury_58 ?_
      refine v_ild1 (pc := 59) dX5_actsBury_59 ?_
      refine v_ci0 (pc := 60) (v_runV1 okX5_buries rfl (sp_X5_buries (ca := 0) hM (mHist_ok hR (by omega)) hz (by omega) (fun q => by omega) (by omega)) dX5_actsBury_60 (lw_all_tbl q2320) (lw_all_tbl q2322) (lw_all_tbl qs85) rfl (mw_obj hM) (Nat.le_of_ble_eq_true rfl) ⟨Nat.zero_le _, Nat.zero_le _⟩ (Nat.le_of_ble_eq_true rfl)) (fun x60 h hq60 => ?_)
      rcases hq60 with ⟨ex60, w', c60, hM⟩ | ⟨ex60, c60, hM⟩ <;> subst ex60
      · refine v_ist4 (pc := 63) dX5_actsBury_63 rfl ?_
        refine v_ild3 (pc := 65) dX5_actsBury_65 ?_
        refine v_ret_n (pc := 66) dX5_actsBury_66 rfl ?_
        exact qi_ok (by have e : (rBury now aside way z) = 0 := (by rw [rBury, if_neg (by omega), if_neg (by omega)]); rw [e, c60]; exact ⟨rfl, _, Or.inr ⟨rfl, hM⟩⟩)
      · refine v_ist4 (pc := 63) dX5_actsBury_63 rfl ?_
        refine v_ild3 (pc := 65) dX5_actsBury_65 ?_
        refine v_ret_n (pc := 66) dX5_actsBury_66 rfl ?_
        exact qi_ok (by have e : (rBury now aside way z) = 0 := (by rw [rBury, if_neg (by omega), if_neg (by omega)]); rw [e, c60]; exact ⟨rfl, _, Or.inr ⟨rfl, hM⟩⟩)
    · refine v_ald0 (pc := 21) dX5_actsBury_21 ?_
      refine v_ild1 (pc := 22) dX5_actsBury_22 ?_
      refine v_cb0 (pc := 23) (v_runV1 okX5_isFree rfl (sp_X5_isFree hM (by omega) (by omega)) dX5_actsBury_23 (lw_all_tbl q2115) (lw_all_tbl q2117) (lw_all_tbl qs53) rfl (mw_obj hM) (Nat.le_of_ble_eq_true rfl) ⟨Nat.zero_le _, Nat.zero_le _⟩ (Nat.le_of_ble_eq_true rfl)) (fun c23 => ?_) (fun c23 => ?_)
      · refine v_if_eq1 (pc := 26) (tgt := 33) dX5_actsBury_26 rfl ?_
        refine v_iconst (pc := 29) dX5_actsBury_29 ?_
        refine v_goto (pc := 30) (tgt := 38) dX5_actsBury_30 rfl ?_
        refine v_ist2 (pc := 38) dX5_actsBury_38 rfl ?_
        refine v_ild2 (pc := 39) dX5_actsBury_39 ?_
        refine v_if_le (pc := 40) (tgt := 49) dX5_actsBury_40 rfl (by omega) (fun c => absurd c (by decide)) (fun _ => ?_)
        refine v_ald0 (pc := 43) dX5_actsBury_43 ?_
        refine v_ild2 (pc := 44) dX5_actsBury_44 ?_
        refine v_ci0 (pc := 45) (v_runV1 okX5_refuses rfl (sp_X5_refuses hM (by omega)) dX5_actsBury_45 (lw_all_tbl q2359) (lw_all_tbl q2361) (lw_all_tbl qs91) rfl (mw_obj hM) (Nat.le_of_ble_eq_true rfl) ⟨Nat.zero_le _, Nat.zero_le _⟩ (Nat.le_of_ble_eq_true rfl)) (fun x45 h ⟨ex45, hM⟩ => ?_)
        subst ex45
        refine v_ret_n (pc := 48) dX5_actsBury_48 rfl ?_
        first | exact qi_ok (by rw [show (rBury now aside way z) = 7 by rw [rBury, if_pos (by omega)]]; exact ⟨rfl, _, Or.inl ⟨by omega, hM⟩⟩) | exact qi_ok (by rw [show (rBury now aside way z) = 3 by rw [rBury, if_neg (by omega), if_pos (by omega), if_pos (by omega)]]; exact ⟨rfl, _, Or.inl ⟨by omega, hM⟩⟩) | exact qi_ok (by rw [show (rBury now aside way z) = 5 by rw [rBury, if_neg (by omega), if_pos (by omega), if_neg (by omega)]]; exact ⟨rfl, _, Or.inl ⟨by omega, hM⟩⟩)
      · refine v_if_eq0 (pc := 26) (tgt := 33) dX5_actsBury_26 rfl ?_
        refine v_iconst (pc := 33) dX5_actsBury_33 ?_
        refine v_goto (pc := 34) (tgt := 38) dX5_actsBury_34 rfl ?_
        refine v_ist2 (pc := 38) dX5_actsBury_38 rfl ?_
        refine v_ild2 (pc := 39) dX5_actsBury_39 ?_
        refine v_if_le (pc := 40) (tgt := 49) dX5_actsBury_40 rfl (by omega) (fun c => absurd c (by decide)) (fun _ => ?_)
        refine v_ald0 (pc := 43) dX5_actsBury_43 ?_
        refine v_ild2 (pc := 44) dX5_actsBury_44 ?_
        refine v_ci0 (pc := 45) (v_runV1 okX5_refuses rfl (sp_X5_refuses hM (by omega)) dX5_actsBury_45 (lw_all_tbl q2359) (lw_all_tbl q2361) (lw_all_tbl qs91) rfl (mw_obj hM) (Nat.le_of_ble_eq_true rfl) ⟨Nat.zero_le _, Nat.zero_le _⟩ (Nat.le_of_ble_eq_true rfl)) (fun x45 h ⟨ex45, hM⟩ => ?_)
        subst ex45
        refine v_ret_n (pc := 48) dX5_actsBury_48 rfl ?_
        first | exact qi_ok (by rw [show (rBury now aside way z) = 7 by rw [rBury, if_pos (by omega)]]; exact ⟨rfl, _, Or.inl ⟨by omega, hM⟩⟩) | exact qi_ok (by rw [show (rBury now aside way z) = 3 by rw [rBury, if_neg (by omega), if_pos (by omega), if_pos (by omega)]]; exact ⟨rfl, _, Or.inl ⟨by omega, hM⟩⟩) | exact qi_ok (by rw [show (rBury now aside way z) = 5 by rw [rBury, if_neg (by omega), if_pos (by omega), if_neg (by omega)]]; exact ⟨rfl, _, Or.inl ⟨by omega, hM⟩⟩)
theorem sp_X5_actsDays {Γ : Cx} {t : Nat} {α : Nat → Nat} {h0 h : AH} {thrown : Int} {now : Int → Int} {aside : Int → Int} {tried : Int → Int} {undos : Int → Int} {undoMany : Int} {saved : Int → Int} {isSaved : Int → Int} {accounts : Int → Int} {way : Int} {leftOut : Int} {here : Int → Int} {text : Int → Int} {length : Int} {atp : Int} {frm : Int} {token : Int} {number : Int} {error : Int} {errorAt : Int} {commands : Int} {command : Int → Int} {out : Int → Int} {outLong : Int} {c : Int} {days : Int} (hM : MW t α h0 h thrown now aside tried undos undoMany saved isSaved accounts way leftOut here text length atp frm token number error errorAt commands command out outLong) (hR : ROK now c) (hum : 0 ≤ undoMany ∧ undoMany ≤ 8) (hw5 : way = 5) (hdays : 0 ≤ days ∧ days ≤ 60) (hc : c + 1300 * days ≤ 14000000) : Sp Γ yX5_actsDays mX5_actsDays 10 0 0 [.ref (α 0), vi days] h (Qi (fun x h' => x = (rDays now) ∧ ∃ tr, ((0 < (rDays now) ∧ MW t α h0 h' thrown now aside tr undos undoMany saved isSaved ((upi accounts ((rDays now)) (accounts ((rDays now)) + 1))) way leftOut here text length atp frm token number error errorAt commands command out outLong) ∨ ((rDays now) = 0 ∧ MW t α h0 h' thrown ((mDays (mHist now 4 days (-1) (-1)) aside way days)) aside tr ((kUndos now undos undoMany)) ((kMany undoMany)) saved isSaved ((upi accounts 0 (accounts 0 + 1))) way leftOut here text length atp frm token number error errorAt commands command out outLong)))) NoX := by
  refine sp_of okX5_actsDays (cat_all rfl) (Nat.le_of_ble_eq_true rfl) rfl ?_
  have h11 := hR.s11
  have h7 := hR.s7
  have hs0 := hR.s0
  have hc0 := hR.c0
  refine v_ald0 (pc := 0) dX5_actsDays_0 ?_
  refine v_cb0 (pc := 1) (v_runV0 okX5_isLong rfl (sp_X5_isLong hM (by omega)) dX5_actsDays_1 (lw_all_tbl q2355) (lw_all_tbl q2357) (lw_all_tbl qs90) rfl (mw_obj hM) (Nat.le_of_ble_eq_true rfl) ⟨Nat.zero_le _, Nat.zero_le _⟩ (Nat.le_of_ble_eq_true rfl)) (fun c1 => ?_) (fun c1 => ?_)
  · refine v_if_eq1 (pc := 4) (tgt := 14) dX5_actsDays_4 rfl ?_
    refine v_ald0 (pc := 7) dX5_actsDays_7 ?_
    refine v_bipush (pc := 8) dX5_actsDays_8 ⟨by decide, by decide⟩ ?_
    refine v_ci0 (pc := 10) (v_runV1 okX5_refuses rfl (sp_X5_refuses hM (by omega)) dX5_actsDays_10 (lw_all_tbl q2359) (lw_all_tbl q2361) (lw_all_tbl qs91) rfl (mw_obj hM) (Nat.le_of_ble_eq_true rfl) ⟨Nat.zero_le _, Nat.zero_le _⟩ (Nat.le_of_ble_eq_true rfl)) (fun x10 h ⟨ex10, hM⟩ => ?_)
    subst ex10
    refine v_ret_n (pc := 13) dX5_actsDays_13 rfl ?_
    first | exact qi_ok (by rw [show (rDays now) = 7 by rw [rDays, if_pos (by omega)]]; exact ⟨rfl, _, Or.inl ⟨by omega, hM⟩⟩)
  · refine v_if_eq0 (pc := 4) (tgt := 14) dX5_actsDays_4 rfl ?_
    refine v_ald0 (pc := 14) dX5_actsDays_14 ?_
    refine v_iconst (pc := 15) dX5_actsDays_15 ?_
    refine v_ild1 (pc := 16) dX5_actsDays_16 ?_
    refine v_iconst (pc := 17) dX5_actsDays_17 ?_
    refine v_iconst (pc := 18) dX5_actsDays_18 ?_
    refine v_ci0 (pc := 19) (v_runV4 okX5_does rfl (sp_X5_does hM (by omega) (by omega)) dX5_actsDays_19 (lw_all_tbl q2363) (lw_all_tbl q2365) (lw_all_tbl qs92) rfl (mw_obj hM) (Nat.le_of_ble_eq_true rfl) ⟨Nat.zero_le _, Nat.zero_le _⟩ (Nat.le_of_ble_eq_true rfl)) (fun x19 h ⟨ex19, hM⟩ => ?_)
    subst ex19
    refine v_ist2 (pc := 22) dX5_actsDays_22 rfl ?_
    refine v_ald0 (pc := 23) dX5_actsDays_23 ?_
    refine v_ild1 (pc := 24) dX5_actsDays_24 ?_
    refine v_cv0 (pc := 25) (v_runV1 okX5_passesDays rfl (sp_X5_passesDays (ca := 0) hM (mHist_ok hR (by omega)) (by omega) (fun q => by omega) hdays hc) dX5_actsDays_25 (lw_all_tbl q2324) (lw_all_tbl q2326) (lw_all_tbl qs86) rfl (mw_obj hM) (Nat.le_of_ble_eq_true rfl) ⟨Nat.zero_le _, Nat.zero_le _⟩ (Nat.le_of_ble_eq_true rfl)) (fun h ⟨tried, hM⟩ => ?_)
    refine v_ild2 (pc := 28) dX5_actsDays_28 ?_
    refine v_ret_n (pc := 29) dX5_actsDays_29 rfl ?_
    exact qi_ok (by have e : (rDays now) = 0 := (by rw [rDays, if_neg (by omega)]); rw [e]; exact ⟨rfl, _, Or.inr ⟨rfl, hM⟩⟩)
theorem sp_X5_isGuesser {Γ : Cx} {h : AH} {g : Int} (hg : -2147483648 ≤ g ∧ g ≤ 2147483647) : Sp Γ yX5_isGuesser mX5_isGuesser 2 0 0 [vi g] h (Qb (0 ≤ g ∧ g ≤ 4) h) NoX := by
  refine sp_of okX5_isGuesser (cat_all rfl) (Nat.le_of_ble_eq_true rfl) rfl ?_
  refine v_ild0 (pc := 0) dX5_isGuesser_0 ?_
  refine v_iconst (pc := 1) dX5_isGuesser_1 ?_
  refine v_iconst (pc := 2) dX5_isGuesser_2 ?_
  refine v_cb0 (pc := 3) (v_runS3 okX5_in rfl (sp_X5_in (by omega) (by omega) (by omega)) dX5_isGuesser_3 (lw_all_tbl q2079) (lw_all_tbl q2080) (Nat.le_of_ble_eq_true rfl) ⟨Nat.zero_le _, Nat.zero_le _⟩ (Nat.le_of_ble_eq_true rfl)) (fun c3 => ?_) (fun c3 => ?_)
  · refine v_ret_z1 (pc := 6) dX5_isGuesser_6 rfl ?_
    exact qb_1 (by omega)
  · refine v_ret_z0 (pc := 6) dX5_isGuesser_6 rfl ?_
    exact qb_0 (by omega)
theorem sp_X5_isKind {Γ : Cx} {h : AH} {wr sz : Int} (hwr : -2147483648 ≤ wr ∧ wr ≤ 2147483647) (hsz : -2147483648 ≤ sz ∧ sz ≤ 2147483647) : Sp Γ yX5_isKind mX5_isKind 2 0 0 [vi wr, vi sz] h (Qb ((0 ≤ wr ∧ wr ≤ 7) ∧ (1 ≤ sz ∧ sz ≤ 3)) h) NoX := by
  refine sp_of okX5_isKind (cat_all rfl) (Nat.le_of_ble_eq_true rfl) rfl ?_
  refine v_ild0 (pc := 0) dX5_isKind_0 ?_
  refine v_iconst (pc := 1) dX5_isKind_1 ?_
  refine v_bipush (pc := 2) dX5_isKind_2 ⟨by decide, by decide⟩ ?_
  refine v_cb0 (pc := 4) (v_runS3 okX5_in rfl (sp_X5_in (by omega) (by omega) (by omega)) dX5_isKind_4 (lw_all_tbl q2079) (lw_all_tbl q2080) (Nat.le_of_ble_eq_true rfl) ⟨Nat.zero_le _, Nat.zero_le _⟩ (Nat.le_of_ble_eq_true rfl)) (fun c4 => ?_) (fun c4 => ?_)
  · refine v_if_eq1 (pc := 7) (tgt := 23) dX5_isKind_7 rfl ?_
    refine v_ild1 (pc := 10) dX5_isKind_10 ?_
    refine v_iconst (pc := 11) dX5_isKind_11 ?_
    refine v_iconst (pc := 12) dX5_isKind_12 ?_
    refine v_cb0 (pc := 13) (v_runS3 okX5_in rfl (sp_X5_in (by omega) (by omega) (by omega)) dX5_isKind_13 (lw_all_tbl q2079) (lw_all_tbl q2080) (Nat.le_of_ble_eq_true rfl) ⟨Nat.zero_le _, Nat.zero_le _⟩ (Nat.le_of_ble_eq_true rfl)) (fun c13 => ?_) (fun c13 => ?_)
    · refine v_if_eq1 (pc := 16) (tgt := 23) dX5_isKind_16 rfl ?_
      refine v_iconst (pc := 19) dX5_isKind_19 ?_
      refine v_goto (pc := 20) (tgt := 24) dX5_isKind_20 rfl ?_
      refine v_ret_z1 (pc := 24) dX5_isKind_24 rfl ?_
      exact qb_1 (by omega)
    · refine v_if_eq0 (pc := 16) (tgt := 23) dX5_isKind_16 rfl ?_
      refine v_iconst (pc := 23) dX5_isKind_23 ?_
      refine v_ret_z0 (pc := 24) dX5_isKind_24 rfl ?_
      exact qb_0 (by omega)
  · refine v_if_eq0 (pc := 7) (tgt := 23) dX5_isKind_7 rfl ?_
    refine v_iconst (pc := 23) dX5_isKind_23 ?_
    refine v_ret_z0 (pc := 24) dX5_isKind_24 rfl ?_
    exact qb_0 (by omega)
theorem sp_X5_areDays {Γ : Cx} {h : AH} {days : Int} (hd : -2147483648 ≤ days ∧ days ≤ 2147483647) : Sp Γ yX5_areDays mX5_areDays 2 0 0 [vi days] h (Qb (1 ≤ days ∧ days ≤ 60) h) NoX := by
  refine sp_of okX5_areDays (cat_all rfl) (Nat.le_of_ble_eq_true rfl) rfl ?_
  refine v_ild0 (pc := 0) dX5_areDays_0 ?_
  refine v_iconst (pc := 1) dX5_areDays_1 ?_
  refine v_bipush (pc := 2) dX5_areDays_2 ⟨by decide, by decide⟩ ?_
  refine v_cb0 (pc := 4) (v_runS3 okX5_in rfl (sp_X5_in (by omega) (by omega) (by omega)) dX5_areDays_4 (lw_all_tbl q2079) (lw_all_tbl q2080) (Nat.le_of_ble_eq_true rfl) ⟨Nat.zero_le _, Nat.zero_le _⟩ (Nat.le_of_ble_eq_true rfl)) (fun c4 => ?_) (fun c4 => ?_)
  · refine v_ret_z1 (pc := 7) dX5_areDays_7 rfl ?_
    exact qb_1 (by omega)
  · refine v_ret_z0 (pc := 7) dX5_areDays_7 rfl ?_
    exact qb_0 (by omega)
theorem sp_X5_isZone {Γ : Cx} {t : Nat} {α : Nat → Nat} {h0 h : AH} {thrown : Int} {now : Int → Int} {aside : Int → Int} {tried : Int → Int} {undos : Int → Int} {undoMany : Int} {saved : Int → Int} {isSaved : Int → Int} {accounts : Int → Int} {way : Int} {leftOut : Int} {here : Int → Int} {text : Int → Int} {length : Int} {atp : Int} {frm : Int} {token : Int} {number : Int} {error : Int} {errorAt : Int} {commands : Int} {command : Int → Int} {out : Int → Int} {outLong : Int} {c : Int} {z : Int} (hM : MW t α h0 h thrown now aside tried undos undoMany saved isSaved accounts way leftOut here text length atp frm token number error errorAt commands command out outLong) (hR : ROK now c) (hz : -2147483648 ≤ z ∧ z ≤ 2147483647) : Sp Γ yX5_isZone mX5_isZone 2 0 0 [.ref (α 0), vi z] h (Qb (0 ≤ z ∧ z < now 0) h) NoX := by
  refine sp_of okX5_isZone (cat_all rfl) (Nat.le_of_ble_eq_true rfl) rfl ?_
  have hs0 := hR.s0
  refine v_ild1 (pc := 0) dX5_isZone_0 ?_
  refine v_iconst (pc := 1) dX5_isZone_1 ?_
  refine v_ald0 (pc := 2) dX5_isZone_2 ?_
  refine v_getf KX5 1 (pc := 3) dX5_isZone_3 (lw_all_tbl q1995) (Or.inl rfl) (Nat.le_of_ble_eq_true rfl) (mw_obj hM) rfl ?_
  refine v_iconst (pc := 6) dX5_isZone_6 ?_
  refine v_ldM_now hM (pc := 7) dX5_isZone_7 (by omega) ?_
  refine v_iconst (pc := 8) dX5_isZone_8 ?_
  refine v_isub (pc := 9) dX5_isZone_9 ?_
  refine v_cb0 (pc := 10) (v_runS3 okX5_in rfl (sp_X5_in (by omega) (by omega) (by omega)) dX5_isZone_10 (lw_all_tbl q2079) (lw_all_tbl q2080) (Nat.le_of_ble_eq_true rfl) ⟨Nat.zero_le _, Nat.zero_le _⟩ (Nat.le_of_ble_eq_true rfl)) (fun c10 => ?_) (fun c10 => ?_)
  · refine v_ret_z1 (pc := 13) dX5_isZone_13 rfl ?_
    exact qb_1 (by omega)
  · refine v_ret_z0 (pc := 13) dX5_isZone_13 rfl ?_
    exact qb_0 (by omega)
theorem sp_X5_isUnit {Γ : Cx} {t : Nat} {α : Nat → Nat} {h0 h : AH} {thrown : Int} {now : Int → Int} {aside : Int → Int} {tried : Int → Int} {undos : Int → Int} {undoMany : Int} {saved : Int → Int} {isSaved : Int → Int} {accounts : Int → Int} {way : Int} {leftOut : Int} {here : Int → Int} {text : Int → Int} {length : Int} {atp : Int} {frm : Int} {token : Int} {number : Int} {error : Int} {errorAt : Int} {commands : Int} {command : Int → Int} {out : Int → Int} {outLong : Int} {c : Int} {u : Int} (hM : MW t α h0 h thrown now aside tried undos undoMany saved isSaved accounts way leftOut here text length atp frm token number error errorAt commands command out outLong) (hR : ROK now c) (hu : -2147483648 ≤ u ∧ u ≤ 2147483647) : Sp Γ yX5_isUnit mX5_isUnit 2 0 0 [.ref (α 0), vi u] h (Qb (0 ≤ u ∧ u < now 7) h) NoX := by
  refine sp_of okX5_isUnit (cat_all rfl) (Nat.le_of_ble_eq_true rfl) rfl ?_
  have h7 := hR.s7
  refine v_ild1 (pc := 0) dX5_isUnit_0 ?_
  refine v_iconst (pc := 1) dX5_isUnit_1 ?_
  refine v_ald0 (pc := 2) dX5_isUnit_2 ?_
  refine v_getf KX5 1 (pc := 3) dX5_isUnit_3 (lw_all_tbl q1995) (Or.inl rfl) (Nat.le_of_ble_eq_true rfl) (mw_obj hM) rfl ?_
  refine v_bipush (pc := 6) dX5_isUnit_6 ⟨by decide, by decide⟩ ?_
  refine v_ldM_now hM (pc := 8) dX5_isUnit_8 (by omega) ?_
  refine v_iconst (pc := 9) dX5_isUnit_9 ?_
  refine v_isub (pc := 10) dX5_isUnit_10 ?_
  refine v_cb0 (pc := 11) (v_runS3 okX5_in rfl (sp_X5_in (by omega) (by omega) (by omega)) dX5_isUnit_11 (lw_all_tbl q2079) (lw_all_tbl q2080) (Nat.le_of_ble_eq_true rfl) ⟨Nat.zero_le _, Nat.zero_le _⟩ (Nat.le_of_ble_eq_true rfl)) (fun c11 => ?_) (fun c11 => ?_)
  · refine v_ret_z1 (pc := 14) dX5_isUnit_14 rfl ?_
    exact qb_1 (by omega)
  · refine v_ret_z0 (pc := 14) dX5_isUnit_14 rfl ?_
    exact qb_0 (by omega)
theorem sp_X5_lowOf {Γ : Cx} {h : AH} {k : Int} (hk : -2147483648 ≤ k ∧ k ≤ 2147483647) : Sp Γ yX5_lowOf mX5_lowOf 1 0 0 [vi k] h (Qe (mLow k) h) NoX := by
  refine sp_of okX5_lowOf (cat_all rfl) (Nat.le_of_ble_eq_true rfl) rfl ?_
  refine v_ild0 (pc := 0) dX5_lowOf_0 ?_
  refine v_if_ne (pc := 1) (tgt := 8) dX5_lowOf_1 rfl (by omega) (fun c1 => ?_) (fun c1 => ?_)
  · refine v_ild0 (pc := 8) dX5_lowOf_8 ?_
    refine v_iconst (pc := 9) dX5_lowOf_9 ?_
    refine v_icmp_ne (pc := 10) (tgt := 17) dX5_lowOf_10 rfl (by omega) (by omega) (fun c10 => ?_) (fun c10 => ?_)
    · refine v_ild0 (pc := 17) dX5_lowOf_17 ?_
      refine v_iconst (pc := 18) dX5_lowOf_18 ?_
      refine v_icmp_eq (pc := 19) (tgt := 27) dX5_lowOf_19 rfl (by omega) (by omega) (fun c19 => ?_) (fun c19 => ?_)
      · refine v_iconst (pc := 27) dX5_lowOf_27 ?_
        refine v_goto (pc := 28) (tgt := 32) dX5_lowOf_28 rfl ?_
        refine v_ret_n (pc := 32) dX5_lowOf_32 rfl ?_
        exact qe_ok (by unfold mLow; (repeat (any_goals split)) <;> omega)
      · refine v_ild0 (pc := 22) dX5_lowOf_22 ?_
        refine v_iconst (pc := 23) dX5_lowOf_23 ?_
        refine v_icmp_ne (pc := 24) (tgt := 31) dX5_lowOf_24 rfl (by omega) (by omega) (fun c24 => ?_) (fun c24 => ?_)
        · refine v_iconst (pc := 31) dX5_lowOf_31 ?_
          refine v_ret_n (pc := 32) dX5_lowOf_32 rfl ?_
          exact qe_ok (by unfold mLow; (repeat (any_goals split)) <;> omega)
        · refine v_iconst (pc := 27) dX5_lowOf_27 ?_
          refine v_goto (pc := 28) (tgt := 32) dX5_lowOf_28 rfl ?_
          refine v_ret_n (pc := 32) dX5_lowOf_32 rfl ?_
          exact qe_ok (by unfold mLow; (repeat (any_goals split)) <;> omega)
    · refine v_iconst (pc := 13) dX5_lowOf_13 ?_
      refine v_goto (pc := 14) (tgt := 32) dX5_lowOf_14 rfl ?_
      refine v_ret_n (pc := 32) dX5_lowOf_32 rfl ?_
      exact qe_ok (by unfold mLow; (repeat (any_goals split)) <;> omega)
  · refine v_iconst (pc := 4) dX5_lowOf_4 ?_
    refine v_goto (pc := 5) (tgt := 32) dX5_lowOf_5 rfl ?_
    refine v_ret_n (pc := 32) dX5_lowOf_32 rfl ?_
    exact qe_ok (by unfold mLow; (repeat (any_goals split)) <;> omega)
theorem sp_X5_highOf {Γ : Cx} {h : AH} {k : Int} (hk : -2147483648 ≤ k ∧ k ≤ 2147483647) : Sp Γ yX5_highOf mX5_highOf 1 0 0 [vi k] h (Qe (mHigh k) h) NoX := by
  refine sp_of okX5_highOf (cat_all rfl) (Nat.le_of_ble_eq_true rfl) rfl ?_
  refine v_ild0 (pc := 0) dX5_highOf_0 ?_
  refine v_if_ne (pc := 1) (tgt := 9) dX5_highOf_1 rfl (by omega) (fun c1 => ?_) (fun c1 => ?_)
  · refine v_ild0 (pc := 9) dX5_highOf_9 ?_
    refine v_iconst (pc := 10) dX5_highOf_10 ?_
    refine v_icmp_ne (pc := 11) (tgt := 19) dX5_highOf_11 rfl (by omega) (by omega) (fun c11 => ?_) (fun c11 => ?_)
    · refine v_ild0 (pc := 19) dX5_highOf_19 ?_
      refine v_iconst (pc := 20) dX5_highOf_20 ?_
      refine v_icmp_ne (pc := 21) (tgt := 29) dX5_highOf_21 rfl (by omega) (by omega) (fun c21 => ?_) (fun c21 => ?_)
      · refine v_ild0 (pc := 29) dX5_highOf_29 ?_
        refine v_iconst (pc := 30) dX5_highOf_30 ?_
        refine v_icmp_ne (pc := 31) (tgt := 39) dX5_highOf_31 rfl (by omega) (by omega) (fun c31 => ?_) (fun c31 => ?_)
        · refine v_ild0 (pc := 39) dX5_highOf_39 ?_
          refine v_iconst (pc := 40) dX5_highOf_40 ?_
          refine v_icmp_ne (pc := 41) (tgt := 49) dX5_highOf_41 rfl (by omega) (by omega) (fun c41 => ?_) (fun c41 => ?_)
          · refine v_bipush (pc := 49) dX5_highOf_49 ⟨by decide, by decide⟩ ?_
            refine v_ret_n (pc := 51) dX5_highOf_51 rfl ?_
            exact qe_ok (by unfold mHigh; (repeat (any_goals split)) <;> omega)
          · refine v_bipush (pc := 44) dX5_highOf_44 ⟨by decide, by decide⟩ ?_
            refine v_goto (pc := 46) (tgt := 51) dX5_highOf_46 rfl ?_
            refine v_ret_n (pc := 51) dX5_highOf_51 rfl ?_
            exact qe_ok (by unfold mHigh; (repeat (any_goals split)) <;> omega)
        · refine v_bipush (pc := 34) dX5_highOf_34 ⟨by decide, by decide⟩ ?_
          refine v_goto (pc := 36) (tgt := 51) dX5_highOf_36 rfl ?_
          refine v_ret_n (pc := 51) dX5_highOf_51 rfl ?_
          exact qe_ok (by unfold mHigh; (repeat (any_goals split)) <;> omega)
      · refine v_bipush (pc := 24) dX5_highOf_24 ⟨by decide, by decide⟩ ?_
        refine v_goto (pc := 26) (tgt := 51) dX5_highOf_26 rfl ?_
        refine v_ret_n (pc := 51) dX5_highOf_51 rfl ?_
        exact qe_ok (by unfold mHigh; (repeat (any_goals split)) <;> omega)
    · refine v_bipush (pc := 14) dX5_highOf_14 ⟨by decide, by decide⟩ ?_
      refine v_goto (pc := 16) (tgt := 51) dX5_highOf_16 rfl ?_
      refine v_ret_n (pc := 51) dX5_highOf_51 rfl ?_
      exact qe_ok (by unfold mHigh; (repeat (any_goals split)) <;> omega)
  · refine v_bipush (pc := 4) dX5_highOf_4 ⟨by decide, by decide⟩ ?_
    refine v_goto (pc := 6) (tgt := 51) dX5_highOf_6 rfl ?_
    refine v_ret_n (pc := 51) dX5_highOf_51 rfl ?_
    exact qe_ok (by unfold mHigh; (repeat (any_goals split)) <;> omega)
theorem sp_X5_binOf {Γ : Cx} {h : AH} {l : Int} (hl : -2147483648 ≤ l ∧ l ≤ 2147483647) : Sp Γ yX5_binOf mX5_binOf 1 0 0 [vi l] h (Qe (mBin l) h) NoX := by
  refine sp_of okX5_binOf (cat_all rfl) (Nat.le_of_ble_eq_true rfl) rfl ?_
  refine v_ild0 (pc := 0) dX5_binOf_0 ?_
  refine v_if_ne (pc := 1) (tgt := 8) dX5_binOf_1 rfl (by omega) (fun c1 => ?_) (fun c1 => ?_)
  · refine v_ild0 (pc := 8) dX5_binOf_8 ?_
    refine v_iconst (pc := 9) dX5_binOf_9 ?_
    refine v_icmp_ge (pc := 10) (tgt := 17) dX5_binOf_10 rfl (by omega) (by omega) (fun c10 => ?_) (fun c10 => ?_)
    · refine v_ild0 (pc := 17) dX5_binOf_17 ?_
      refine v_bipush (pc := 18) dX5_binOf_18 ⟨by decide, by decide⟩ ?_
      refine v_icmp_ge (pc := 20) (tgt := 27) dX5_binOf_20 rfl (by omega) (by omega) (fun c20 => ?_) (fun c20 => ?_)
      · refine v_ild0 (pc := 27) dX5_binOf_27 ?_
        refine v_bipush (pc := 28) dX5_binOf_28 ⟨by decide, by decide⟩ ?_
        refine v_icmp_ge (pc := 30) (tgt := 37) dX5_binOf_30 rfl (by omega) (by omega) (fun c30 => ?_) (fun c30 => ?_)
        · refine v_ild0 (pc := 37) dX5_binOf_37 ?_
          refine v_bipush (pc := 38) dX5_binOf_38 ⟨by decide, by decide⟩ ?_
          refine v_icmp_ge (pc := 40) (tgt := 47) dX5_binOf_40 rfl (by omega) (by omega) (fun c40 => ?_) (fun c40 => ?_)
          · refine v_iconst (pc := 47) dX5_binOf_47 ?_
            refine v_ret_n (pc := 48) dX5_binOf_48 rfl ?_
            exact qe_ok (by unfold mBin; (repeat (any_goals split)) <;> omega)
          · refine v_iconst (pc := 43) dX5_binOf_43 ?_
            refine v_goto (pc := 44) (tgt := 48) dX5_binOf_44 rfl ?_
            refine v_ret_n (pc := 48) dX5_binOf_48 rfl ?_
            exact qe_ok (by unfold mBin; (repeat (any_goals split)) <;> omega)
        · refine v_iconst (pc := 33) dX5_binOf_33 ?_
          refine v_goto (pc := 34) (tgt := 48) dX5_binOf_34 rfl ?_
          refine v_ret_n (pc := 48) dX5_binOf_48 rfl ?_
          exact qe_ok (by unfold mBin; (repeat (any_goals split)) <;> omega)
      · refine v_iconst (pc := 23) dX5_binOf_23 ?_
        refine v_goto (pc := 24) (tgt := 48) dX5_binOf_24 rfl ?_
        refine v_ret_n (pc := 48) dX5_binOf_48 rfl ?_
        exact qe_ok (by unfold mBin; (repeat (any_goals split)) <;> omega)
    · refine v_iconst (pc := 13) dX5_binOf_13 ?_
      refine v_goto (pc := 14) (tgt := 48) dX5_binOf_14 rfl ?_
      refine v_ret_n (pc := 48) dX5_binOf_48 rfl ?_
      exact qe_ok (by unfold mBin; (repeat (any_goals split)) <;> omega)
  · refine v_iconst (pc := 4) dX5_binOf_4 ?_
    refine v_goto (pc := 5) (tgt := 48) dX5_binOf_5 rfl ?_
    refine v_ret_n (pc := 48) dX5_binOf_48 rfl ?_
    exact qe_ok (by unfold mBin; (repeat (any_goals split)) <;> omega)
theorem sp_X5_livingUnits {Γ : Cx} {t : Nat} {α : Nat → Nat} {h0 h : AH} {thrown : Int} {now : Int → Int} {aside : Int → Int} {tried : Int → Int} {undos : Int → Int} {undoMany : Int} {saved : Int → Int} {isSaved : Int → Int} {accounts : Int → Int} {way : Int} {leftOut : Int} {here : Int → Int} {text : Int → Int} {length : Int} {atp : Int} {frm : Int} {token : Int} {number : Int} {error : Int} {errorAt : Int} {commands : Int} {command : Int → Int} {out : Int → Int} {outLong : Int} {c : Int}  (hM : MW t α h0 h thrown now aside tried undos undoMany saved isSaved accounts way leftOut here text length atp frm token number error errorAt commands command out outLong) (hR : ROK now c) : Sp Γ yX5_livingUnits mX5_livingUnits 4 0 0 [.ref (α 0)] h (Qe (mLivU now (now 7)) h) NoX := by
  refine sp_of okX5_livingUnits (cat_all rfl) (Nat.le_of_ble_eq_true rfl) rfl ?_
  have h7 := hR.s7
  have L4 : ∀ (n9 : Nat) (n : Int) (u : Int), (now 7 - u).toNat = n9 → (0 ≤ u ∧ u ≤ now 7) → (n = mLivU now u) → V Γ mX5_livingUnits 4 0 0 (Qe (mLivU now (now 7)) h) (NoX) h 0 0 4 [some (.ref (α 0)), some (vi n), some (vi u)] [] := by
    intro n9
    induction n9 using Nat.strongRecOn with
    | _ n9 ih =>
      intro n u hn9 hu hn
      refine v_ild2 (pc := 4) dX5_livingUnits_4 ?_
      refine v_ald0 (pc := 5) dX5_livingUnits_5 ?_
      refine v_getf KX5 1 (pc := 6) dX5_livingUnits_6 (lw_all_tbl q1995) (Or.inl rfl) (Nat.le_of_ble_eq_true rfl) (mw_obj hM) rfl ?_
      refine v_bipush (pc := 9) dX5_livingUnits_9 ⟨by decide, by decide⟩ ?_
      refine v_ldM_now hM (pc := 11) dX5_livingUnits_11 (by omega) ?_
      refine v_icmp_ge (pc := 12) (tgt := 37) dX5_livingUnits_12 rfl (by omega) (by omega) (fun c12 => ?_) (fun c12 => ?_)
      · refine v_ild1 (pc := 37) dX5_livingUnits_37 ?_
        refine v_ret_n (pc := 38) dX5_livingUnits_38 rfl ?_
        exact qe_ok (by rw [hn, show u = now 7 by omega])
      · have hl := hR.uLv u ⟨by omega, by omega⟩
        refine v_ild1 (pc := 15) dX5_livingUnits_15 ?_
        refine v_ald0 (pc := 16) dX5_livingUnits_16 ?_
        refine v_ild2 (pc := 17) dX5_livingUnits_17 ?_
        refine v_cb0 (pc := 18) (v_runV1 okX5_lives rfl (sp_X5_lives hM (by omega) (by omega)) dX5_livingUnits_18 (lw_all_tbl q2100) (lw_all_tbl q2102) (lw_all_tbl qs50) rfl (mw_obj hM) (Nat.le_of_ble_eq_true rfl) ⟨Nat.zero_le _, Nat.zero_le _⟩ (Nat.le_of_ble_eq_true rfl)) (fun c18 => ?_) (fun c18 => ?_)
        · refine v_if_eq1 (pc := 21) (tgt := 28) dX5_livingUnits_21 rfl ?_
          refine v_iconst (pc := 24) dX5_livingUnits_24 ?_
          refine v_goto (pc := 25) (tgt := 29) dX5_livingUnits_25 rfl ?_
          refine v_iadd (pc := 29) dX5_livingUnits_29 ?_
          refine v_ist1 (pc := 30) dX5_livingUnits_30 rfl ?_
          refine v_iinc2 (pc := 31) dX5_livingUnits_31 rfl ?_
          refine v_goto (pc := 34) (tgt := 4) dX5_livingUnits_34 rfl ?_
          exact ih _ (by omega) _ _ rfl (by omega) (by rw [mLivU_s (by omega), ← hn]; split <;> omega)
        · refine v_if_eq0 (pc := 21) (tgt := 28) dX5_livingUnits_21 rfl ?_
          refine v_iconst (pc := 28) dX5_livingUnits_28 ?_
          refine v_iadd (pc := 29) dX5_livingUnits_29 ?_
          refine v_ist1 (pc := 30) dX5_livingUnits_30 rfl ?_
          refine v_iinc2 (pc := 31) dX5_livingUnits_31 rfl ?_
          refine v_goto (pc := 34) (tgt := 4) dX5_livingUnits_34 rfl ?_
          exact ih _ (by omega) _ _ rfl (by omega) (by rw [mLivU_s (by omega), ← hn]; split <;> omega)
  refine v_iconst (pc := 0) dX5_livingUnits_0 ?_
  refine v_ist1 (pc := 1) dX5_livingUnits_1 rfl ?_
  refine v_iconst (pc := 2) dX5_livingUnits_2 ?_
  refine v_ist2 (pc := 3) dX5_livingUnits_3 rfl ?_
  exact L4 _ _ _ rfl (by omega) rfl
theorem sp_X5_freeZones {Γ : Cx} {t : Nat} {α : Nat → Nat} {h0 h : AH} {thrown : Int} {now : Int → Int} {aside : Int → Int} {tried : Int → Int} {undos : Int → Int} {undoMany : Int} {saved : Int → Int} {isSaved : Int → Int} {accounts : Int → Int} {way : Int} {leftOut : Int} {here : Int → Int} {text : Int → Int} {length : Int} {atp : Int} {frm : Int} {token : Int} {number : Int} {error : Int} {errorAt : Int} {commands : Int} {command : Int → Int} {out : Int → Int} {outLong : Int} {c : Int}  (hM : MW t α h0 h thrown now aside tried undos undoMany saved isSaved accounts way leftOut here text length atp frm token number error errorAt commands command out outLong) (hR : ROK now c) : Sp Γ yX5_freeZones mX5_freeZones 4 0 0 [.ref (α 0)] h (Qe (mFreeZ now (now 0)) h) NoX := by
  refine sp_of okX5_freeZones (cat_all rfl) (Nat.le_of_ble_eq_true rfl) rfl ?_
  have hs0 := hR.s0
  have hc0 := hR.c0
  have L4 : ∀ (n9 : Nat) (n : Int) (z : Int), (now 0 - z).toNat = n9 → (0 ≤ z ∧ z ≤ now 0) → (n = mFreeZ now z) → V Γ mX5_freeZones 4 0 0 (Qe (mFreeZ now (now 0)) h) (NoX) h 0 0 4 [some (.ref (α 0)), some (vi n), some (vi z)] [] := by
    intro n9
    induction n9 using Nat.strongRecOn with
    | _ n9 ih =>
      intro n z hn9 hz hn
      refine v_ild2 (pc := 4) dX5_freeZones_4 ?_
      refine v_ald0 (pc := 5) dX5_freeZones_5 ?_
      refine v_getf KX5 1 (pc := 6) dX5_freeZones_6 (lw_all_tbl q1995) (Or.inl rfl) (Nat.le_of_ble_eq_true rfl) (mw_obj hM) rfl ?_
      refine v_iconst (pc := 9) dX5_freeZones_9 ?_
      refine v_ldM_now hM (pc := 10) dX5_freeZones_10 (by omega) ?_
      refine v_icmp_ge (pc := 11) (tgt := 36) dX5_freeZones_11 rfl (by omega) (by omega) (fun c11 => ?_) (fun c11 => ?_)
      · refine v_ild1 (pc := 36) dX5_freeZones_36 ?_
        refine v_ret_n (pc := 37) dX5_freeZones_37 rfl ?_
        exact qe_ok (by rw [hn, show z = now 0 by omega])
      · have hl := hR.zW z ⟨by omega, by omega⟩
        refine v_ild1 (pc := 14) dX5_freeZones_14 ?_
        refine v_ald0 (pc := 15) dX5_freeZones_15 ?_
        refine v_ild2 (pc := 16) dX5_freeZones_16 ?_
        refine v_cb0 (pc := 17) (v_runV1 okX5_isFree rfl (sp_X5_isFree hM (by omega) (by omega)) dX5_freeZones_17 (lw_all_tbl q2115) (lw_all_tbl q2117) (lw_all_tbl qs53) rfl (mw_obj hM) (Nat.le_of_ble_eq_true rfl) ⟨Nat.zero_le _, Nat.zero_le _⟩ (Nat.le_of_ble_eq_true rfl)) (fun c17 => ?_) (fun c17 => ?_)
        · refine v_if_eq1 (pc := 20) (tgt := 27) dX5_freeZones_20 rfl ?_
          refine v_iconst (pc := 23) dX5_freeZones_23 ?_
          refine v_goto (pc := 24) (tgt := 28) dX5_freeZones_24 rfl ?_
          refine v_iadd (pc := 28) dX5_freeZones_28 ?_
          refine v_ist1 (pc := 29) dX5_freeZones_29 rfl ?_
          refine v_iinc2 (pc := 30) dX5_freeZones_30 rfl ?_
          refine v_goto (pc := 33) (tgt := 4) dX5_freeZones_33 rfl ?_
          exact ih _ (by omega) _ _ rfl (by omega) (by rw [mFreeZ_s (by omega), ← hn]; split <;> omega)
        · refine v_if_eq0 (pc := 20) (tgt := 27) dX5_freeZones_20 rfl ?_
          refine v_iconst (pc := 27) dX5_freeZones_27 ?_
          refine v_iadd (pc := 28) dX5_freeZones_28 ?_
          refine v_ist1 (pc := 29) dX5_freeZones_29 rfl ?_
          refine v_iinc2 (pc := 30) dX5_freeZones_30 rfl ?_
          refine v_goto (pc := 33) (tgt := 4) dX5_freeZones_33 rfl ?_
          exact ih _ (by omega) _ _ rfl (by omega) (by rw [mFreeZ_s (by omega), ← hn]; split <;> omega)
  refine v_iconst (pc := 0) dX5_freeZones_0 ?_
  refine v_ist1 (pc := 1) dX5_freeZones_1 rfl ?_
  refine v_iconst (pc := 2) dX5_freeZones_2 ?_
  refine v_ist2 (pc := 3) dX5_freeZones_3 rfl ?_
  exact L4 _ _ _ rfl (by omega) rfl
theorem sp_X5_filledPlaces {Γ : Cx} {t : Nat} {α : Nat → Nat} {h0 h : AH} {thrown : Int} {now : Int → Int} {aside : Int → Int} {tried : Int → Int} {undos : Int → Int} {undoMany : Int} {saved : Int → Int} {isSaved : Int → Int} {accounts : Int → Int} {way : Int} {leftOut : Int} {here : Int → Int} {text : Int → Int} {length : Int} {atp : Int} {frm : Int} {token : Int} {number : Int} {error : Int} {errorAt : Int} {commands : Int} {command : Int → Int} {out : Int → Int} {outLong : Int} {c : Int}  (hM : MW t α h0 h thrown now aside tried undos undoMany saved isSaved accounts way leftOut here text length atp frm token number error errorAt commands command out outLong) (hR : ROK now c) : Sp Γ yX5_filledPlaces mX5_filledPlaces 2 0 0 [.ref (α 0)] h (Qe (mFillP now (now 0)) h) NoX := by
  refine sp_of okX5_filledPlaces (cat_all rfl) (Nat.le_of_ble_eq_true rfl) rfl ?_
  have hs0 := hR.s0
  have hc0 := hR.c0
  have L4 : ∀ (n9 : Nat) (n : Int) (z : Int), (now 0 - z).toNat = n9 → (0 ≤ z ∧ z ≤ now 0) → (n = mFillP now z) → V Γ mX5_filledPlaces 2 0 0 (Qe (mFillP now (now 0)) h) (NoX) h 0 0 4 [some (.ref (α 0)), some (vi n), some (vi z)] [] := by
    intro n9
    induction n9 using Nat.strongRecOn with
    | _ n9 ih =>
      intro n z hn9 hz hn
      refine v_ild2 (pc := 4) dX5_filledPlaces_4 ?_
      refine v_ald0 (pc := 5) dX5_filledPlaces_5 ?_
      refine v_getf KX5 1 (pc := 6) dX5_filledPlaces_6 (lw_all_tbl q1995) (Or.inl rfl) (Nat.le_of_ble_eq_true rfl) (mw_obj hM) rfl ?_
      refine v_iconst (pc := 9) dX5_filledPlaces_9 ?_
      refine v_ldM_now hM (pc := 10) dX5_filledPlaces_10 (by omega) ?_
      refine v_icmp_ge (pc := 11) (tgt := 34) dX5_filledPlaces_11 rfl (by omega) (by omega) (fun c11 => ?_) (fun c11 => ?_)
      · refine v_ild1 (pc := 34) dX5_filledPlaces_34 ?_
        refine v_ret_n (pc := 35) dX5_filledPlaces_35 rfl ?_
        exact qe_ok (by rw [hn, show z = now 0 by omega])
      · refine v_ild1 (pc := 14) dX5_filledPlaces_14 ?_
        refine v_ald0 (pc := 15) dX5_filledPlaces_15 ?_
        refine v_getf KX5 1 (pc := 16) dX5_filledPlaces_16 (lw_all_tbl q1995) (Or.inl rfl) (Nat.le_of_ble_eq_true rfl) (mw_obj hM) rfl ?_
        refine v_ild2 (pc := 19) dX5_filledPlaces_19 ?_
        refine v_ce0 (pc := 20) (v_runS1 okX5_zoneAt rfl (sp_X5_zoneAt) dX5_filledPlaces_20 (lw_all_tbl q1991) (lw_all_tbl q1992) (Nat.le_of_ble_eq_true rfl) ⟨Nat.zero_le _, Nat.zero_le _⟩ (Nat.le_of_ble_eq_true rfl)) ?_
        refine v_iconst (pc := 23) dX5_filledPlaces_23 ?_
        refine v_iadd (pc := 24) dX5_filledPlaces_24 ?_
        refine v_ldM_now hM (pc := 25) dX5_filledPlaces_25 (by omega) ?_
        refine v_iadd (pc := 26) dX5_filledPlaces_26 ?_
        refine v_ist1 (pc := 27) dX5_filledPlaces_27 rfl ?_
        refine v_iinc2 (pc := 28) dX5_filledPlaces_28 rfl ?_
        refine v_goto (pc := 31) (tgt := 4) dX5_filledPlaces_31 rfl ?_
        exact ih _ (by omega) _ _ rfl (by omega) (by rw [mFillP_s (by omega), ← hn])
  refine v_iconst (pc := 0) dX5_filledPlaces_0 ?_
  refine v_ist1 (pc := 1) dX5_filledPlaces_1 rfl ?_
  refine v_iconst (pc := 2) dX5_filledPlaces_2 ?_
  refine v_ist2 (pc := 3) dX5_filledPlaces_3 rfl ?_
  exact L4 _ _ _ rfl (by omega) rfl
theorem sp_X5_livingPlaces {Γ : Cx} {t : Nat} {α : Nat → Nat} {h0 h : AH} {thrown : Int} {now : Int → Int} {aside : Int → Int} {tried : Int → Int} {undos : Int → Int} {undoMany : Int} {saved : Int → Int} {isSaved : Int → Int} {accounts : Int → Int} {way : Int} {leftOut : Int} {here : Int → Int} {text : Int → Int} {length : Int} {atp : Int} {frm : Int} {token : Int} {number : Int} {error : Int} {errorAt : Int} {commands : Int} {command : Int → Int} {out : Int → Int} {outLong : Int} {c : Int} {z : Int} (hM : MW t α h0 h thrown now aside tried undos undoMany saved isSaved accounts way leftOut here text length atp frm token number error errorAt commands command out outLong) (hR : ROK now c) (hz : -2147483648 ≤ z ∧ z ≤ 2147483647) : Sp Γ yX5_livingPlaces mX5_livingPlaces 4 0 0 [.ref (α 0), vi z] h (Qe (mLivP now z (now 7)) h) NoX := by
  refine sp_of okX5_livingPlaces (cat_all rfl) (Nat.le_of_ble_eq_true rfl) rfl ?_
  have h7 := hR.s7
  have hs0 := hR.s0
  have L4 : ∀ (n9 : Nat) (n : Int) (u : Int), (now 7 - u).toNat = n9 → (0 ≤ u ∧ u ≤ now 7) → (n = mLivP now z u) → V Γ mX5_livingPlaces 4 0 0 (Qe (mLivP now z (now 7)) h) (NoX) h 0 0 4 [some (.ref (α 0)), some (vi z), some (vi n), some (vi u), none] [] := by
    intro n9
    induction n9 using Nat.strongRecOn with
    | _ n9 ih =>
      intro n u hn9 hu hn
      refine v_ild3 (pc := 4) dX5_livingPlaces_4 ?_
      refine v_ald0 (pc := 5) dX5_livingPlaces_5 ?_
      refine v_getf KX5 1 (pc := 6) dX5_livingPlaces_6 (lw_all_tbl q1995) (Or.inl rfl) (Nat.le_of_ble_eq_true rfl) (mw_obj hM) rfl ?_
      refine v_bipush (pc := 9) dX5_livingPlaces_9 ⟨by decide, by decide⟩ ?_
      refine v_ldM_now hM (pc := 11) dX5_livingPlaces_11 (by omega) ?_
      refine v_icmp_ge (pc := 12) (tgt := 69) dX5_livingPlaces_12 rfl (by omega) (by omega) (fun c12 => ?_) (fun c12 => ?_)
      · refine v_ild2 (pc := 69) dX5_livingPlaces_69 ?_
        refine v_ret_n (pc := 70) dX5_livingPlaces_70 rfl ?_
        exact qe_ok (by rw [hn, show u = now 7 by omega])
      · have hl := hR.uLv u ⟨by omega, by omega⟩
        have hwh := hR.uWh u ⟨by omega, by omega⟩
        refine v_ald0 (pc := 15) dX5_livingPlaces_15 ?_
        refine v_ild3 (pc := 16) dX5_livingPlaces_16 ?_
        refine v_cb0 (pc := 17) (v_runV1 okX5_lives rfl (sp_X5_lives hM (by omega) (by omega)) dX5_livingPlaces_17 (lw_all_tbl q2100) (lw_all_tbl q2102) (lw_all_tbl qs50) rfl (mw_obj hM) (Nat.le_of_ble_eq_true rfl) ⟨Nat.zero_le _, Nat.zero_le _⟩ (Nat.le_of_ble_eq_true rfl)) (fun c17 => ?_) (fun c17 => ?_)
        · refine v_if_eq1 (pc := 20) (tgt := 42) dX5_livingPlaces_20 rfl ?_
          refine v_ild1 (pc := 23) dX5_livingPlaces_23 ?_
          refine v_iconst (pc := 24) dX5_livingPlaces_24 ?_
          refine v_icmp_eq (pc := 25) (tgt := 38) dX5_livingPlaces_25 rfl (by omega) (by omega) (fun c25 => ?_) (fun c25 => ?_)
          · refine v_iconst (pc := 38) dX5_livingPlaces_38 ?_
            refine v_goto (pc := 39) (tgt := 43) dX5_livingPlaces_39 rfl ?_
            refine v_ist4 (pc := 43) dX5_livingPlaces_43 rfl ?_
            refine v_ild2 (pc := 45) dX5_livingPlaces_45 ?_
            refine v_ild4 (pc := 46) dX5_livingPlaces_46 ?_
            refine v_if_eq1 (pc := 48) (tgt := 60) dX5_livingPlaces_48 rfl ?_
            refine v_ald0 (pc := 51) dX5_livingPlaces_51 ?_
            refine v_ild3 (pc := 52) dX5_livingPlaces_52 ?_
            refine v_iconst (pc := 53) dX5_livingPlaces_53 ?_
            refine v_ce0 (pc := 54) (v_runV2 okX5_ofUnit rfl (sp_X5_ofUnit hM (by omega) (by omega)) dX5_livingPlaces_54 (lw_all_tbl q2104) (lw_all_tbl q2106) (lw_all_tbl qs51) rfl (mw_obj hM) (Nat.le_of_ble_eq_true rfl) ⟨Nat.zero_le _, Nat.zero_le _⟩ (Nat.le_of_ble_eq_true rfl)) ?_
            refine v_goto (pc := 57) (tgt := 61) dX5_livingPlaces_57 rfl ?_
            refine v_iadd (pc := 61) dX5_livingPlaces_61 ?_
            refine v_ist2 (pc := 62) dX5_livingPlaces_62 rfl ?_
            refine v_iinc3 (pc := 63) dX5_livingPlaces_63 rfl ?_
            refine v_goto (pc := 66) (tgt := 4) dX5_livingPlaces_66 rfl ?_
            refine v_forget 4 ?_
            exact ih _ (by omega) _ _ rfl (by omega) (by rw [mLivP_s (by omega), ← hn]; split <;> omega)
          · refine v_ald0 (pc := 28) dX5_livingPlaces_28 ?_
            refine v_ild3 (pc := 29) dX5_livingPlaces_29 ?_
            refine v_iconst (pc := 30) dX5_livingPlaces_30 ?_
            refine v_ce0 (pc := 31) (v_runV2 okX5_ofUnit rfl (sp_X5_ofUnit hM (by omega) (by omega)) dX5_livingPlaces_31 (lw_all_tbl q2104) (lw_all_tbl q2106) (lw_all_tbl qs51) rfl (mw_obj hM) (Nat.le_of_ble_eq_true rfl) ⟨Nat.zero_le _, Nat.zero_le _⟩ (Nat.le_of_ble_eq_true rfl)) ?_
            refine v_ild1 (pc := 34) dX5_livingPlaces_34 ?_
            refine v_icmp_ne (pc := 35) (tgt := 42) dX5_livingPlaces_35 rfl (by omega) (by omega) (fun c35 => ?_) (fun c35 => ?_)
            · refine v_iconst (pc := 42) dX5_livingPlaces_42 ?_
              refine v_ist4 (pc := 43) dX5_livingPlaces_43 rfl ?_
              refine v_ild2 (pc := 45) dX5_livingPlaces_45 ?_
              refine v_ild4 (pc := 46) dX5_livingPlaces_46 ?_
              refine v_if_eq0 (pc := 48) (tgt := 60) dX5_livingPlaces_48 rfl ?_
              refine v_iconst (pc := 60) dX5_livingPlaces_60 ?_
              refine v_iadd (pc := 61) dX5_livingPlaces_61 ?_
              refine v_ist2 (pc := 62) dX5_livingPlaces_62 rfl ?_
              refine v_iinc3 (pc := 63) dX5_livingPlaces_63 rfl ?_
              refine v_goto (pc := 66) (tgt := 4) dX5_livingPlaces_66 rfl ?_
              refine v_forget 4 ?_
              exact ih _ (by omega) _ _ rfl (by omega) (by rw [mLivP_s (by omega), ← hn]; split <;> omega)
            · refine v_iconst (pc := 38) dX5_livingPlaces_38 ?_
              refine v_goto (pc := 39) (tgt := 43) dX5_livingPlaces_39 rfl ?_
              refine v_ist4 (pc := 43) dX5_livingPlaces_43 rfl ?_
              refine v_ild2 (pc := 45) dX5_livingPlaces_45 ?_
              refine v_ild4 (pc := 46) dX5_livingPlaces_46 ?_
              refine v_if_eq1 (pc := 48) (tgt := 60) dX5_livingPlaces_48 rfl ?_
              refine v_ald0 (pc := 51) dX5_livingPlaces_51 ?_
              refine v_ild3 (pc := 52) dX5_livingPlaces_52 ?_
              refine v_iconst (pc := 53) dX5_livingPlaces_53 ?_
              refine v_ce0 (pc := 54) (v_runV2 okX5_ofUnit rfl (sp_X5_ofUnit hM (by omega) (by omega)) dX5_livingPlaces_54 (lw_all_tbl q2104) (lw_all_tbl q2106) (lw_all_tbl qs51) rfl (mw_obj hM) (Nat.le_of_ble_eq_true rfl) ⟨Nat.zero_le _, Nat.zero_le _⟩ (Nat.le_of_ble_eq_true rfl)) ?_
              refine v_goto (pc := 57) (tgt := 61) dX5_livingPlaces_57 rfl ?_
              refine v_iadd (pc := 61) dX5_livingPlaces_61 ?_
              refine v_ist2 (pc := 62) dX5_livingPlaces_62 rfl ?_
              refine v_iinc3 (pc := 63) dX5_livingPlaces_63 rfl ?_
              refine v_goto (pc := 66) (tgt := 4) dX5_livingPlaces_66 rfl ?_
              refine v_forget 4 ?_
              exact ih _ (by omega) _ _ rfl (by omega) (by rw [mLivP_s (by omega), ← hn]; split <;> omega)
        · refine v_if_eq0 (pc := 20) (tgt := 42) dX5_livingPlaces_20 rfl ?_
          refine v_iconst (pc := 42) dX5_livingPlaces_42 ?_
          refine v_ist4 (pc := 43) dX5_livingPlaces_43 rfl ?_
          refine v_ild2 (pc := 45) dX5_livingPlaces_45 ?_
          refine v_ild4 (pc := 46) dX5_livingPlaces_46 ?_
          refine v_if_eq0 (pc := 48) (tgt := 60) dX5_livingPlaces_48 rfl ?_
          refine v_iconst (pc := 60) dX5_livingPlaces_60 ?_
          refine v_iadd (pc := 61) dX5_livingPlaces_61 ?_
          refine v_ist2 (pc := 62) dX5_livingPlaces_62 rfl ?_
          refine v_iinc3 (pc := 63) dX5_livingPlaces_63 rfl ?_
          refine v_goto (pc := 66) (tgt := 4) dX5_livingPlaces_66 rfl ?_
          refine v_forget 4 ?_
          exact ih _ (by omega) _ _ rfl (by omega) (by rw [mLivP_s (by omega), ← hn]; split <;> omega)
  refine v_iconst (pc := 0) dX5_livingPlaces_0 ?_
  refine v_ist2 (pc := 1) dX5_livingPlaces_1 rfl ?_
  refine v_iconst (pc := 2) dX5_livingPlaces_2 ?_
  refine v_ist3 (pc := 3) dX5_livingPlaces_3 rfl ?_
  exact L4 _ _ _ rfl (by omega) rfl
theorem sp_X5_lowestIn {Γ : Cx} {t : Nat} {α : Nat → Nat} {h0 h : AH} {thrown : Int} {now : Int → Int} {aside : Int → Int} {tried : Int → Int} {undos : Int → Int} {undoMany : Int} {saved : Int → Int} {isSaved : Int → Int} {accounts : Int → Int} {way : Int} {leftOut : Int} {here : Int → Int} {text : Int → Int} {length : Int} {atp : Int} {frm : Int} {token : Int} {number : Int} {error : Int} {errorAt : Int} {commands : Int} {command : Int → Int} {out : Int → Int} {outLong : Int} {c : Int} {z : Int} (hM : MW t α h0 h thrown now aside tried undos undoMany saved isSaved accounts way leftOut here text length atp frm token number error errorAt commands command out outLong) (hR : ROK now c) (hz : -2147483648 ≤ z ∧ z ≤ 2147483647) : Sp Γ yX5_lowestIn mX5_lowestIn 4 0 0 [.ref (α 0), vi z] h (Qe (mLowest now z (now 7)) h) NoX := by
  refine sp_of okX5_lowestIn (cat_all rfl) (Nat.le_of_ble_eq_true rfl) rfl ?_
  have h7 := hR.s7
  have hs0 := hR.s0
  have L2 : ∀ (n9 : Nat) (u : Int), (now 7 - u).toNat = n9 → (0 ≤ u ∧ u ≤ now 7) → (mLowest now z u = -1) → V Γ mX5_lowestIn 4 0 0 (Qe (mLowest now z (now 7)) h) (NoX) h 0 0 2 [some (.ref (α 0)), some (vi z), some (vi u)] [] := by
    intro n9
    induction n9 using Nat.strongRecOn with
    | _ n9 ih =>
      intro u hn9 hu hn
      refine v_ild2 (pc := 2) dX5_lowestIn_2 ?_
      refine v_ald0 (pc := 3) dX5_lowestIn_3 ?_
      refine v_getf KX5 1 (pc := 4) dX5_lowestIn_4 (lw_all_tbl q1995) (Or.inl rfl) (Nat.le_of_ble_eq_true rfl) (mw_obj hM) rfl ?_
      refine v_bipush (pc := 7) dX5_lowestIn_7 ⟨by decide, by decide⟩ ?_
      refine v_ldM_now hM (pc := 9) dX5_lowestIn_9 (by omega) ?_
      refine v_icmp_ge (pc := 10) (tgt := 39) dX5_lowestIn_10 rfl (by omega) (by omega) (fun c10 => ?_) (fun c10 => ?_)
      · refine v_iconst (pc := 39) dX5_lowestIn_39 ?_
        refine v_ret_n (pc := 40) dX5_lowestIn_40 rfl ?_
        exact qe_ok (by rw [← hn, show u = now 7 by omega])
      · have hl := hR.uLv u ⟨by omega, by omega⟩
        have hwh := hR.uWh u ⟨by omega, by omega⟩
        refine v_ald0 (pc := 13) dX5_lowestIn_13 ?_
        refine v_ild2 (pc := 14) dX5_lowestIn_14 ?_
        refine v_cb0 (pc := 15) (v_runV1 okX5_lives rfl (sp_X5_lives hM (by omega) (by omega)) dX5_lowestIn_15 (lw_all_tbl q2100) (lw_all_tbl q2102) (lw_all_tbl qs50) rfl (mw_obj hM) (Nat.le_of_ble_eq_true rfl) ⟨Nat.zero_le _, Nat.zero_le _⟩ (Nat.le_of_ble_eq_true rfl)) (fun c15 => ?_) (fun c15 => ?_)
        · refine v_if_eq1 (pc := 18) (tgt := 33) dX5_lowestIn_18 rfl ?_
          refine v_ald0 (pc := 21) dX5_lowestIn_21 ?_
          refine v_ild2 (pc := 22) dX5_lowestIn_22 ?_
          refine v_iconst (pc := 23) dX5_lowestIn_23 ?_
          refine v_ce0 (pc := 24) (v_runV2 okX5_ofUnit rfl (sp_X5_ofUnit hM (by omega) (by omega)) dX5_lowestIn_24 (lw_all_tbl q2104) (lw_all_tbl q2106) (lw_all_tbl qs51) rfl (mw_obj hM) (Nat.le_of_ble_eq_true rfl) ⟨Nat.zero_le _, Nat.zero_le _⟩ (Nat.le_of_ble_eq_true rfl)) ?_
          refine v_ild1 (pc := 27) dX5_lowestIn_27 ?_
          refine v_icmp_ne (pc := 28) (tgt := 33) dX5_lowestIn_28 rfl (by omega) (by omega) (fun c28 => ?_) (fun c28 => ?_)
          · refine v_iinc2 (pc := 33) dX5_lowestIn_33 rfl ?_
            refine v_goto (pc := 36) (tgt := 2) dX5_lowestIn_36 rfl ?_
            exact ih _ (by omega) _ rfl (by omega) (by unfold mLowest at hn ⊢; rw [fst_s hu.1, if_neg (by omega)]; exact hn)
          · refine v_ild2 (pc := 31) dX5_lowestIn_31 ?_
            refine v_ret_n (pc := 32) dX5_lowestIn_32 rfl ?_
            exact qe_ok (by unfold mLowest at hn ⊢; exact (fst_hit hn (by omega) (by omega)).symm)
        · refine v_if_eq0 (pc := 18) (tgt := 33) dX5_lowestIn_18 rfl ?_
          refine v_iinc2 (pc := 33) dX5_lowestIn_33 rfl ?_
          refine v_goto (pc := 36) (tgt := 2) dX5_lowestIn_36 rfl ?_
          exact ih _ (by omega) _ rfl (by omega) (by unfold mLowest at hn ⊢; rw [fst_s hu.1, if_neg (by omega)]; exact hn)
  refine v_iconst (pc := 0) dX5_lowestIn_0 ?_
  refine v_ist2 (pc := 1) dX5_lowestIn_1 rfl ?_
  exact L2 _ _ rfl (by omega) rfl
