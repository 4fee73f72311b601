/-! FlashZonesModel: walks, 18: commands done (printed by gen) -/
set_option maxRecDepth 100000
theorem sp_X5_isDone {Γ : Cx} {t : Nat} {α : Nat → Nat} {h0 h : AH} {thrown : Int} {now : Int → Int} {aside : Int → Int} {tried : Int → Int} {undos : Int → Int} {undoMany : Int} {saved : Int → Int} {isSaved : Int → Int} {accounts : Int → Int} {way : Int} {leftOut : Int} {here : Int → Int} {text : Int → Int} {length : Int} {atp : Int} {frm : Int} {token : Int} {number : Int} {error : Int} {errorAt : Int} {commands : Int} {command : Int → Int} {out : Int → Int} {outLong : Int} {c : Int} {n k a b cc : Int} (hM : MW t α h0 h thrown now aside tried undos undoMany saved isSaved accounts way leftOut here text length atp frm token number error errorAt commands command out outLong) (hR : ROK now c) (hum : 0 ≤ undoMany ∧ undoMany ≤ 8) (hw5 : way = 5) (hn : 0 ≤ n ∧ n ≤ 59) (hk4 : command (4 * n) = k ∧ command (4 * n + 1) = a) (hk0 : k = 0 → command (4 * n + 2) = b ∧ command (4 * n + 3) = cc) (hp : pIn k a b cc) (hc : c + 78000 ≤ 14000000) : Sp Γ yX5_isDone mX5_isDone 11 0 0 [.ref (α 0), vi (4 * n)] h (Qi (fun x h' => (¬ bThere now k a ∧ x = 0 ∧ MW t α h0 h' thrown now aside tried undos undoMany saved isSaved accounts way leftOut here text length atp frm token number error errorAt commands command out outLong) ∨ (bThere now k a ∧ ∃ tr, ((0 < (aR now aside k a b) ∧ x = 0 ∧ MW t α h0 h' thrown now aside tr undos undoMany saved isSaved ((upi accounts (aR now aside k a b) (accounts (aR now aside k a b) + 1))) way leftOut here text length atp frm token number error errorAt commands command out outLong) ∨ ((aR now aside k a b) = 0 ∧ x = 1 ∧ MW t α h0 h' thrown ((aW now aside k a b cc)) aside tr ((kUndos now undos undoMany)) ((kMany undoMany)) saved isSaved ((upi accounts 0 (accounts 0 + 1))) way leftOut here text length atp frm token number error errorAt commands command out outLong))))) NoX := by
  refine sp_of okX5_isDone (cat_all rfl) (Nat.le_of_ble_eq_true rfl) rfl ?_
  have h7 := hR.s7
  have hs0 := hR.s0
  subst hw5
  have hpk := hp.1
  refine v_ald0 (pc := 0) dX5_isDone_0 ?_
  refine v_getf KX5 22 (pc := 1) dX5_isDone_1 (lw_all_tbl q2016) (Or.inl rfl) (Nat.le_of_ble_eq_true rfl) (mw_obj hM) rfl ?_
  refine v_ild1 (pc := 4) dX5_isDone_4 ?_
  refine v_iconst (pc := 5) dX5_isDone_5 ?_
  refine v_iadd (pc := 6) dX5_isDone_6 ?_
  refine v_ldM_command hM (pc := 7) dX5_isDone_7 (by omega) ?_
  rw [hk4.2]
  refine v_ist2 (pc := 8) dX5_isDone_8 rfl ?_
  refine v_ald0 (pc := 9) dX5_isDone_9 ?_
  refine v_getf KX5 22 (pc := 10) dX5_isDone_10 (lw_all_tbl q2016) (Or.inl rfl) (Nat.le_of_ble_eq_true rfl) (mw_obj hM) rfl ?_
  refine v_ild1 (pc := 13) dX5_isDone_13 ?_
  refine v_ldM_command hM (pc := 14) dX5_isDone_14 (by omega) ?_
  rw [hk4.1]
  refine v_case (pc := 15) 0 (fun e15_0 => ?_) (fun e15_0 => ?_)
  · refine v_tableK 0 (pc := 15) (tgt := 44) dX5_isDone_15 ⟨by decide, by decide⟩ (by decide) (by decide) rfl rfl ?_ e15_0
    subst e15_0
    have eR : aR now aside 0 a b = rWrite now aside 5 a b := by unfold aR; rw [if_pos rfl]
    have eW : aW now aside 0 a b cc = mWrites (mHist now 0 a b cc) aside 5 a b cc (now 7) := by unfold aW; rw [if_pos rfl]
    obtain ⟨hpk, hp0, hp1, hp2, hp4⟩ := hp
    obtain ⟨ha, hb, hcc⟩ := hp0 rfl
    obtain ⟨hk2, hk3⟩ := hk0 rfl
    refine v_ald0 (pc := 44) dX5_isDone_44 ?_
    refine v_ild2 (pc := 45) dX5_isDone_45 ?_
    refine v_ald0 (pc := 46) dX5_isDone_46 ?_
    refine v_getf KX5 22 (pc := 47) dX5_isDone_47 (lw_all_tbl q2016) (Or.inl rfl) (Nat.le_of_ble_eq_true rfl) (mw_obj hM) rfl ?_
    refine v_ild1 (pc := 50) dX5_isDone_50 ?_
    refine v_iconst (pc := 51) dX5_isDone_51 ?_
    refine v_iadd (pc := 52) dX5_isDone_52 ?_
    refine v_ldM_command hM (pc := 53) dX5_isDone_53 (by omega) ?_
    rw [hk2]
    refine v_ald0 (pc := 54) dX5_isDone_54 ?_
    refine v_getf KX5 22 (pc := 55) dX5_isDone_55 (lw_all_tbl q2016) (Or.inl rfl) (Nat.le_of_ble_eq_true rfl) (mw_obj hM) rfl ?_
    refine v_ild1 (pc := 58) dX5_isDone_58 ?_
    refine v_iconst (pc := 59) dX5_isDone_59 ?_
    refine v_iadd (pc := 60) dX5_isDone_60 ?_
    refine v_ldM_command hM (pc := 61) dX5_isDone_61 (by omega) ?_
    rw [hk3]
    refine v_ci0 (pc := 62) (v_runV3 okX5_actsWrite rfl (sp_X5_actsWrite hM hR hum rfl ha hb hcc) dX5_isDone_62 (lw_all_tbl q2351) (lw_all_tbl q2353) (lw_all_tbl qs89) rfl (mw_obj hM) (Nat.le_of_ble_eq_true rfl) ⟨Nat.zero_le _, Nat.zero_le _⟩ (Nat.le_of_ble_eq_true rfl)) (fun x62 h hq62 => ?_)
    obtain ⟨ex62, hr⟩ := hq62
    have hrr := aR_r (w := now) (as := aside) (k := 0) (a := a) (b := b)
    rw [eR] at hrr
    rw [ex62]
    refine v_if_ne (pc := 65) (tgt := 72) dX5_isDone_65 rfl (by omega) (fun c65 => ?_) (fun c65 => ?_)
    · refine v_iconst (pc := 72) dX5_isDone_72 ?_
      refine v_ret_z0 (pc := 73) dX5_isDone_73 rfl ?_
      first | (exact qi_ok (Or.inl ⟨(fun q => by have := q.1 rfl; omega), rfl, hM⟩)) | (exact qi_ok (Or.inl ⟨(fun q => by have := q.2 (by omega); omega), rfl, hM⟩)) | (rcases hr with ⟨hpos, hM⟩ | ⟨hz, hM⟩ <;> first | (exfalso; omega) | exact qi_ok (Or.inr ⟨⟨fun q => by omega, fun q => by omega⟩, _, by rw [eR]; exact Or.inl ⟨hpos, rfl, hM⟩⟩) | exact qi_ok (Or.inr ⟨⟨fun q => by omega, fun q => by omega⟩, _, by rw [eR, eW]; exact Or.inr ⟨hz, rfl, hM⟩⟩))
    · refine v_iconst (pc := 68) dX5_isDone_68 ?_
      refine v_goto (pc := 69) (tgt := 73) dX5_isDone_69 rfl ?_
      refine v_ret_z1 (pc := 73) dX5_isDone_73 rfl ?_
      first | (exact qi_ok (Or.inl ⟨(fun q => by have := q.1 rfl; omega), rfl, hM⟩)) | (exact qi_ok (Or.inl ⟨(fun q => by have := q.2 (by omega); omega), rfl, hM⟩)) | (rcases hr with ⟨hpos, hM⟩ | ⟨hz, hM⟩ <;> first | (exfalso; omega) | exact qi_ok (Or.inr ⟨⟨fun q => by omega, fun q => by omega⟩, _, by rw [eR]; exact Or.inl ⟨hpos, rfl, hM⟩⟩) | exact qi_ok (Or.inr ⟨⟨fun q => by omega, fun q => by omega⟩, _, by rw [eR, eW]; exact Or.inr ⟨hz, rfl, hM⟩⟩))
  refine v_case (pc := 15) 1 (fun e15_1 => ?_) (fun e15_1 => ?_)
  · refine v_tableK 1 (pc := 15) (tgt := 74) dX5_isDone_15 ⟨by decide, by decide⟩ (by decide) (by decide) rfl rfl ?_ e15_1
    subst e15_1
    have eR : aR now aside 1 a b = rDie now a := by unfold aR; rw [if_neg (by decide), if_pos rfl]
    have eW : aW now aside 1 a b cc = mDies (mHist now 1 a (-1) (-1)) a := by unfold aW; rw [if_neg (by decide), if_pos rfl]
    obtain ⟨hpk, hp0, hp1, hp2, hp4⟩ := hp
    have ha := hp1 rfl
    refine v_ald0 (pc := 74) dX5_isDone_74 ?_
    refine v_ild2 (pc := 75) dX5_isDone_75 ?_
    refine v_cb0 (pc := 76) (v_runV1 okX5_isUnit rfl (sp_X5_isUnit hM (by omega) (by omega)) dX5_isDone_76 (lw_all_tbl q2159) (lw_all_tbl q2161) (lw_all_tbl qs62) rfl (mw_obj hM) (Nat.le_of_ble_eq_true rfl) ⟨Nat.zero_le _, Nat.zero_le _⟩ (Nat.le_of_ble_eq_true rfl)) (fun c76 => ?_) (fun c76 => ?_)
    · refine v_if_eq1 (pc := 79) (tgt := 94) dX5_isDone_79 rfl ?_
      refine v_ald0 (pc := 82) dX5_isDone_82 ?_
      refine v_ild2 (pc := 83) dX5_isDone_83 ?_
      refine v_ci0 (pc := 84) (v_runV1 okX5_actsDie rfl (sp_X5_actsDie hM hR hum rfl (by omega)) dX5_isDone_84 (lw_all_tbl q2375) (lw_all_tbl q2377) (lw_all_tbl qs94) rfl (mw_obj hM) (Nat.le_of_ble_eq_true rfl) ⟨Nat.zero_le _, Nat.zero_le _⟩ (Nat.le_of_ble_eq_true rfl)) (fun x84 h hq84 => ?_)
      obtain ⟨ex84, hr⟩ := hq84
      have hrr := aR_r (w := now) (as := aside) (k := 1) (a := a) (b := b)
      rw [eR] at hrr
      rw [ex84]
      refine v_if_ne (pc := 87) (tgt := 94) dX5_isDone_87 rfl (by omega) (fun c87 => ?_) (fun c87 => ?_)
      · refine v_iconst (pc := 94) dX5_isDone_94 ?_
        refine v_ret_z0 (pc := 95) dX5_isDone_95 rfl ?_
        first | (exact qi_ok (Or.inl ⟨(fun q => by have := q.1 rfl; omega), rfl, hM⟩)) | (exact qi_ok (Or.inl ⟨(fun q => by have := q.2 (by omega); omega), rfl, hM⟩)) | (rcases hr with ⟨hpos, hM⟩ | ⟨hz, hM⟩ <;> first | (exfalso; omega) | exact qi_ok (Or.inr ⟨⟨fun q => by omega, fun q => by omega⟩, _, by rw [eR]; exact Or.inl ⟨hpos, rfl, hM⟩⟩) | exact qi_ok (Or.inr ⟨⟨fun q => by omega, fun q => by omega⟩, _, by rw [eR, eW]; exact Or.inr ⟨hz, rfl, hM⟩⟩))
      · refine v_iconst (pc := 90) dX5_isDone_90 ?_
        refine v_goto (pc := 91) (tgt := 95) dX5_isDone_91 rfl ?_
        refine v_ret_z1 (pc := 95) dX5_isDone_95 rfl ?_
        first | (exact qi_ok (Or.inl ⟨(fun q => by have := q.1 rfl; omega), rfl, hM⟩)) | (exact qi_ok (Or.inl ⟨(fun q => by have := q.2 (by omega); omega), rfl, hM⟩)) | (rcases hr with ⟨hpos, hM⟩ | ⟨hz, hM⟩ <;> first | (exfalso; omega) | exact qi_ok (Or.inr ⟨⟨fun q => by omega, fun q => by omega⟩, _, by rw [eR]; exact Or.inl ⟨hpos, rfl, hM⟩⟩) | exact qi_ok (Or.inr ⟨⟨fun q => by omega, fun q => by omega⟩, _, by rw [eR, eW]; exact Or.inr ⟨hz, rfl, hM⟩⟩))
    · refine v_if_eq0 (pc := 79) (tgt := 94) dX5_isDone_79 rfl ?_
      refine v_iconst (pc := 94) dX5_isDone_94 ?_
      refine v_ret_z0 (pc := 95) dX5_isDone_95 rfl ?_
      first | (exact qi_ok (Or.inl ⟨(fun q => by have := q.1 rfl; omega), rfl, hM⟩)) | (exact qi_ok (Or.inl ⟨(fun q => by have := q.2 (by omega); omega), rfl, hM⟩)) | (rcases hr with ⟨hpos, hM⟩ | ⟨hz, hM⟩ <;> first | (exfalso; omega) | exact qi_ok (Or.inr ⟨⟨fun q => by omega, fun q => by omega⟩, _, by rw [eR]; exact Or.inl ⟨hpos, rfl, hM⟩⟩) | exact qi_ok (Or.inr ⟨⟨fun q => by omega, fun q => by omega⟩, _, by rw [eR, eW]; exact Or.inr ⟨hz, rfl, hM⟩⟩))
  refine v_case (pc := 15) 2 (fun e15_2 => ?_) (fun e15_2 => ?_)
  · refine v_tableK 2 (pc := 15) (tgt := 96) dX5_isDone_15 ⟨by decide, by decide⟩ (by decide) (by decide) rfl rfl ?_ e15_2
    subst e15_2
    have eR : aR now aside 2 a b = rReset now a := by unfold aR; rw [if_neg (by decide), if_neg (by decide), if_pos rfl]
    have eW : aW now aside 2 a b cc = mResets (mHist now 2 a (-1) (-1)) a := by unfold aW; rw [if_neg (by decide), if_neg (by decide), if_pos rfl]
    obtain ⟨hpk, hp0, hp1, hp2, hp4⟩ := hp
    have ha := hp2 (Or.inl rfl)
    refine v_ald0 (pc := 96) dX5_isDone_96 ?_
    refine v_ild2 (pc := 97) dX5_isDone_97 ?_
    refine v_cb0 (pc := 98) (v_runV1 okX5_isZone rfl (sp_X5_isZone hM (by omega) (by omega)) dX5_isDone_98 (lw_all_tbl q2139) (lw_all_tbl q2141) (lw_all_tbl qs58) rfl (mw_obj hM) (Nat.le_of_ble_eq_true rfl) ⟨Nat.zero_le _, Nat.zero_le _⟩ (Nat.le_of_ble_eq_true rfl)) (fun c98 => ?_) (fun c98 => ?_)
    · refine v_if_eq1 (pc := 101) (tgt := 116) dX5_isDone_101 rfl ?_
      refine v_ald0 (pc := 104) dX5_isDone_104 ?_
      refine v_ild2 (pc := 105) dX5_isDone_105 ?_
      refine v_ci0 (pc := 106) (v_runV1 okX5_actsReset rfl (sp_X5_actsReset hM hR hum rfl (by omega)) dX5_isDone_106 (lw_all_tbl q2383) (lw_all_tbl q2385) (lw_all_tbl qs95) rfl (mw_obj hM) (Nat.le_of_ble_eq_true rfl) ⟨Nat.zero_le _, Nat.zero_le _⟩ (Nat.le_of_ble_eq_true rfl)) (fun x106 h hq106 => ?_)
      obtain ⟨ex106, hr⟩ := hq106
      have hrr := aR_r (w := now) (as := aside) (k := 2) (a := a) (b := b)
      rw [eR] at hrr
      rw [ex106]
      refine v_if_ne (pc := 109) (tgt := 116) dX5_isDone_109 rfl (by omega) (fun c109 => ?_) (fun c109 => ?_)
      · refine v_iconst (pc := 116) dX5_isDone_116 ?_
        refine v_ret_z0 (pc := 117) dX5_isDone_117 rfl ?_
        first | (exact qi_ok (Or.inl ⟨(fun q => by have := q.1 rfl; omega), rfl, hM⟩)) | (exact qi_ok (Or.inl ⟨(fun q => by have := q.2 (by omega); omega), rfl, hM⟩)) | (rcases hr with ⟨hpos, hM⟩ | ⟨hz, hM⟩ <;> first | (exfalso; omega) | exact qi_ok (Or.inr ⟨⟨fun q => by omega, fun q => by omega⟩, _, by rw [eR]; exact Or.inl ⟨hpos, rfl, hM⟩⟩) | exact qi_ok (Or.inr ⟨⟨fun q => by omega, fun q => by omega⟩, _, by rw [eR, eW]; exact Or.inr ⟨hz, rfl, hM⟩⟩))
      · refine v_iconst (pc := 112) dX5_isDone_112 ?_
        refine v_goto (pc := 113) (tgt := 117) dX5_isDone_113 rfl ?_
        refine v_ret_z1 (pc := 117) dX5_isDone_117 rfl ?_
        first | (exact qi_ok (Or.inl ⟨(fun q => by have := q.1 rfl; omega), rfl, hM⟩)) | (exact qi_ok (Or.inl ⟨(fun q => by have := q.2 (by omega); omega), rfl, hM⟩)) | (rcases hr with ⟨hpos, hM⟩ | ⟨hz, hM⟩ <;> first | (exfalso; omega) | exact qi_ok (Or.inr ⟨⟨fun q => by omega, fun q => by omega⟩, _, by rw [eR]; exact Or.inl ⟨hpos, rfl, hM⟩⟩) | exact qi_ok (Or.inr ⟨⟨fun q => by omega, fun q => by omega⟩, _, by rw [eR, eW]; exact Or.inr ⟨hz, rfl, hM⟩⟩))
    · refine v_if_eq0 (pc := 101) (tgt := 116) dX5_isDone_101 rfl ?_
      refine v_iconst (pc := 116) dX5_isDone_116 ?_
      refine v_ret_z0 (pc := 117) dX5_isDone_117 rfl ?_
      first | (exact qi_ok (Or.inl ⟨(fun q => by have := q.1 rfl; omega), rfl, hM⟩)) | (exact qi_ok (Or.inl ⟨(fun q => by have := q.2 (by omega); omega), rfl, hM⟩)) | (rcases hr with ⟨hpos, hM⟩ | ⟨hz, hM⟩ <;> first | (exfalso; omega) | exact qi_ok (Or.inr ⟨⟨fun q => by omega, fun q => by omega⟩, _, by rw [eR]; exact Or.inl ⟨hpos, rfl, hM⟩⟩) | exact qi_ok (Or.inr ⟨⟨fun q => by omega, fun q => by omega⟩, _, by rw [eR, eW]; exact Or.inr ⟨hz, rfl, hM⟩⟩))
  refine v_case (pc := 15) 3 (fun e15_3 => ?_) (fun e15_3 => ?_)
  · refine v_tableK 3 (pc := 15) (tgt := 118) dX5_isDone_15 ⟨by decide, by decide⟩ (by decide) (by decide) rfl rfl ?_ e15_3
    subst e15_3
    have eR : aR now aside 3 a b = rBury now aside 5 a := by unfold aR; rw [if_neg (by decide), if_neg (by decide), if_neg (by decide), if_pos rfl]
    have eW : aW now aside 3 a b cc = (mBuries (mHist now 3 a (-1) (-1)) aside 5 a).getD (mHist now 3 a (-1) (-1)) := by unfold aW; rw [if_neg (by decide), if_neg (by decide), if_neg (by decide), if_pos rfl]
    obtain ⟨hpk, hp0, hp1, hp2, hp4⟩ := hp
    have ha := hp2 (Or.inr rfl)
    refine v_ald0 (pc := 118) dX5_isDone_118 ?_
    refine v_ild2 (pc := 119) dX5_isDone_119 ?_
    refine v_cb0 (pc := 120) (v_runV1 okX5_isZone rfl (sp_X5_isZone hM (by omega) (by omega)) dX5_isDone_120 (lw_all_tbl q2139) (lw_all_tbl q2141) (lw_all_tbl qs58) rfl (mw_obj hM) (Nat.le_of_ble_eq_true rfl) ⟨Nat.zero_le _, Nat.zero_le _⟩ (Nat.le_of_ble_eq_true rfl)) (fun c120 => ?_) (fun c120 => ?_)
    · refine v_if_eq1 (pc := 123) (tgt := 138) dX5_isDone_123 rfl ?_
      refine v_ald0 (pc := 126) dX5_isDone_126 ?_
      refine v_ild2 (pc := 127) dX5_isDone_127 ?_
      refine v_ci0 (pc := 128) (v_runV1 okX5_actsBury rfl (sp_X5_actsBury hM hR hum rfl (by omega) (by omega)) dX5_isDone_128 (lw_all_tbl q2391) (lw_all_tbl q2393) (lw_all_tbl qs96) rfl (mw_obj hM) (Nat.le_of_ble_eq_true rfl) ⟨Nat.zero_le _, Nat.zero_le _⟩ (Nat.le_of_ble_eq_true rfl)) (fun x128 h hq128 => ?_)
      obtain ⟨ex128, tr, hr⟩ := hq128
      have hrr := aR_r (w := now) (as := aside) (k := 3) (a := a) (b := b)
      rw [eR] at hrr
      rw [ex128]
      refine v_if_ne (pc := 131) (tgt := 138) dX5_isDone_131 rfl (by omega) (fun c131 => ?_) (fun c131 => ?_)
      · refine v_iconst (pc := 138) dX5_isDone_138 ?_
        refine v_ret_z0 (pc := 139) dX5_isDone_139 rfl ?_
        first | (exact qi_ok (Or.inl ⟨(fun q => by have := q.1 rfl; omega), rfl, hM⟩)) | (exact qi_ok (Or.inl ⟨(fun q => by have := q.2 (by omega); omega), rfl, hM⟩)) | (rcases hr with ⟨hpos, hM⟩ | ⟨hz, hM⟩ <;> first | (exfalso; omega) | exact qi_ok (Or.inr ⟨⟨fun q => by omega, fun q => by omega⟩, _, by rw [eR]; exact Or.inl ⟨hpos, rfl, hM⟩⟩) | exact qi_ok (Or.inr ⟨⟨fun q => by omega, fun q => by omega⟩, _, by rw [eR, eW]; exact Or.inr ⟨hz, rfl, hM⟩⟩))
      · refine v_iconst (pc := 134) dX5_isDone_134 ?_
        refine v_goto (pc := 135) (tgt := 139) dX5_isDone_135 rfl ?_
        refine v_ret_z1 (pc := 139) dX5_isDone_139 rfl ?_
        first | (exact qi_ok (Or.inl ⟨(fun q => by have := q.1 rfl; omega), rfl, hM⟩)) | (exact qi_ok (Or.inl ⟨(fun q => by have := q.2 (by omega); omega), rfl, hM⟩)) | (rcases hr with ⟨hpos, hM⟩ | ⟨hz, hM⟩ <;> first | (exfalso; omega) | exact qi_ok (Or.inr ⟨⟨fun q => by omega, fun q => by omega⟩, _, by rw [eR]; exact Or.inl ⟨hpos, rfl, hM⟩⟩) | exact qi_ok (Or.inr ⟨⟨fun q => by omega, fun q => by omega⟩, _, by rw [eR, eW]; exact Or.inr ⟨hz, rfl, hM⟩⟩))
    · refine v_if_eq0 (pc := 123) (tgt := 138) dX5_isDone_123 rfl ?_
      refine v_iconst (pc := 138) dX5_isDone_138 ?_
      refine v_ret_z0 (pc := 139) dX5_isDone_139 rfl ?_
      first | (exact qi_ok (Or.inl ⟨(fun q => by have := q.1 rfl; omega), rfl, hM⟩)) | (exact qi_ok (Or.inl ⟨(fun q => by have := q.2 (by omega); omega), rfl, hM⟩)) | (rcases hr with ⟨hpos, hM⟩ | ⟨hz, hM⟩ <;> first | (exfalso; omega) | exact qi_ok (Or.inr ⟨⟨fun q => by omega, fun q => by omega⟩, _, by rw [eR]; exact Or.inl ⟨hpos, rfl, hM⟩⟩) | exact qi_ok (Or.inr ⟨⟨fun q => by omega, fun q => by omega⟩, _, by rw [eR, eW]; exact Or.inr ⟨hz, rfl, hM⟩⟩))
  refine v_tableOut (pc := 15) (tgt := 140) dX5_isDone_15 (by omega) (by omega) rfl ?_
  have eR : aR now aside k a b = rDays now := by unfold aR; rw [if_neg (by omega), if_neg (by omega), if_neg (by omega), if_neg (by omega)]
  have eW : aW now aside k a b cc = mDays (mHist now 4 a (-1) (-1)) aside 5 a := by unfold aW; rw [if_neg (by omega), if_neg (by omega), if_neg (by omega), if_neg (by omega)]
  obtain ⟨hpk, hp0, hp1, hp2, hp4⟩ := hp
  have ha := hp4 (by omega)
  refine v_ald0 (pc := 140) dX5_isDone_140 ?_
  refine v_ild2 (pc := 141) dX5_isDone_141 ?_
  refine v_ci0 (pc := 142) (v_runV1 okX5_actsDays rfl (sp_X5_actsDays hM hR hum rfl (by omega) (by omega)) dX5_isDone_142 (lw_all_tbl q2406) (lw_all_tbl q2408) (lw_all_tbl qs98) rfl (mw_obj hM) (Nat.le_of_ble_eq_true rfl) ⟨Nat.zero_le _, Nat.zero_le _⟩ (Nat.le_of_ble_eq_true rfl)) (fun x142 h hq142 => ?_)
  obtain ⟨ex142, tr, hr⟩ := hq142
  have hrr := aR_r (w := now) (as := aside) (k := k) (a := a) (b := b)
  rw [eR] at hrr
  rw [ex142]
  refine v_if_ne (pc := 145) (tgt := 152) dX5_isDone_145 rfl (by omega) (fun c145 => ?_) (fun c145 => ?_)
  · refine v_iconst (pc := 152) dX5_isDone_152 ?_
    refine v_ret_z0 (pc := 153) dX5_isDone_153 rfl ?_
    first | (exact qi_ok (Or.inl ⟨(fun q => by have := q.1 rfl; omega), rfl, hM⟩)) | (exact qi_ok (Or.inl ⟨(fun q => by have := q.2 (by omega); omega), rfl, hM⟩)) | (rcases hr with ⟨hpos, hM⟩ | ⟨hz, hM⟩ <;> first | (exfalso; omega) | exact qi_ok (Or.inr ⟨⟨fun q => by omega, fun q => by omega⟩, _, by rw [eR]; exact Or.inl ⟨hpos, rfl, hM⟩⟩) | exact qi_ok (Or.inr ⟨⟨fun q => by omega, fun q => by omega⟩, _, by rw [eR, eW]; exact Or.inr ⟨hz, rfl, hM⟩⟩))
  · refine v_iconst (pc := 148) dX5_isDone_148 ?_
    refine v_goto (pc := 149) (tgt := 153) dX5_isDone_149 rfl ?_
    refine v_ret_z1 (pc := 153) dX5_isDone_153 rfl ?_
    first | (exact qi_ok (Or.inl ⟨(fun q => by have := q.1 rfl; omega), rfl, hM⟩)) | (exact qi_ok (Or.inl ⟨(fun q => by have := q.2 (by omega); omega), rfl, hM⟩)) | (rcases hr with ⟨hpos, hM⟩ | ⟨hz, hM⟩ <;> first | (exfalso; omega) | exact qi_ok (Or.inr ⟨⟨fun q => by omega, fun q => by omega⟩, _, by rw [eR]; exact Or.inl ⟨hpos, rfl, hM⟩⟩) | exact qi_ok (Or.inr ⟨⟨fun q => by omega, fun q => by omega⟩, _, by rw [eR, eW]; exact Or.inr ⟨hz, rfl, hM⟩⟩))
