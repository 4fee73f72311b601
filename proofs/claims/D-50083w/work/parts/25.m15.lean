/-! FlashZonesModel: walks, 15 (printed by gen) -/
set_option maxRecDepth 100000
theorem sp_X5_losesBy {Γ : Cx} {t : Nat} {α : Nat → Nat} {h0 h : AH} {thrown : Int} {now : Int → Int} {aside : Int → Int} {tried : Int → Int} {undos : Int → Int} {undoMany : Int} {saved : Int → Int} {isSaved : Int → Int} {accounts : Int → Int} {way : Int} {leftOut : Int} {here : Int → Int} {text : Int → Int} {length : Int} {atp : Int} {frm : Int} {token : Int} {number : Int} {error : Int} {errorAt : Int} {commands : Int} {command : Int → Int} {out : Int → Int} {outLong : Int} {c : Int} {u : Int} (hM : MW t α h0 h thrown now aside tried undos undoMany saved isSaved accounts way leftOut here text length atp frm token number error errorAt commands command out outLong) (hR : ROK now c) (hu : 0 ≤ u ∧ u < now 7) (hle4 : now (23 + 17 * u + 7) ≤ 4) : Sp Γ yX5_losesBy mX5_losesBy 4 0 0 [.ref (α 0), vi u] h (Qe (mLoss now u (now (23 + 17 * u + 7))) h) NoX := by
  refine sp_of okX5_losesBy (cat_all rfl) (Nat.le_of_ble_eq_true rfl) rfl ?_
  have h7 := hR.s7
  have hle := hR.uLe u hu
  have hli := hR.uLi u hu
  have hlv := hR.uLv u hu
  have hc0 := hR.c0
  have ht := hR.t u (now (23 + 17 * u + 7)) hu ⟨by omega, by omega⟩
  have hlo := mLoss_r now u (now (23 + 17 * u + 7))
  refine v_ald0 (pc := 0) dX5_losesBy_0 ?_
  refine v_ild1 (pc := 1) dX5_losesBy_1 ?_
  refine v_ald0 (pc := 2) dX5_losesBy_2 ?_
  refine v_ild1 (pc := 3) dX5_losesBy_3 ?_
  refine v_bipush (pc := 4) dX5_losesBy_4 ⟨by decide, by decide⟩ ?_
  refine v_ce0 (pc := 6) (v_runV2 okX5_ofUnit rfl (sp_X5_ofUnit hM (by omega) (by omega)) dX5_losesBy_6 (lw_all_tbl q2104) (lw_all_tbl q2106) (lw_all_tbl qs51) rfl (mw_obj hM) (Nat.le_of_ble_eq_true rfl) ⟨Nat.zero_le _, Nat.zero_le _⟩ (Nat.le_of_ble_eq_true rfl)) ?_
  refine v_ce0 (pc := 9) (v_runV2 okX5_lossOf rfl (sp_X5_lossOf hM (by omega) (by omega) (by omega) (by omega)) dX5_losesBy_9 (lw_all_tbl q2217) (lw_all_tbl q2219) (lw_all_tbl qs67) rfl (mw_obj hM) (Nat.le_of_ble_eq_true rfl) ⟨Nat.zero_le _, Nat.zero_le _⟩ (Nat.le_of_ble_eq_true rfl)) ?_
  refine v_ret_n (pc := 12) dX5_losesBy_12 rfl ?_
  exact qe_ok (by first | rfl | omega)
theorem sp_X5_toldOf {Γ : Cx} {t : Nat} {α : Nat → Nat} {h0 h : AH} {thrown : Int} {now : Int → Int} {aside : Int → Int} {tried : Int → Int} {undos : Int → Int} {undoMany : Int} {saved : Int → Int} {isSaved : Int → Int} {accounts : Int → Int} {way : Int} {leftOut : Int} {here : Int → Int} {text : Int → Int} {length : Int} {atp : Int} {frm : Int} {token : Int} {number : Int} {error : Int} {errorAt : Int} {commands : Int} {command : Int → Int} {out : Int → Int} {outLong : Int} {c : Int} {u k : Int} (hM : MW t α h0 h thrown now aside tried undos undoMany saved isSaved accounts way leftOut here text length atp frm token number error errorAt commands command out outLong) (hR : ROK now c) (hu : 0 ≤ u ∧ u < now 7) (hle4 : now (23 + 17 * u + 7) ≤ 4) (hk : 0 ≤ k ∧ k ≤ 5 ∧ k ≠ 3) : Sp Γ yX5_toldOf mX5_toldOf 5 0 0 [.ref (α 0), vi u, vi k] h (Qe (mToldOf now u k) h) NoX := by
  refine sp_of okX5_toldOf (cat_all rfl) (Nat.le_of_ble_eq_true rfl) rfl ?_
  have h7 := hR.s7
  have hle := hR.uLe u hu
  have hli := hR.uLi u hu
  have hlv := hR.uLv u hu
  have hc0 := hR.c0
  have ht := hR.t u (now (23 + 17 * u + 7)) hu ⟨by omega, by omega⟩
  have hlo := mLoss_r now u (now (23 + 17 * u + 7))
  refine v_ild2 (pc := 0) dX5_toldOf_0 ?_
  refine v_case (pc := 1) 0 (fun e1_0 => ?_) (fun e1_0 => ?_)
  · refine v_tableK 0 (pc := 1) (tgt := 36) dX5_toldOf_1 ⟨by decide, by decide⟩ (by decide) (by decide) rfl rfl ?_ e1_0
    subst e1_0
    refine v_iconst (pc := 36) dX5_toldOf_36 ?_
    refine v_ret_n (pc := 37) dX5_toldOf_37 rfl ?_
    exact qe_ok (by unfold mToldOf; first | rfl | (rw [if_neg (by omega), if_neg (by omega), if_neg (by omega), if_neg (by omega)]) | (rw [if_neg (by omega), if_pos (by omega)]; first | rw [if_pos (by omega)] | rw [if_neg (by omega)]) | (rw [if_neg (by omega), if_neg (by omega), if_pos (by omega)]; first | rw [if_pos (by omega)] | rw [if_neg (by omega)]) | (rw [if_neg (by omega), if_neg (by omega), if_neg (by omega), if_pos (by omega)]; first | rw [if_pos (by omega)] | rw [if_neg (by omega)]))
  refine v_case (pc := 1) 1 (fun e1_1 => ?_) (fun e1_1 => ?_)
  · refine v_tableK 1 (pc := 1) (tgt := 38) dX5_toldOf_1 ⟨by decide, by decide⟩ (by decide) (by decide) rfl rfl ?_ e1_1
    subst e1_1
    refine v_ald0 (pc := 38) dX5_toldOf_38 ?_
    refine v_ild1 (pc := 39) dX5_toldOf_39 ?_
    refine v_cb0 (pc := 40) (v_runV1 okX5_lives rfl (sp_X5_lives hM (by omega) (by omega)) dX5_toldOf_40 (lw_all_tbl q2100) (lw_all_tbl q2102) (lw_all_tbl qs50) rfl (mw_obj hM) (Nat.le_of_ble_eq_true rfl) ⟨Nat.zero_le _, Nat.zero_le _⟩ (Nat.le_of_ble_eq_true rfl)) (fun c40 => ?_) (fun c40 => ?_)
    · refine v_if_eq1 (pc := 43) (tgt := 50) dX5_toldOf_43 rfl ?_
      refine v_iconst (pc := 46) dX5_toldOf_46 ?_
      refine v_goto (pc := 47) (tgt := 51) dX5_toldOf_47 rfl ?_
      refine v_ret_n (pc := 51) dX5_toldOf_51 rfl ?_
      exact qe_ok (by unfold mToldOf; first | rfl | (rw [if_neg (by omega), if_neg (by omega), if_neg (by omega), if_neg (by omega)]) | (rw [if_neg (by omega), if_pos (by omega)]; first | rw [if_pos (by omega)] | rw [if_neg (by omega)]) | (rw [if_neg (by omega), if_neg (by omega), if_pos (by omega)]; first | rw [if_pos (by omega)] | rw [if_neg (by omega)]) | (rw [if_neg (by omega), if_neg (by omega), if_neg (by omega), if_pos (by omega)]; first | rw [if_pos (by omega)] | rw [if_neg (by omega)]))
    · refine v_if_eq0 (pc := 43) (tgt := 50) dX5_toldOf_43 rfl ?_
      refine v_iconst (pc := 50) dX5_toldOf_50 ?_
      refine v_ret_n (pc := 51) dX5_toldOf_51 rfl ?_
      exact qe_ok (by unfold mToldOf; first | rfl | (rw [if_neg (by omega), if_neg (by omega), if_neg (by omega), if_neg (by omega)]) | (rw [if_neg (by omega), if_pos (by omega)]; first | rw [if_pos (by omega)] | rw [if_neg (by omega)]) | (rw [if_neg (by omega), if_neg (by omega), if_pos (by omega)]; first | rw [if_pos (by omega)] | rw [if_neg (by omega)]) | (rw [if_neg (by omega), if_neg (by omega), if_neg (by omega), if_pos (by omega)]; first | rw [if_pos (by omega)] | rw [if_neg (by omega)]))
  refine v_case (pc := 1) 2 (fun e1_2 => ?_) (fun e1_2 => ?_)
  · refine v_tableK 2 (pc := 1) (tgt := 52) dX5_toldOf_1 ⟨by decide, by decide⟩ (by decide) (by decide) rfl rfl ?_ e1_2
    subst e1_2
    refine v_ald0 (pc := 52) dX5_toldOf_52 ?_
    refine v_ild1 (pc := 53) dX5_toldOf_53 ?_
    refine v_cb0 (pc := 54) (v_runV1 okX5_lives rfl (sp_X5_lives hM (by omega) (by omega)) dX5_toldOf_54 (lw_all_tbl q2100) (lw_all_tbl q2102) (lw_all_tbl qs50) rfl (mw_obj hM) (Nat.le_of_ble_eq_true rfl) ⟨Nat.zero_le _, Nat.zero_le _⟩ (Nat.le_of_ble_eq_true rfl)) (fun c54 => ?_) (fun c54 => ?_)
    · refine v_if_eq1 (pc := 57) (tgt := 64) dX5_toldOf_57 rfl ?_
      refine v_iconst (pc := 60) dX5_toldOf_60 ?_
      refine v_goto (pc := 61) (tgt := 71) dX5_toldOf_61 rfl ?_
      refine v_ret_n (pc := 71) dX5_toldOf_71 rfl ?_
      exact qe_ok (by unfold mToldOf; first | rfl | (rw [if_neg (by omega), if_neg (by omega), if_neg (by omega), if_neg (by omega)]) | (rw [if_neg (by omega), if_pos (by omega)]; first | rw [if_pos (by omega)] | rw [if_neg (by omega)]) | (rw [if_neg (by omega), if_neg (by omega), if_pos (by omega)]; first | rw [if_pos (by omega)] | rw [if_neg (by omega)]) | (rw [if_neg (by omega), if_neg (by omega), if_neg (by omega), if_pos (by omega)]; first | rw [if_pos (by omega)] | rw [if_neg (by omega)]))
    · refine v_if_eq0 (pc := 57) (tgt := 64) dX5_toldOf_57 rfl ?_
      refine v_ald0 (pc := 64) dX5_toldOf_64 ?_
      refine v_ild1 (pc := 65) dX5_toldOf_65 ?_
      refine v_bipush (pc := 66) dX5_toldOf_66 ⟨by decide, by decide⟩ ?_
      refine v_ce0 (pc := 68) (v_runV2 okX5_ofUnit rfl (sp_X5_ofUnit hM (by omega) (by omega)) dX5_toldOf_68 (lw_all_tbl q2104) (lw_all_tbl q2106) (lw_all_tbl qs51) rfl (mw_obj hM) (Nat.le_of_ble_eq_true rfl) ⟨Nat.zero_le _, Nat.zero_le _⟩ (Nat.le_of_ble_eq_true rfl)) ?_
      refine v_ret_n (pc := 71) dX5_toldOf_71 rfl ?_
      exact qe_ok (by unfold mToldOf; first | rfl | (rw [if_neg (by omega), if_neg (by omega), if_neg (by omega), if_neg (by omega)]) | (rw [if_neg (by omega), if_pos (by omega)]; first | rw [if_pos (by omega)] | rw [if_neg (by omega)]) | (rw [if_neg (by omega), if_neg (by omega), if_pos (by omega)]; first | rw [if_pos (by omega)] | rw [if_neg (by omega)]) | (rw [if_neg (by omega), if_neg (by omega), if_neg (by omega), if_pos (by omega)]; first | rw [if_pos (by omega)] | rw [if_neg (by omega)]))
  refine v_case (pc := 1) 4 (fun e1_4 => ?_) (fun e1_4 => ?_)
  · refine v_tableK 4 (pc := 1) (tgt := 72) dX5_toldOf_1 ⟨by decide, by decide⟩ (by decide) (by decide) rfl rfl ?_ e1_4
    subst e1_4
    refine v_ald0 (pc := 72) dX5_toldOf_72 ?_
    refine v_ild1 (pc := 73) dX5_toldOf_73 ?_
    refine v_cb0 (pc := 74) (v_runV1 okX5_lives rfl (sp_X5_lives hM (by omega) (by omega)) dX5_toldOf_74 (lw_all_tbl q2100) (lw_all_tbl q2102) (lw_all_tbl qs50) rfl (mw_obj hM) (Nat.le_of_ble_eq_true rfl) ⟨Nat.zero_le _, Nat.zero_le _⟩ (Nat.le_of_ble_eq_true rfl)) (fun c74 => ?_) (fun c74 => ?_)
    · refine v_if_eq1 (pc := 77) (tgt := 84) dX5_toldOf_77 rfl ?_
      refine v_iconst (pc := 80) dX5_toldOf_80 ?_
      refine v_goto (pc := 81) (tgt := 89) dX5_toldOf_81 rfl ?_
      refine v_ret_n (pc := 89) dX5_toldOf_89 rfl ?_
      exact qe_ok (by unfold mToldOf; first | rfl | (rw [if_neg (by omega), if_neg (by omega), if_neg (by omega), if_neg (by omega)]) | (rw [if_neg (by omega), if_pos (by omega)]; first | rw [if_pos (by omega)] | rw [if_neg (by omega)]) | (rw [if_neg (by omega), if_neg (by omega), if_pos (by omega)]; first | rw [if_pos (by omega)] | rw [if_neg (by omega)]) | (rw [if_neg (by omega), if_neg (by omega), if_neg (by omega), if_pos (by omega)]; first | rw [if_pos (by omega)] | rw [if_neg (by omega)]))
    · refine v_if_eq0 (pc := 77) (tgt := 84) dX5_toldOf_77 rfl ?_
      refine v_ald0 (pc := 84) dX5_toldOf_84 ?_
      refine v_ild1 (pc := 85) dX5_toldOf_85 ?_
      refine v_ce0 (pc := 86) (v_runV1 okX5_losesBy rfl (sp_X5_losesBy hM (by omega) (by omega) (by omega)) dX5_toldOf_86 (lw_all_tbl q2213) (lw_all_tbl q2215) (lw_all_tbl qs66) rfl (mw_obj hM) (Nat.le_of_ble_eq_true rfl) ⟨Nat.zero_le _, Nat.zero_le _⟩ (Nat.le_of_ble_eq_true rfl)) ?_
      refine v_ret_n (pc := 89) dX5_toldOf_89 rfl ?_
      exact qe_ok (by unfold mToldOf; first | rfl | (rw [if_neg (by omega), if_neg (by omega), if_neg (by omega), if_neg (by omega)]) | (rw [if_neg (by omega), if_pos (by omega)]; first | rw [if_pos (by omega)] | rw [if_neg (by omega)]) | (rw [if_neg (by omega), if_neg (by omega), if_pos (by omega)]; first | rw [if_pos (by omega)] | rw [if_neg (by omega)]) | (rw [if_neg (by omega), if_neg (by omega), if_neg (by omega), if_pos (by omega)]; first | rw [if_pos (by omega)] | rw [if_neg (by omega)]))
  refine v_tableOut (pc := 1) (tgt := 90) dX5_toldOf_1 (by omega) (by omega) rfl ?_
  refine v_ald0 (pc := 90) dX5_toldOf_90 ?_
  refine v_ild1 (pc := 91) dX5_toldOf_91 ?_
  refine v_bipush (pc := 92) dX5_toldOf_92 ⟨by decide, by decide⟩ ?_
  refine v_ce0 (pc := 94) (v_runV2 okX5_ofUnit rfl (sp_X5_ofUnit hM (by omega) (by omega)) dX5_toldOf_94 (lw_all_tbl q2104) (lw_all_tbl q2106) (lw_all_tbl qs51) rfl (mw_obj hM) (Nat.le_of_ble_eq_true rfl) ⟨Nat.zero_le _, Nat.zero_le _⟩ (Nat.le_of_ble_eq_true rfl)) ?_
  refine v_ret_n (pc := 97) dX5_toldOf_97 rfl ?_
  exact qe_ok (by unfold mToldOf; first | rfl | (rw [if_neg (by omega), if_neg (by omega), if_neg (by omega), if_neg (by omega)]) | (rw [if_neg (by omega), if_pos (by omega)]; first | rw [if_pos (by omega)] | rw [if_neg (by omega)]) | (rw [if_neg (by omega), if_neg (by omega), if_pos (by omega)]; first | rw [if_pos (by omega)] | rw [if_neg (by omega)]) | (rw [if_neg (by omega), if_neg (by omega), if_neg (by omega), if_pos (by omega)]; first | rw [if_pos (by omega)] | rw [if_neg (by omega)]))
theorem sp_X5_writer {Γ : Cx} {t : Nat} {α : Nat → Nat} {h0 h : AH} {thrown : Int} {now : Int → Int} {aside : Int → Int} {tried : Int → Int} {undos : Int → Int} {undoMany : Int} {saved : Int → Int} {isSaved : Int → Int} {accounts : Int → Int} {way : Int} {leftOut : Int} {here : Int → Int} {text : Int → Int} {length : Int} {atp : Int} {frm : Int} {token : Int} {number : Int} {error : Int} {errorAt : Int} {commands : Int} {command : Int → Int} {out : Int → Int} {outLong : Int} {c : Int} {wr k : Int} (hM : MW t α h0 h thrown now aside tried undos undoMany saved isSaved accounts way leftOut here text length atp frm token number error errorAt commands command out outLong) (hR : ROK now c) (hle4 : ∀ u, 0 ≤ u ∧ u < now 7 → now (23 + 17 * u + 7) ≤ 4) (hwr : -2147483648 ≤ wr ∧ wr ≤ 2147483647) (hk : -2147483648 ≤ k ∧ k ≤ 2147483647) : Sp Γ yX5_writer mX5_writer 6 0 0 [.ref (α 0), vi wr, vi k] h (Qi (fun x h' => x = (if (0 ≤ wr ∧ wr ≤ 7) ∧ 0 ≤ k ∧ k ≤ 5 then mWriter now wr k else 0) ∧ MW t α h0 h' ((if (0 ≤ wr ∧ wr ≤ 7) ∧ 0 ≤ k ∧ k ≤ 5 then 0 else (if 0 ≤ wr ∧ wr ≤ 7 then 2 else 1))) now aside tried undos undoMany saved isSaved accounts way leftOut here text length atp frm token number error errorAt commands command out outLong)) NoX := by
  refine sp_of okX5_writer (cat_all rfl) (Nat.le_of_ble_eq_true rfl) rfl ?_
  have h7 := hR.s7
  have hc0 := hR.c0
  have L55 : ∀ (n9 : Nat) (h1 : AH) (n : Int) (u : Int), (now 7 - u).toNat = n9 → (MW t α h0 h1 0 now aside tried undos undoMany saved isSaved accounts way leftOut here text length atp frm token number error errorAt commands command out outLong) → ((0 ≤ wr ∧ wr ≤ 7) ∧ 0 ≤ k ∧ k ≤ 5) → (0 ≤ u ∧ u ≤ now 7) → (k = 3 ∧ -1 ≤ n ∧ n ≤ 14000000 ∨ k ≠ 3 ∧ 0 ≤ n ∧ n ≤ 14000000 * u) → (n = if k = 3 then mWr3 now wr u else mWrs now wr k u) → V Γ mX5_writer 6 0 0 (Qi (fun x h' => x = (if (0 ≤ wr ∧ wr ≤ 7) ∧ 0 ≤ k ∧ k ≤ 5 then mWriter now wr k else 0) ∧ MW t α h0 h' ((if (0 ≤ wr ∧ wr ≤ 7) ∧ 0 ≤ k ∧ k ≤ 5 then 0 else (if 0 ≤ wr ∧ wr ≤ 7 then 2 else 1))) now aside tried undos undoMany saved isSaved accounts way leftOut here text length atp frm token number error errorAt commands command out outLong)) (NoX) h1 0 0 55 [some (.ref (α 0)), some (vi wr), some (vi k), some (vi n), some (vi u)] [] := by
    intro n9
    induction n9 using Nat.strongRecOn with
    | _ n9 ih =>
      intro h1 n u hn9 hM hv hu hnr hn
      refine v_ild4 (pc := 55) dX5_writer_55 ?_
      refine v_ald0 (pc := 57) dX5_writer_57 ?_
      refine v_getf KX5 1 (pc := 58) dX5_writer_58 (lw_all_tbl q1995) (Or.inl rfl) (Nat.le_of_ble_eq_true rfl) (mw_obj hM) rfl ?_
      refine v_bipush (pc := 61) dX5_writer_61 ⟨by decide, by decide⟩ ?_
      refine v_ldM_now hM (pc := 63) dX5_writer_63 (by omega) ?_
      refine v_icmp_ge (pc := 64) (tgt := 139) dX5_writer_64 rfl (by omega) (by omega) (fun c64 => ?_) (fun c64 => ?_)
      · refine v_ild3 (pc := 139) dX5_writer_139 ?_
        refine v_ret_n (pc := 140) dX5_writer_140 rfl ?_
        exact qi_ok ⟨by rw [if_pos hv, mWriter, hn, show u = now 7 by omega], mw_thr hM (by rw [if_pos hv])⟩
      · have hw := hR.uWr u ⟨by omega, by omega⟩
        have hli := hR.uLi u ⟨by omega, by omega⟩
        have hlv := hR.uLv u ⟨by omega, by omega⟩
        have hle := hR.uLe u ⟨by omega, by omega⟩
        have hl4 := hle4 u ⟨by omega, by omega⟩
        have hmv := hR.uMv u ⟨by omega, by omega⟩
        have hlo := mLoss_r now u (now (23 + 17 * u + 7))
        have hdd := hR.uDd u ⟨by omega, by omega⟩
        refine v_ald0 (pc := 67) dX5_writer_67 ?_
        refine v_ild4 (pc := 68) dX5_writer_68 ?_
        refine v_iconst (pc := 70) dX5_writer_70 ?_
        refine v_ce0 (pc := 71) (v_runV2 okX5_ofUnit rfl (sp_X5_ofUnit hM (by omega) (by omega)) dX5_writer_71 (lw_all_tbl q2104) (lw_all_tbl q2106) (lw_all_tbl qs51) rfl (mw_obj hM) (Nat.le_of_ble_eq_true rfl) ⟨Nat.zero_le _, Nat.zero_le _⟩ (Nat.le_of_ble_eq_true rfl)) ?_
        refine v_ild1 (pc := 74) dX5_writer_74 ?_
        refine v_icmp_eq (pc := 75) (tgt := 81) dX5_writer_75 rfl (by omega) (by omega) (fun c75 => ?_) (fun c75 => ?_)
        · refine v_ild2 (pc := 81) dX5_writer_81 ?_
          refine v_iconst (pc := 82) dX5_writer_82 ?_
          refine v_icmp_ne (pc := 83) (tgt := 123) dX5_writer_83 rfl (by omega) (by omega) (fun c83 => ?_) (fun c83 => ?_)
          · have htr : 0 ≤ mToldOf now u k ∧ mToldOf now u k ≤ 14000000 := by unfold mToldOf; (repeat (any_goals split)) <;> omega
            refine v_ild3 (pc := 123) dX5_writer_123 ?_
            refine v_ald0 (pc := 124) dX5_writer_124 ?_
            refine v_ild4 (pc := 125) dX5_writer_125 ?_
            refine v_ild2 (pc := 127) dX5_writer_127 ?_
            refine v_ce0 (pc := 128) (v_runV2 okX5_toldOf rfl (sp_X5_toldOf hM (by omega) (by omega) (by omega) (by omega)) dX5_writer_128 (lw_all_tbl q2209) (lw_all_tbl q2211) (lw_all_tbl qs65) rfl (mw_obj hM) (Nat.le_of_ble_eq_true rfl) ⟨Nat.zero_le _, Nat.zero_le _⟩ (Nat.le_of_ble_eq_true rfl)) ?_
            refine v_iadd (pc := 131) dX5_writer_131 ?_
            refine v_ist3 (pc := 132) dX5_writer_132 rfl ?_
            refine v_iinc4 (pc := 133) dX5_writer_133 rfl ?_
            refine v_goto (pc := 136) (tgt := 55) dX5_writer_136 rfl ?_
            exact ih _ (by omega) _ _ _ rfl hM hv (by omega) (by omega) (by by_cases q : k = 3 <;> first | (exfalso; omega) | (rw [if_pos q] at hn ⊢; rw [mWr3_s hu.1, ← hn]; first | rw [if_pos (by omega)] | rw [if_neg (by omega)]) | (rw [if_neg q] at hn ⊢; rw [mWrs_s hu.1, ← hn]; first | rw [if_pos (by omega)] | (rw [if_neg (by omega)]; omega)))
          · refine v_ald0 (pc := 86) dX5_writer_86 ?_
            refine v_ild4 (pc := 87) dX5_writer_87 ?_
            refine v_cb0 (pc := 89) (v_runV1 okX5_lives rfl (sp_X5_lives hM (by omega) (by omega)) dX5_writer_89 (lw_all_tbl q2100) (lw_all_tbl q2102) (lw_all_tbl qs50) rfl (mw_obj hM) (Nat.le_of_ble_eq_true rfl) ⟨Nat.zero_le _, Nat.zero_le _⟩ (Nat.le_of_ble_eq_true rfl)) (fun c89 => ?_) (fun c89 => ?_)
            · refine v_if_ne1 (pc := 92) (tgt := 118) dX5_writer_92 rfl ?_
              refine v_ild3 (pc := 118) dX5_writer_118 ?_
              refine v_ist3 (pc := 119) dX5_writer_119 rfl ?_
              refine v_goto (pc := 120) (tgt := 133) dX5_writer_120 rfl ?_
              refine v_iinc4 (pc := 133) dX5_writer_133 rfl ?_
              refine v_goto (pc := 136) (tgt := 55) dX5_writer_136 rfl ?_
              exact ih _ (by omega) _ _ _ rfl hM hv (by omega) (by omega) (by by_cases q : k = 3 <;> first | (exfalso; omega) | (rw [if_pos q] at hn ⊢; rw [mWr3_s hu.1, ← hn]; first | rw [if_pos (by omega)] | rw [if_neg (by omega)]) | (rw [if_neg q] at hn ⊢; rw [mWrs_s hu.1, ← hn]; first | rw [if_pos (by omega)] | (rw [if_neg (by omega)]; omega)))
            · refine v_if_ne0 (pc := 92) (tgt := 118) dX5_writer_92 rfl ?_
              refine v_ald0 (pc := 95) dX5_writer_95 ?_
              refine v_ild4 (pc := 96) dX5_writer_96 ?_
              refine v_bipush (pc := 98) dX5_writer_98 ⟨by decide, by decide⟩ ?_
              refine v_ce0 (pc := 100) (v_runV2 okX5_ofUnit rfl (sp_X5_ofUnit hM (by omega) (by omega)) dX5_writer_100 (lw_all_tbl q2104) (lw_all_tbl q2106) (lw_all_tbl qs51) rfl (mw_obj hM) (Nat.le_of_ble_eq_true rfl) ⟨Nat.zero_le _, Nat.zero_le _⟩ (Nat.le_of_ble_eq_true rfl)) ?_
              refine v_ild3 (pc := 103) dX5_writer_103 ?_
              refine v_icmp_le (pc := 104) (tgt := 118) dX5_writer_104 rfl (by omega) (by omega) (fun c104 => ?_) (fun c104 => ?_)
              · refine v_ild3 (pc := 118) dX5_writer_118 ?_
                refine v_ist3 (pc := 119) dX5_writer_119 rfl ?_
                refine v_goto (pc := 120) (tgt := 133) dX5_writer_120 rfl ?_
                refine v_iinc4 (pc := 133) dX5_writer_133 rfl ?_
                refine v_goto (pc := 136) (tgt := 55) dX5_writer_136 rfl ?_
                exact ih _ (by omega) _ _ _ rfl hM hv (by omega) (by omega) (by by_cases q : k = 3 <;> first | (exfalso; omega) | (rw [if_pos q] at hn ⊢; rw [mWr3_s hu.1, ← hn]; first | rw [if_pos (by omega)] | rw [if_neg (by omega)]) | (rw [if_neg q] at hn ⊢; rw [mWrs_s hu.1, ← hn]; first | rw [if_pos (by omega)] | (rw [if_neg (by omega)]; omega)))
              · refine v_ald0 (pc := 107) dX5_writer_107 ?_
                refine v_ild4 (pc := 108) dX5_writer_108 ?_
                refine v_bipush (pc := 110) dX5_writer_110 ⟨by decide, by decide⟩ ?_
                refine v_ce0 (pc := 112) (v_runV2 okX5_ofUnit rfl (sp_X5_ofUnit hM (by omega) (by omega)) dX5_writer_112 (lw_all_tbl q2104) (lw_all_tbl q2106) (lw_all_tbl qs51) rfl (mw_obj hM) (Nat.le_of_ble_eq_true rfl) ⟨Nat.zero_le _, Nat.zero_le _⟩ (Nat.le_of_ble_eq_true rfl)) ?_
                refine v_goto (pc := 115) (tgt := 119) dX5_writer_115 rfl ?_
                refine v_ist3 (pc := 119) dX5_writer_119 rfl ?_
                refine v_goto (pc := 120) (tgt := 133) dX5_writer_120 rfl ?_
                refine v_iinc4 (pc := 133) dX5_writer_133 rfl ?_
                refine v_goto (pc := 136) (tgt := 55) dX5_writer_136 rfl ?_
                exact ih _ (by omega) _ _ _ rfl hM hv (by omega) (by omega) (by by_cases q : k = 3 <;> first | (exfalso; omega) | (rw [if_pos q] at hn ⊢; rw [mWr3_s hu.1, ← hn]; first | rw [if_pos (by omega)] | rw [if_neg (by omega)]) | (rw [if_neg q] at hn ⊢; rw [mWrs_s hu.1, ← hn]; first | rw [if_pos (by omega)] | (rw [if_neg (by omega)]; omega)))
        · refine v_goto (pc := 78) (tgt := 133) dX5_writer_78 rfl ?_
          refine v_iinc4 (pc := 133) dX5_writer_133 rfl ?_
          refine v_goto (pc := 136) (tgt := 55) dX5_writer_136 rfl ?_
          exact ih _ (by omega) _ _ _ rfl hM hv (by omega) (by omega) (by by_cases q : k = 3 <;> first | (exfalso; omega) | (rw [if_pos q] at hn ⊢; rw [mWr3_s hu.1, ← hn]; first | rw [if_pos (by omega)] | rw [if_neg (by omega)]) | (rw [if_neg q] at hn ⊢; rw [mWrs_s hu.1, ← hn]; first | rw [if_pos (by omega)] | (rw [if_neg (by omega)]; omega)))
  refine v_ald0 (pc := 0) dX5_writer_0 ?_
  refine v_ild1 (pc := 1) dX5_writer_1 ?_
  refine v_iconst (pc := 2) dX5_writer_2 ?_
  refine v_bipush (pc := 3) dX5_writer_3 ⟨by decide, by decide⟩ ?_
  refine v_cb0 (pc := 5) (v_runS3 okX5_in rfl (sp_X5_in (by omega) (by omega) (by omega)) dX5_writer_5 (lw_all_tbl q2079) (lw_all_tbl q2080) (Nat.le_of_ble_eq_true rfl) ⟨Nat.zero_le _, Nat.zero_le _⟩ (Nat.le_of_ble_eq_true rfl)) (fun c5 => ?_) (fun c5 => ?_)
  · refine v_if_ne1 (pc := 8) (tgt := 15) dX5_writer_8 rfl ?_
    refine v_ild2 (pc := 15) dX5_writer_15 ?_
    refine v_iconst (pc := 16) dX5_writer_16 ?_
    refine v_iconst (pc := 17) dX5_writer_17 ?_
    refine v_cb0 (pc := 18) (v_runS3 okX5_in rfl (sp_X5_in (by omega) (by omega) (by omega)) dX5_writer_18 (lw_all_tbl q2079) (lw_all_tbl q2080) (Nat.le_of_ble_eq_true rfl) ⟨Nat.zero_le _, Nat.zero_le _⟩ (Nat.le_of_ble_eq_true rfl)) (fun c18 => ?_) (fun c18 => ?_)
    · refine v_if_eq1 (pc := 21) (tgt := 28) dX5_writer_21 rfl ?_
      refine v_iconst (pc := 24) dX5_writer_24 ?_
      refine v_goto (pc := 25) (tgt := 29) dX5_writer_25 rfl ?_
      refine v_ptM_thrown hM (pc := 29) dX5_writer_29 (lw_all_tbl q1994) (fun h hM => ?_)
      refine v_ald0 (pc := 32) dX5_writer_32 ?_
      refine v_getf KX5 0 (pc := 33) dX5_writer_33 (lw_all_tbl q1994) (Or.inl rfl) (Nat.le_of_ble_eq_true rfl) (mw_obj hM) rfl ?_
      refine v_if_le (pc := 36) (tgt := 41) dX5_writer_36 rfl (by omega) (fun _ => ?_) (fun c => absurd c (by decide))
      refine v_ild2 (pc := 41) dX5_writer_41 ?_
      refine v_iconst (pc := 42) dX5_writer_42 ?_
      refine v_icmp_ne (pc := 43) (tgt := 50) dX5_writer_43 rfl (by omega) (by omega) (fun c43 => ?_) (fun c43 => ?_)
      · refine v_iconst (pc := 50) dX5_writer_50 ?_
        refine v_ist3 (pc := 51) dX5_writer_51 rfl ?_
        refine v_iconst (pc := 52) dX5_writer_52 ?_
        refine v_ist4 (pc := 53) dX5_writer_53 rfl ?_
        exact L55 _ _ _ _ rfl hM (by omega) (by omega) (by omega) (by first | rw [if_pos (by omega)]; rfl | (rw [if_neg (by omega)]; rfl))
      · refine v_iconst (pc := 46) dX5_writer_46 ?_
        refine v_goto (pc := 47) (tgt := 51) dX5_writer_47 rfl ?_
        refine v_ist3 (pc := 51) dX5_writer_51 rfl ?_
        refine v_iconst (pc := 52) dX5_writer_52 ?_
        refine v_ist4 (pc := 53) dX5_writer_53 rfl ?_
        exact L55 _ _ _ _ rfl hM (by omega) (by omega) (by omega) (by first | rw [if_pos (by omega)]; rfl | (rw [if_neg (by omega)]; rfl))
    · refine v_if_eq0 (pc := 21) (tgt := 28) dX5_writer_21 rfl ?_
      refine v_iconst (pc := 28) dX5_writer_28 ?_
      refine v_ptM_thrown hM (pc := 29) dX5_writer_29 (lw_all_tbl q1994) (fun h hM => ?_)
      refine v_ald0 (pc := 32) dX5_writer_32 ?_
      refine v_getf KX5 0 (pc := 33) dX5_writer_33 (lw_all_tbl q1994) (Or.inl rfl) (Nat.le_of_ble_eq_true rfl) (mw_obj hM) rfl ?_
      refine v_if_le (pc := 36) (tgt := 41) dX5_writer_36 rfl (by omega) (fun c => absurd c (by decide)) (fun _ => ?_)
      refine v_iconst (pc := 39) dX5_writer_39 ?_
      refine v_ret_n (pc := 40) dX5_writer_40 rfl ?_
      first | (exfalso; omega) | exact qi_ok ⟨by rw [if_pos (by omega)] <;> (first | rfl | (show (_ : Int) = (if _ then 1 else 0); first | rw [if_pos (by omega)] | rw [if_neg (by omega)])), mw_thr hM (by rw [if_pos (by omega)])⟩ | exact qi_ok ⟨by rw [if_neg (by omega)], mw_thr hM (by rw [if_neg (by omega)] <;> (first | rw [if_pos (by omega)] | rw [if_neg (by omega)]))⟩ | exact qi_ok ⟨by rw [if_neg (by omega)], mw_thr hM (by rw [if_neg (by omega)])⟩
  · refine v_if_ne0 (pc := 8) (tgt := 15) dX5_writer_8 rfl ?_
    refine v_iconst (pc := 11) dX5_writer_11 ?_
    refine v_goto (pc := 12) (tgt := 29) dX5_writer_12 rfl ?_
    refine v_ptM_thrown hM (pc := 29) dX5_writer_29 (lw_all_tbl q1994) (fun h hM => ?_)
    refine v_ald0 (pc := 32) dX5_writer_32 ?_
    refine v_getf KX5 0 (pc := 33) dX5_writer_33 (lw_all_tbl q1994) (Or.inl rfl) (Nat.le_of_ble_eq_true rfl) (mw_obj hM) rfl ?_
    refine v_if_le (pc := 36) (tgt := 41) dX5_writer_36 rfl (by omega) (fun c => absurd c (by decide)) (fun _ => ?_)
    refine v_iconst (pc := 39) dX5_writer_39 ?_
    refine v_ret_n (pc := 40) dX5_writer_40 rfl ?_
    first | (exfalso; omega) | exact qi_ok ⟨by rw [if_pos (by omega)] <;> (first | rfl | (show (_ : Int) = (if _ then 1 else 0); first | rw [if_pos (by omega)] | rw [if_neg (by omega)])), mw_thr hM (by rw [if_pos (by omega)])⟩ | exact qi_ok ⟨by rw [if_neg (by omega)], mw_thr hM (by rw [if_neg (by omega)] <;> (first | rw [if_pos (by omega)] | rw [if_neg (by omega)]))⟩ | exact qi_ok ⟨by rw [if_neg (by omega)], mw_thr hM (by rw [if_neg (by omega)])⟩
theorem sp_X5_late {Γ : Cx} {t : Nat} {α : Nat → Nat} {h0 h : AH} {thrown : Int} {now : Int → Int} {aside : Int → Int} {tried : Int → Int} {undos : Int → Int} {undoMany : Int} {saved : Int → Int} {isSaved : Int → Int} {accounts : Int → Int} {way : Int} {leftOut : Int} {here : Int → Int} {text : Int → Int} {length : Int} {atp : Int} {frm : Int} {token : Int} {number : Int} {error : Int} {errorAt : Int} {commands : Int} {command : Int → Int} {out : Int → Int} {outLong : Int} {c : Int} {i : Int} (hM : MW t α h0 h thrown now aside tried undos undoMany saved isSaved accounts way leftOut here text length atp frm token number error errorAt commands command out outLong) (hR : ROK now c) (hi : -2147483648 ≤ i ∧ i ≤ 2147483647) : Sp Γ yX5_late mX5_late 4 0 0 [.ref (α 0), vi i] h (Qi (fun x h' => x = (if 0 ≤ i then (mLate now i (now 7)).2 else 0) ∧ MW t α h0 h' ((if 0 ≤ i then 0 else 1)) now aside tried undos undoMany saved isSaved accounts way leftOut here text length atp frm token number error errorAt commands command out outLong)) NoX := by
  refine sp_of okX5_late (cat_all rfl) (Nat.le_of_ble_eq_true rfl) rfl ?_
  have h7 := hR.s7
  have hc0 := hR.c0
  have hs0 := hR.s0
  have hs2 := hR.s2
  have h6 := hR.s6
  have L17 : ∀ (n9 : Nat) (h1 : AH) (th : Int) (n : Int) (u : Int), (now 7 - u).toNat = n9 → (MW t α h0 h1 th now aside tried undos undoMany saved isSaved accounts way leftOut here text length atp frm token number error errorAt commands command out outLong) → (th = if 0 ≤ i then 0 else 1) → (0 ≤ u ∧ u ≤ now 7 ∧ (th = 0 ∨ u = 0)) → (n ≤ i ∧ (th = 1 ∨ 0 ≤ n)) → (mLate now i u = (n, -1)) → V Γ mX5_late 4 0 0 (Qi (fun x h' => x = (if 0 ≤ i then (mLate now i (now 7)).2 else 0) ∧ MW t α h0 h' ((if 0 ≤ i then 0 else 1)) now aside tried undos undoMany saved isSaved accounts way leftOut here text length atp frm token number error errorAt commands command out outLong)) (NoX) h1 0 0 17 [some (.ref (α 0)), some (vi i), some (vi n), some (vi u), none] [] := by
    intro n9
    induction n9 using Nat.strongRecOn with
    | _ n9 ih =>
      intro h1 th n u hn9 hM hth hu hnr hn
      have hth2 : th = 0 ∧ 0 ≤ i ∨ th = 1 ∧ ¬ 0 ≤ i := by split at hth <;> omega
      refine v_ild3 (pc := 17) dX5_late_17 ?_
      refine v_ald0 (pc := 18) dX5_late_18 ?_
      refine v_getf KX5 1 (pc := 19) dX5_late_19 (lw_all_tbl q1995) (Or.inl rfl) (Nat.le_of_ble_eq_true rfl) (mw_obj hM) rfl ?_
      refine v_bipush (pc := 22) dX5_late_22 ⟨by decide, by decide⟩ ?_
      refine v_ldM_now hM (pc := 24) dX5_late_24 (by omega) ?_
      refine v_icmp_ge (pc := 25) (tgt := 100) dX5_late_25 rfl (by omega) (by omega) (fun c25 => ?_) (fun c25 => ?_)
      · refine v_ald0 (pc := 100) dX5_late_100 ?_
        refine v_getf KX5 0 (pc := 101) dX5_late_101 (lw_all_tbl q1994) (Or.inl rfl) (Nat.le_of_ble_eq_true rfl) (mw_obj hM) rfl ?_
        refine v_if_le (pc := 104) (tgt := 111) dX5_late_104 rfl (by omega) (fun c104 => ?_) (fun c104 => ?_)
        · refine v_iconst (pc := 111) dX5_late_111 ?_
          refine v_ret_n (pc := 112) dX5_late_112 rfl ?_
          rcases hth2 with q | q
          · first | (exfalso; omega) | exact qi_ok ⟨by rw [if_pos (by omega), show now 7 = u by omega, hn], mw_thr hM hth⟩
          · first | (exfalso; omega) | exact qi_ok ⟨by rw [if_neg (by omega)], mw_thr hM hth⟩
        · refine v_iconst (pc := 107) dX5_late_107 ?_
          refine v_goto (pc := 108) (tgt := 112) dX5_late_108 rfl ?_
          refine v_ret_n (pc := 112) dX5_late_112 rfl ?_
          rcases hth2 with q | q
          · first | (exfalso; omega) | exact qi_ok ⟨by rw [if_pos (by omega), show now 7 = u by omega, hn], mw_thr hM hth⟩
          · first | (exfalso; omega) | exact qi_ok ⟨by rw [if_neg (by omega)], mw_thr hM hth⟩
      · refine v_ald0 (pc := 28) dX5_late_28 ?_
        refine v_getf KX5 0 (pc := 29) dX5_late_29 (lw_all_tbl q1994) (Or.inl rfl) (Nat.le_of_ble_eq_true rfl) (mw_obj hM) rfl ?_
        refine v_if_ne (pc := 32) (tgt := 100) dX5_late_32 rfl (by omega) (fun c32 => ?_) (fun c32 => ?_)
        · refine v_ald0 (pc := 100) dX5_late_100 ?_
          refine v_getf KX5 0 (pc := 101) dX5_late_101 (lw_all_tbl q1994) (Or.inl rfl) (Nat.le_of_ble_eq_true rfl) (mw_obj hM) rfl ?_
          refine v_if_le (pc := 104) (tgt := 111) dX5_late_104 rfl (by omega) (fun c104 => ?_) (fun c104 => ?_)
          · refine v_iconst (pc := 111) dX5_late_111 ?_
            refine v_ret_n (pc := 112) dX5_late_112 rfl ?_
            rcases hth2 with q | q
            · first | (exfalso; omega) | exact qi_ok ⟨by rw [if_pos (by omega), show now 7 = u by omega, hn], mw_thr hM hth⟩
            · first | (exfalso; omega) | exact qi_ok ⟨by rw [if_neg (by omega)], mw_thr hM hth⟩
          · refine v_iconst (pc := 107) dX5_late_107 ?_
            refine v_goto (pc := 108) (tgt := 112) dX5_late_108 rfl ?_
            refine v_ret_n (pc := 112) dX5_late_112 rfl ?_
            rcases hth2 with q | q
            · first | (exfalso; omega) | exact qi_ok ⟨by rw [if_pos (by omega), show now 7 = u by omega, hn], mw_thr hM hth⟩
            · first | (exfalso; omega) | exact qi_ok ⟨by rw [if_neg (by omega)], mw_thr hM hth⟩
        · have hlv := hR.uLv u ⟨by omega, by omega⟩
          have hwh := hR.uWh u ⟨by omega, by omega⟩
          have hal := hR.uAl u ⟨by omega, by omega⟩
          refine v_ald0 (pc := 35) dX5_late_35 ?_
          refine v_ild3 (pc := 36) dX5_late_36 ?_
          refine v_cb0 (pc := 37) (v_runV1 okX5_lives rfl (sp_X5_lives hM (by omega) (by omega)) dX5_late_37 (lw_all_tbl q2100) (lw_all_tbl q2102) (lw_all_tbl qs50) rfl (mw_obj hM) (Nat.le_of_ble_eq_true rfl) ⟨Nat.zero_le _, Nat.zero_le _⟩ (Nat.le_of_ble_eq_true rfl)) (fun c37 => ?_) (fun c37 => ?_)
          · have hzw := hR.zW (now (23 + 17 * u + 5)) ⟨by omega, by omega⟩
            have hzp := hR.zP (now (23 + 17 * u + 5)) ⟨by omega, by omega⟩
            refine v_if_eq1 (pc := 40) (tgt := 67) dX5_late_40 rfl ?_
            refine v_ald0 (pc := 43) dX5_late_43 ?_
            refine v_ald0 (pc := 44) dX5_late_44 ?_
            refine v_ild3 (pc := 45) dX5_late_45 ?_
            refine v_iconst (pc := 46) dX5_late_46 ?_
            refine v_ce0 (pc := 47) (v_runV2 okX5_ofUnit rfl (sp_X5_ofUnit hM (by omega) (by omega)) dX5_late_47 (lw_all_tbl q2104) (lw_all_tbl q2106) (lw_all_tbl qs51) rfl (mw_obj hM) (Nat.le_of_ble_eq_true rfl) ⟨Nat.zero_le _, Nat.zero_le _⟩ (Nat.le_of_ble_eq_true rfl)) ?_
            refine v_ce0 (pc := 50) (v_runV1 okX5_lastDay rfl (sp_X5_lastDay hM (by omega)) dX5_late_50 (lw_all_tbl q2147) (lw_all_tbl q2149) (lw_all_tbl qs60) rfl (mw_obj hM) (Nat.le_of_ble_eq_true rfl) ⟨Nat.zero_le _, Nat.zero_le _⟩ (Nat.le_of_ble_eq_true rfl)) ?_
            refine v_ald0 (pc := 53) dX5_late_53 ?_
            refine v_getf KX5 1 (pc := 54) dX5_late_54 (lw_all_tbl q1995) (Or.inl rfl) (Nat.le_of_ble_eq_true rfl) (mw_obj hM) rfl ?_
            refine v_bipush (pc := 57) dX5_late_57 ⟨by decide, by decide⟩ ?_
            refine v_ldM_now hM (pc := 59) dX5_late_59 (by omega) ?_
            refine v_icmp_ge (pc := 60) (tgt := 67) dX5_late_60 rfl (by omega) (by omega) (fun c60 => ?_) (fun c60 => ?_)
            · refine v_iconst (pc := 67) dX5_late_67 ?_
              refine v_ist4 (pc := 68) dX5_late_68 rfl ?_
              refine v_ild4 (pc := 70) dX5_late_70 ?_
              refine v_if_eq0 (pc := 72) (tgt := 81) dX5_late_72 rfl ?_
              refine v_ild2 (pc := 81) dX5_late_81 ?_
              refine v_ild4 (pc := 82) dX5_late_82 ?_
              refine v_if_eq0 (pc := 84) (tgt := 91) dX5_late_84 rfl ?_
              refine v_iconst (pc := 91) dX5_late_91 ?_
              refine v_isub (pc := 92) dX5_late_92 ?_
              refine v_ist2 (pc := 93) dX5_late_93 rfl ?_
              refine v_iinc3 (pc := 94) dX5_late_94 rfl ?_
              refine v_goto (pc := 97) (tgt := 17) dX5_late_97 rfl ?_
              refine v_forget 4 ?_
              exact ih _ (by omega) _ _ _ _ rfl hM hth (by omega) (by omega) (by rw [mLate_s hu.1, hn, if_neg (fun z => z rfl)]; first | (rw [if_neg (by unfold mOver; omega)]; congr 1 <;> omega) | (rw [if_pos (by unfold mOver; omega), if_neg (by dsimp only; omega)]))
            · refine v_iconst (pc := 63) dX5_late_63 ?_
              refine v_goto (pc := 64) (tgt := 68) dX5_late_64 rfl ?_
              refine v_ist4 (pc := 68) dX5_late_68 rfl ?_
              refine v_ild4 (pc := 70) dX5_late_70 ?_
              refine v_if_eq1 (pc := 72) (tgt := 81) dX5_late_72 rfl ?_
              refine v_ild2 (pc := 75) dX5_late_75 ?_
              refine v_if_ne (pc := 76) (tgt := 81) dX5_late_76 rfl (by omega) (fun c76 => ?_) (fun c76 => ?_)
              · refine v_ild2 (pc := 81) dX5_late_81 ?_
                refine v_ild4 (pc := 82) dX5_late_82 ?_
                refine v_if_eq1 (pc := 84) (tgt := 91) dX5_late_84 rfl ?_
                refine v_iconst (pc := 87) dX5_late_87 ?_
                refine v_goto (pc := 88) (tgt := 92) dX5_late_88 rfl ?_
                refine v_isub (pc := 92) dX5_late_92 ?_
                refine v_ist2 (pc := 93) dX5_late_93 rfl ?_
                refine v_iinc3 (pc := 94) dX5_late_94 rfl ?_
                refine v_goto (pc := 97) (tgt := 17) dX5_late_97 rfl ?_
                refine v_forget 4 ?_
                exact ih _ (by omega) _ _ _ _ rfl hM hth (by omega) (by omega) (by rw [mLate_s hu.1, hn, if_neg (fun z => z rfl)]; first | (rw [if_neg (by unfold mOver; omega)]; congr 1 <;> omega) | (rw [if_pos (by unfold mOver; omega), if_neg (by dsimp only; omega)]))
              · refine v_ild3 (pc := 79) dX5_late_79 ?_
                refine v_ret_n (pc := 80) dX5_late_80 rfl ?_
                have hx : mLate now i (now 7) = (0, u) := mLate_stay (k := u + 1) (by omega) (by omega) (by rw [mLate_s hu.1, hn, if_neg (fun z => z rfl), if_pos (by unfold mOver; omega), if_pos (by dsimp only; omega)]; congr 1 <;> omega) (by dsimp only; omega)
                exact qi_ok ⟨by rw [if_pos (by omega), hx], mw_thr hM hth⟩
          · refine v_if_eq0 (pc := 40) (tgt := 67) dX5_late_40 rfl ?_
            refine v_iconst (pc := 67) dX5_late_67 ?_
            refine v_ist4 (pc := 68) dX5_late_68 rfl ?_
            refine v_ild4 (pc := 70) dX5_late_70 ?_
            refine v_if_eq0 (pc := 72) (tgt := 81) dX5_late_72 rfl ?_
            refine v_ild2 (pc := 81) dX5_late_81 ?_
            refine v_ild4 (pc := 82) dX5_late_82 ?_
            refine v_if_eq0 (pc := 84) (tgt := 91) dX5_late_84 rfl ?_
            refine v_iconst (pc := 91) dX5_late_91 ?_
            refine v_isub (pc := 92) dX5_late_92 ?_
            refine v_ist2 (pc := 93) dX5_late_93 rfl ?_
            refine v_iinc3 (pc := 94) dX5_late_94 rfl ?_
            refine v_goto (pc := 97) (tgt := 17) dX5_late_97 rfl ?_
            refine v_forget 4 ?_
            exact ih _ (by omega) _ _ _ _ rfl hM hth (by omega) (by omega) (by rw [mLate_s hu.1, hn, if_neg (fun z => z rfl)]; first | (rw [if_neg (by unfold mOver; omega)]; congr 1 <;> omega) | (rw [if_pos (by unfold mOver; omega), if_neg (by dsimp only; omega)]))
  refine v_ald0 (pc := 0) dX5_late_0 ?_
  refine v_ild1 (pc := 1) dX5_late_1 ?_
  refine v_if_lt (pc := 2) (tgt := 9) dX5_late_2 rfl (by omega) (fun c2 => ?_) (fun c2 => ?_)
  · refine v_iconst (pc := 9) dX5_late_9 ?_
    refine v_ptM_thrown hM (pc := 10) dX5_late_10 (lw_all_tbl q1994) (fun h hM => ?_)
    refine v_ild1 (pc := 13) dX5_late_13 ?_
    refine v_ist2 (pc := 14) dX5_late_14 rfl ?_
    refine v_iconst (pc := 15) dX5_late_15 ?_
    refine v_ist3 (pc := 16) dX5_late_16 rfl ?_
    exact L17 _ _ _ _ _ rfl hM (by first | rw [if_pos (by omega)] | rw [if_neg (by omega)]) (by omega) (by omega) rfl
  · refine v_iconst (pc := 5) dX5_late_5 ?_
    refine v_goto (pc := 6) (tgt := 10) dX5_late_6 rfl ?_
    refine v_ptM_thrown hM (pc := 10) dX5_late_10 (lw_all_tbl q1994) (fun h hM => ?_)
    refine v_ild1 (pc := 13) dX5_late_13 ?_
    refine v_ist2 (pc := 14) dX5_late_14 rfl ?_
    refine v_iconst (pc := 15) dX5_late_15 ?_
    refine v_ist3 (pc := 16) dX5_late_16 rfl ?_
    exact L17 _ _ _ _ _ rfl hM (by first | rw [if_pos (by omega)] | rw [if_neg (by omega)]) (by omega) (by omega) rfl
theorem sp_X5_wear {Γ : Cx} {t : Nat} {α : Nat → Nat} {h0 h : AH} {thrown : Int} {now : Int → Int} {aside : Int → Int} {tried : Int → Int} {undos : Int → Int} {undoMany : Int} {saved : Int → Int} {isSaved : Int → Int} {accounts : Int → Int} {way : Int} {leftOut : Int} {here : Int → Int} {text : Int → Int} {length : Int} {atp : Int} {frm : Int} {token : Int} {number : Int} {error : Int} {errorAt : Int} {commands : Int} {command : Int → Int} {out : Int → Int} {outLong : Int} {c : Int} {k : Int} (hM : MW t α h0 h thrown now aside tried undos undoMany saved isSaved accounts way leftOut here text length atp frm token number error errorAt commands command out outLong) (hR : ROK now c) (hk : -2147483648 ≤ k ∧ k ≤ 2147483647) : Sp Γ yX5_wear mX5_wear 2 0 0 [.ref (α 0), vi k] h (Qi (fun x h' => x = (if 0 ≤ k ∧ k ≤ 3 then mWear now k else 0) ∧ MW t α h0 h' ((if 0 ≤ k ∧ k ≤ 3 then 0 else 1)) now aside tried undos undoMany saved isSaved accounts way leftOut here text length atp frm token number error errorAt commands command out outLong)) NoX := by
  refine sp_of okX5_wear (cat_all rfl) (Nat.le_of_ble_eq_true rfl) rfl ?_
  have hs0 := hR.s0
  have hc0 := hR.c0
  have L34 : ∀ (n9 : Nat) (h1 : AH) (a : Int) (b : Int) (z : Int), (now 0 - z).toNat = n9 → (MW t α h0 h1 0 now aside tried undos undoMany saved isSaved accounts way leftOut here text length atp frm token number error errorAt commands command out outLong) → (0 ≤ k ∧ k ≤ 3) → (1 ≤ z ∧ z ≤ now 0) → (0 ≤ a ∧ a < z ∧ 0 ≤ b ∧ b < z) → (a = mWearM now z) → (b = mWearL now z) → V Γ mX5_wear 2 0 0 (Qi (fun x h' => x = (if 0 ≤ k ∧ k ≤ 3 then mWear now k else 0) ∧ MW t α h0 h' ((if 0 ≤ k ∧ k ≤ 3 then 0 else 1)) now aside tried undos undoMany saved isSaved accounts way leftOut here text length atp frm token number error errorAt commands command out outLong)) (NoX) h1 0 0 34 [some (.ref (α 0)), some (vi k), some (vi a), some (vi b), some (vi z), none] [] := by
    intro n9
    induction n9 using Nat.strongRecOn with
    | _ n9 ih =>
      intro h1 a b z hn9 hM hv hz hab ha hb
      refine v_ild4 (pc := 34) dX5_wear_34 ?_
      refine v_ald0 (pc := 36) dX5_wear_36 ?_
      refine v_getf KX5 1 (pc := 37) dX5_wear_37 (lw_all_tbl q1995) (Or.inl rfl) (Nat.le_of_ble_eq_true rfl) (mw_obj hM) rfl ?_
      refine v_iconst (pc := 40) dX5_wear_40 ?_
      refine v_ldM_now hM (pc := 41) dX5_wear_41 (by omega) ?_
      refine v_icmp_ge (pc := 42) (tgt := 111) dX5_wear_42 rfl (by omega) (by omega) (fun c42 => ?_) (fun c42 => ?_)
      · obtain ⟨e, he, he2⟩ := tmod2 hv
        refine v_ild1 (pc := 111) dX5_wear_111 ?_
        refine v_iconst (pc := 112) dX5_wear_112 ?_
        refine v_irem (pc := 113) dX5_wear_113 (by omega) (by omega) (by omega) ?_
        rw [he]
        refine v_if_ne (pc := 114) (tgt := 121) dX5_wear_114 rfl (by omega) (fun c114 => ?_) (fun c114 => ?_)
        · refine v_ild3 (pc := 121) dX5_wear_121 ?_
          refine v_ist4 (pc := 122) dX5_wear_122 rfl ?_
          refine v_ild1 (pc := 124) dX5_wear_124 ?_
          refine v_iconst (pc := 125) dX5_wear_125 ?_
          refine v_icmp_ge (pc := 126) (tgt := 144) dX5_wear_126 rfl (by omega) (by omega) (fun c126 => ?_) (fun c126 => ?_)
          · refine v_ild4 (pc := 144) dX5_wear_144 ?_
            refine v_ret_n (pc := 146) dX5_wear_146 rfl ?_
            have hx : z = now 0 := by omega
            rw [hx] at ha hb
            exact qi_ok ⟨by rw [if_pos hv, mWear, ← ha, ← hb]; first | rw [if_pos (by omega)] | rw [if_neg (by omega), if_pos (by omega)] | rw [if_neg (by omega), if_neg (by omega), if_pos (by omega)] | rw [if_neg (by omega), if_neg (by omega), if_neg (by omega)], mw_thr hM (by rw [if_pos hv])⟩
          · refine v_ald0 (pc := 129) dX5_wear_129 ?_
            refine v_getf KX5 1 (pc := 130) dX5_wear_130 (lw_all_tbl q1995) (Or.inl rfl) (Nat.le_of_ble_eq_true rfl) (mw_obj hM) rfl ?_
            refine v_ild4 (pc := 133) dX5_wear_133 ?_
            refine v_ce0 (pc := 135) (v_runS1 okX5_zoneAt rfl (sp_X5_zoneAt) dX5_wear_135 (lw_all_tbl q1991) (lw_all_tbl q1992) (Nat.le_of_ble_eq_true rfl) ⟨Nat.zero_le _, Nat.zero_le _⟩ (Nat.le_of_ble_eq_true rfl)) ?_
            refine v_iconst (pc := 138) dX5_wear_138 ?_
            refine v_iadd (pc := 139) dX5_wear_139 ?_
            refine v_ldM_now hM (pc := 140) dX5_wear_140 (by omega) ?_
            refine v_goto (pc := 141) (tgt := 146) dX5_wear_141 rfl ?_
            refine v_ret_n (pc := 146) dX5_wear_146 rfl ?_
            have hx : z = now 0 := by omega
            rw [hx] at ha hb
            exact qi_ok ⟨by rw [if_pos hv, mWear, ← ha, ← hb]; first | rw [if_pos (by omega)] | rw [if_neg (by omega), if_pos (by omega)] | rw [if_neg (by omega), if_neg (by omega), if_pos (by omega)] | rw [if_neg (by omega), if_neg (by omega), if_neg (by omega)], mw_thr hM (by rw [if_pos hv])⟩
        · refine v_ild2 (pc := 117) dX5_wear_117 ?_
          refine v_goto (pc := 118) (tgt := 122) dX5_wear_118 rfl ?_
          refine v_ist4 (pc := 122) dX5_wear_122 rfl ?_
          refine v_ild1 (pc := 124) dX5_wear_124 ?_
          refine v_iconst (pc := 125) dX5_wear_125 ?_
          refine v_icmp_ge (pc := 126) (tgt := 144) dX5_wear_126 rfl (by omega) (by omega) (fun c126 => ?_) (fun c126 => ?_)
          · refine v_ild4 (pc := 144) dX5_wear_144 ?_
            refine v_ret_n (pc := 146) dX5_wear_146 rfl ?_
            have hx : z = now 0 := by omega
            rw [hx] at ha hb
            exact qi_ok ⟨by rw [if_pos hv, mWear, ← ha, ← hb]; first | rw [if_pos (by omega)] | rw [if_neg (by omega), if_pos (by omega)] | rw [if_neg (by omega), if_neg (by omega), if_pos (by omega)] | rw [if_neg (by omega), if_neg (by omega), if_neg (by omega)], mw_thr hM (by rw [if_pos hv])⟩
          · refine v_ald0 (pc := 129) dX5_wear_129 ?_
            refine v_getf KX5 1 (pc := 130) dX5_wear_130 (lw_all_tbl q1995) (Or.inl rfl) (Nat.le_of_ble_eq_true rfl) (mw_obj hM) rfl ?_
            refine v_ild4 (pc := 133) dX5_wear_133 ?_
            refine v_ce0 (pc := 135) (v_runS1 okX5_zoneAt rfl (sp_X5_zoneAt) dX5_wear_135 (lw_all_tbl q1991) (lw_all_tbl q1992) (Nat.le_of_ble_eq_true rfl) ⟨Nat.zero_le _, Nat.zero_le _⟩ (Nat.le_of_ble_eq_true rfl)) ?_
            refine v_iconst (pc := 138) dX5_wear_138 ?_
            refine v_iadd (pc := 139) dX5_wear_139 ?_
            refine v_ldM_now hM (pc := 140) dX5_wear_140 (by omega) ?_
            refine v_goto (pc := 141) (tgt := 146) dX5_wear_141 rfl ?_
            refine v_ret_n (pc := 146) dX5_wear_146 rfl ?_
            have hx : z = now 0 := by omega
            rw [hx] at ha hb
            exact qi_ok ⟨by rw [if_pos hv, mWear, ← ha, ← hb]; first | rw [if_pos (by omega)] | rw [if_neg (by omega), if_pos (by omega)] | rw [if_neg (by omega), if_neg (by omega), if_pos (by omega)] | rw [if_neg (by omega), if_neg (by omega), if_neg (by omega)], mw_thr hM (by rw [if_pos hv])⟩
      · have hz1 := hR.zR z ⟨by omega, by omega⟩
        have hz2 := hR.zR a ⟨by omega, by omega⟩
        have hz3 := hR.zR b ⟨by omega, by omega⟩
        refine v_ald0 (pc := 45) dX5_wear_45 ?_
        refine v_getf KX5 1 (pc := 46) dX5_wear_46 (lw_all_tbl q1995) (Or.inl rfl) (Nat.le_of_ble_eq_true rfl) (mw_obj hM) rfl ?_
        refine v_ild4 (pc := 49) dX5_wear_49 ?_
        refine v_ce0 (pc := 51) (v_runS1 okX5_zoneAt rfl (sp_X5_zoneAt) dX5_wear_51 (lw_all_tbl q1991) (lw_all_tbl q1992) (Nat.le_of_ble_eq_true rfl) ⟨Nat.zero_le _, Nat.zero_le _⟩ (Nat.le_of_ble_eq_true rfl)) ?_
        refine v_iconst (pc := 54) dX5_wear_54 ?_
        refine v_iadd (pc := 55) dX5_wear_55 ?_
        refine v_ldM_now hM (pc := 56) dX5_wear_56 (by omega) ?_
        refine v_ist5 (pc := 57) dX5_wear_57 rfl ?_
        refine v_ild5 (pc := 59) dX5_wear_59 ?_
        refine v_ald0 (pc := 61) dX5_wear_61 ?_
        refine v_getf KX5 1 (pc := 62) dX5_wear_62 (lw_all_tbl q1995) (Or.inl rfl) (Nat.le_of_ble_eq_true rfl) (mw_obj hM) rfl ?_
        refine v_ild2 (pc := 65) dX5_wear_65 ?_
        refine v_ce0 (pc := 66) (v_runS1 okX5_zoneAt rfl (sp_X5_zoneAt) dX5_wear_66 (lw_all_tbl q1991) (lw_all_tbl q1992) (Nat.le_of_ble_eq_true rfl) ⟨Nat.zero_le _, Nat.zero_le _⟩ (Nat.le_of_ble_eq_true rfl)) ?_
        refine v_iconst (pc := 69) dX5_wear_69 ?_
        refine v_iadd (pc := 70) dX5_wear_70 ?_
        refine v_ldM_now hM (pc := 71) dX5_wear_71 (by omega) ?_
        refine v_icmp_le (pc := 72) (tgt := 80) dX5_wear_72 rfl (by omega) (by omega) (fun c72 => ?_) (fun c72 => ?_)
        · refine v_ild2 (pc := 80) dX5_wear_80 ?_
          refine v_ist2 (pc := 81) dX5_wear_81 rfl ?_
          refine v_ild5 (pc := 82) dX5_wear_82 ?_
          refine v_ald0 (pc := 84) dX5_wear_84 ?_
          refine v_getf KX5 1 (pc := 85) dX5_wear_85 (lw_all_tbl q1995) (Or.inl rfl) (Nat.le_of_ble_eq_true rfl) (mw_obj hM) rfl ?_
          refine v_ild3 (pc := 88) dX5_wear_88 ?_
          refine v_ce0 (pc := 89) (v_runS1 okX5_zoneAt rfl (sp_X5_zoneAt) dX5_wear_89 (lw_all_tbl q1991) (lw_all_tbl q1992) (Nat.le_of_ble_eq_true rfl) ⟨Nat.zero_le _, Nat.zero_le _⟩ (Nat.le_of_ble_eq_true rfl)) ?_
          refine v_iconst (pc := 92) dX5_wear_92 ?_
          refine v_iadd (pc := 93) dX5_wear_93 ?_
          refine v_ldM_now hM (pc := 94) dX5_wear_94 (by omega) ?_
          refine v_icmp_ge (pc := 95) (tgt := 103) dX5_wear_95 rfl (by omega) (by omega) (fun c95 => ?_) (fun c95 => ?_)
          · refine v_ild3 (pc := 103) dX5_wear_103 ?_
            refine v_ist3 (pc := 104) dX5_wear_104 rfl ?_
            refine v_iinc4 (pc := 105) dX5_wear_105 rfl ?_
            refine v_goto (pc := 108) (tgt := 34) dX5_wear_108 rfl ?_
            refine v_forget 5 ?_
            exact ih _ (by omega) _ _ _ _ rfl hM hv (by omega) (by omega) (by rw [mWearM_s (by omega), ← ha]; first | rw [if_pos (by omega)] | rw [if_neg (by omega)]) (by rw [mWearL_s (by omega), ← hb]; first | rw [if_pos (by omega)] | rw [if_neg (by omega)])
          · refine v_ild4 (pc := 98) dX5_wear_98 ?_
            refine v_goto (pc := 100) (tgt := 104) dX5_wear_100 rfl ?_
            refine v_ist3 (pc := 104) dX5_wear_104 rfl ?_
            refine v_iinc4 (pc := 105) dX5_wear_105 rfl ?_
            refine v_goto (pc := 108) (tgt := 34) dX5_wear_108 rfl ?_
            refine v_forget 5 ?_
            exact ih _ (by omega) _ _ _ _ rfl hM hv (by omega) (by omega) (by rw [mWearM_s (by omega), ← ha]; first | rw [if_pos (by omega)] | rw [if_neg (by omega)]) (by rw [mWearL_s (by omega), ← hb]; first | rw [if_pos (by omega)] | rw [if_neg (by omega)])
        · refine v_ild4 (pc := 75) dX5_wear_75 ?_
          refine v_goto (pc := 77) (tgt := 81) dX5_wear_77 rfl ?_
          refine v_ist2 (pc := 81) dX5_wear_81 rfl ?_
          refine v_ild5 (pc := 82) dX5_wear_82 ?_
          refine v_ald0 (pc := 84) dX5_wear_84 ?_
          refine v_getf KX5 1 (pc := 85) dX5_wear_85 (lw_all_tbl q1995) (Or.inl rfl) (Nat.le_of_ble_eq_true rfl) (mw_obj hM) rfl ?_
          refine v_ild3 (pc := 88) dX5_wear_88 ?_
          refine v_ce0 (pc := 89) (v_runS1 okX5_zoneAt rfl (sp_X5_zoneAt) dX5_wear_89 (lw_all_tbl q1991) (lw_all_tbl q1992) (Nat.le_of_ble_eq_true rfl) ⟨Nat.zero_le _, Nat.zero_le _⟩ (Nat.le_of_ble_eq_true rfl)) ?_
          refine v_iconst (pc := 92) dX5_wear_92 ?_
          refine v_iadd (pc := 93) dX5_wear_93 ?_
          refine v_ldM_now hM (pc := 94) dX5_wear_94 (by omega) ?_
          refine v_icmp_ge (pc := 95) (tgt := 103) dX5_wear_95 rfl (by omega) (by omega) (fun c95 => ?_) (fun c95 => ?_)
          · refine v_ild3 (pc := 103) dX5_wear_103 ?_
            refine v_ist3 (pc := 104) dX5_wear_104 rfl ?_
            refine v_iinc4 (pc := 105) dX5_wear_105 rfl ?_
            refine v_goto (pc := 108) (tgt := 34) dX5_wear_108 rfl ?_
            refine v_forget 5 ?_
            exact ih _ (by omega) _ _ _ _ rfl hM hv (by omega) (by omega) (by rw [mWearM_s (by omega), ← ha]; first | rw [if_pos (by omega)] | rw [if_neg (by omega)]) (by rw [mWearL_s (by omega), ← hb]; first | rw [if_pos (by omega)] | rw [if_neg (by omega)])
          · refine v_ild4 (pc := 98) dX5_wear_98 ?_
            refine v_goto (pc := 100) (tgt := 104) dX5_wear_100 rfl ?_
            refine v_ist3 (pc := 104) dX5_wear_104 rfl ?_
            refine v_iinc4 (pc := 105) dX5_wear_105 rfl ?_
            refine v_goto (pc := 108) (tgt := 34) dX5_wear_108 rfl ?_
            refine v_forget 5 ?_
            exact ih _ (by omega) _ _ _ _ rfl hM hv (by omega) (by omega) (by rw [mWearM_s (by omega), ← ha]; first | rw [if_pos (by omega)] | rw [if_neg (by omega)]) (by rw [mWearL_s (by omega), ← hb]; first | rw [if_pos (by omega)] | rw [if_neg (by omega)])
  refine v_ald0 (pc := 0) dX5_wear_0 ?_
  refine v_ild1 (pc := 1) dX5_wear_1 ?_
  refine v_iconst (pc := 2) dX5_wear_2 ?_
  refine v_iconst (pc := 3) dX5_wear_3 ?_
  refine v_cb0 (pc := 4) (v_runS3 okX5_in rfl (sp_X5_in (by omega) (by omega) (by omega)) dX5_wear_4 (lw_all_tbl q2079) (lw_all_tbl q2080) (Nat.le_of_ble_eq_true rfl) ⟨Nat.zero_le _, Nat.zero_le _⟩ (Nat.le_of_ble_eq_true rfl)) (fun c4 => ?_) (fun c4 => ?_)
  · refine v_if_eq1 (pc := 7) (tgt := 14) dX5_wear_7 rfl ?_
    refine v_iconst (pc := 10) dX5_wear_10 ?_
    refine v_goto (pc := 11) (tgt := 15) dX5_wear_11 rfl ?_
    refine v_ptM_thrown hM (pc := 15) dX5_wear_15 (lw_all_tbl q1994) (fun h hM => ?_)
    refine v_ald0 (pc := 18) dX5_wear_18 ?_
    refine v_getf KX5 0 (pc := 19) dX5_wear_19 (lw_all_tbl q1994) (Or.inl rfl) (Nat.le_of_ble_eq_true rfl) (mw_obj hM) rfl ?_
    refine v_if_le (pc := 22) (tgt := 27) dX5_wear_22 rfl (by omega) (fun _ => ?_) (fun c => absurd c (by decide))
    refine v_iconst (pc := 27) dX5_wear_27 ?_
    refine v_ist2 (pc := 28) dX5_wear_28 rfl ?_
    refine v_iconst (pc := 29) dX5_wear_29 ?_
    refine v_ist3 (pc := 30) dX5_wear_30 rfl ?_
    refine v_iconst (pc := 31) dX5_wear_31 ?_
    refine v_ist4 (pc := 32) dX5_wear_32 rfl ?_
    exact L34 _ _ _ _ _ rfl hM (by omega) (by omega) (by omega) (mWearM_1 now).symm (mWearL_1 now).symm
  · refine v_if_eq0 (pc := 7) (tgt := 14) dX5_wear_7 rfl ?_
    refine v_iconst (pc := 14) dX5_wear_14 ?_
    refine v_ptM_thrown hM (pc := 15) dX5_wear_15 (lw_all_tbl q1994) (fun h hM => ?_)
    refine v_ald0 (pc := 18) dX5_wear_18 ?_
    refine v_getf KX5 0 (pc := 19) dX5_wear_19 (lw_all_tbl q1994) (Or.inl rfl) (Nat.le_of_ble_eq_true rfl) (mw_obj hM) rfl ?_
    refine v_if_le (pc := 22) (tgt := 27) dX5_wear_22 rfl (by omega) (fun c => absurd c (by decide)) (fun _ => ?_)
    refine v_iconst (pc := 25) dX5_wear_25 ?_
    refine v_ret_n (pc := 26) dX5_wear_26 rfl ?_
    first | (exfalso; omega) | exact qi_ok ⟨by rw [if_pos (by omega)] <;> (first | rfl | (show (_ : Int) = (if _ then 1 else 0); first | rw [if_pos (by omega)] | rw [if_neg (by omega)])), mw_thr hM (by rw [if_pos (by omega)])⟩ | exact qi_ok ⟨by rw [if_neg (by omega)], mw_thr hM (by rw [if_neg (by omega)] <;> (first | rw [if_pos (by omega)] | rw [if_neg (by omega)]))⟩ | exact qi_ok ⟨by rw [if_neg (by omega)], mw_thr hM (by rw [if_neg (by omega)])⟩
theorem sp_X5_share {Γ : Cx} {t : Nat} {α : Nat → Nat} {h0 h : AH} {thrown : Int} {now : Int → Int} {aside : Int → Int} {tried : Int → Int} {undos : Int → Int} {undoMany : Int} {saved : Int → Int} {isSaved : Int → Int} {accounts : Int → Int} {way : Int} {leftOut : Int} {here : Int → Int} {text : Int → Int} {length : Int} {atp : Int} {frm : Int} {token : Int} {number : Int} {error : Int} {errorAt : Int} {commands : Int} {command : Int → Int} {out : Int → Int} {outLong : Int} {c : Int} {g : Int} (hM : MW t α h0 h thrown now aside tried undos undoMany saved isSaved accounts way leftOut here text length atp frm token number error errorAt commands command out outLong) (hR : ROK now c) (hg : -2147483648 ≤ g ∧ g ≤ 2147483647) : Sp Γ yX5_share mX5_share 3 0 0 [.ref (α 0), vi g] h (Qd (fun x h' => x = (if 0 ≤ g ∧ g ≤ 4 then mShare now g else FP.dconst0) ∧ MW t α h0 h' ((if 0 ≤ g ∧ g ≤ 4 then 0 else 1)) now aside tried undos undoMany saved isSaved accounts way leftOut here text length atp frm token number error errorAt commands command out outLong)) NoX := by
  refine sp_of okX5_share (cat_all rfl) (Nat.le_of_ble_eq_true rfl) rfl ?_
  have L29 : ∀ (n9 : Nat) (h1 : AH) (n : Int) (k : Int), (5 - k).toNat = n9 → (MW t α h0 h1 0 now aside tried undos undoMany saved isSaved accounts way leftOut here text length atp frm token number error errorAt commands command out outLong) → (0 ≤ g ∧ g ≤ 4) → (0 ≤ k ∧ k ≤ 5) → (k ≤ n ∧ n ≤ 1000 * k) → (n = mWsum now k) → V Γ mX5_share 3 0 0 (Qd (fun x h' => x = (if 0 ≤ g ∧ g ≤ 4 then mShare now g else FP.dconst0) ∧ MW t α h0 h' ((if 0 ≤ g ∧ g ≤ 4 then 0 else 1)) now aside tried undos undoMany saved isSaved accounts way leftOut here text length atp frm token number error errorAt commands command out outLong)) (NoX) h1 0 0 29 [some (.ref (α 0)), some (vi g), some (vi n), some (vi k)] [] := by
    intro n9
    induction n9 using Nat.strongRecOn with
    | _ n9 ih =>
      intro h1 n k hn9 hM hv hk hnr hn
      refine v_ild3 (pc := 29) dX5_share_29 ?_
      refine v_iconst (pc := 30) dX5_share_30 ?_
      refine v_icmp_ge (pc := 31) (tgt := 52) dX5_share_31 rfl (by omega) (by omega) (fun c31 => ?_) (fun c31 => ?_)
      · refine v_ald0 (pc := 52) dX5_share_52 ?_
        refine v_getf KX5 1 (pc := 53) dX5_share_53 (lw_all_tbl q1995) (Or.inl rfl) (Nat.le_of_ble_eq_true rfl) (mw_obj hM) rfl ?_
        refine v_bipush (pc := 56) dX5_share_56 ⟨by decide, by decide⟩ ?_
        refine v_ild1 (pc := 58) dX5_share_58 ?_
        refine v_iadd (pc := 59) dX5_share_59 ?_
        refine v_ldM_now hM (pc := 60) dX5_share_60 (by omega) ?_
        refine v_i2d (pc := 61) dX5_share_61 ?_
        refine v_ild2 (pc := 62) dX5_share_62 ?_
        refine v_i2d (pc := 63) dX5_share_63 ?_
        refine v_ddiv (pc := 64) dX5_share_64 (fp_ddiv (fp_i2d _) (fp_pos64 ⟨by omega, by omega⟩)) ?_
        refine v_ret_d (pc := 65) dX5_share_65 rfl ?_
        exact ⟨_, rfl, by rw [if_pos hv, mShare, hn, show k = 5 by omega], mw_thr hM (by rw [if_pos hv])⟩
      · have hw := hR.gW k ⟨by omega, by omega⟩
        refine v_ild2 (pc := 34) dX5_share_34 ?_
        refine v_ald0 (pc := 35) dX5_share_35 ?_
        refine v_getf KX5 1 (pc := 36) dX5_share_36 (lw_all_tbl q1995) (Or.inl rfl) (Nat.le_of_ble_eq_true rfl) (mw_obj hM) rfl ?_
        refine v_bipush (pc := 39) dX5_share_39 ⟨by decide, by decide⟩ ?_
        refine v_ild3 (pc := 41) dX5_share_41 ?_
        refine v_iadd (pc := 42) dX5_share_42 ?_
        refine v_ldM_now hM (pc := 43) dX5_share_43 (by omega) ?_
        refine v_iadd (pc := 44) dX5_share_44 ?_
        refine v_ist2 (pc := 45) dX5_share_45 rfl ?_
        refine v_iinc3 (pc := 46) dX5_share_46 rfl ?_
        refine v_goto (pc := 49) (tgt := 29) dX5_share_49 rfl ?_
        exact ih _ (by omega) _ _ _ rfl hM hv (by omega) (by omega) (by rw [mWsum_s hk.1, ← hn])
  refine v_ald0 (pc := 0) dX5_share_0 ?_
  refine v_ild1 (pc := 1) dX5_share_1 ?_
  refine v_cb0 (pc := 2) (v_runS1 okX5_isGuesser rfl (sp_X5_isGuesser (by omega)) dX5_share_2 (lw_all_tbl q2167) (lw_all_tbl q2168) (Nat.le_of_ble_eq_true rfl) ⟨Nat.zero_le _, Nat.zero_le _⟩ (Nat.le_of_ble_eq_true rfl)) (fun c2 => ?_) (fun c2 => ?_)
  · refine v_if_eq1 (pc := 5) (tgt := 12) dX5_share_5 rfl ?_
    refine v_iconst (pc := 8) dX5_share_8 ?_
    refine v_goto (pc := 9) (tgt := 13) dX5_share_9 rfl ?_
    refine v_ptM_thrown hM (pc := 13) dX5_share_13 (lw_all_tbl q1994) (fun h hM => ?_)
    refine v_ald0 (pc := 16) dX5_share_16 ?_
    refine v_getf KX5 0 (pc := 17) dX5_share_17 (lw_all_tbl q1994) (Or.inl rfl) (Nat.le_of_ble_eq_true rfl) (mw_obj hM) rfl ?_
    refine v_if_le (pc := 20) (tgt := 25) dX5_share_20 rfl (by omega) (fun _ => ?_) (fun c => absurd c (by decide))
    refine v_iconst (pc := 25) dX5_share_25 ?_
    refine v_ist2 (pc := 26) dX5_share_26 rfl ?_
    refine v_iconst (pc := 27) dX5_share_27 ?_
    refine v_ist3 (pc := 28) dX5_share_28 rfl ?_
    exact L29 _ _ _ _ rfl hM (by omega) (by omega) (by omega) rfl
  · refine v_if_eq0 (pc := 5) (tgt := 12) dX5_share_5 rfl ?_
    refine v_iconst (pc := 12) dX5_share_12 ?_
    refine v_ptM_thrown hM (pc := 13) dX5_share_13 (lw_all_tbl q1994) (fun h hM => ?_)
    refine v_ald0 (pc := 16) dX5_share_16 ?_
    refine v_getf KX5 0 (pc := 17) dX5_share_17 (lw_all_tbl q1994) (Or.inl rfl) (Nat.le_of_ble_eq_true rfl) (mw_obj hM) rfl ?_
    refine v_if_le (pc := 20) (tgt := 25) dX5_share_20 rfl (by omega) (fun c => absurd c (by decide)) (fun _ => ?_)
    refine v_dconst0 (pc := 23) dX5_share_23 ?_
    refine v_ret_d (pc := 24) dX5_share_24 rfl ?_
    exact ⟨_, rfl, by rw [if_neg (by omega)], mw_thr hM (by rw [if_neg (by omega)])⟩
theorem sp_X5_meanLife {Γ : Cx} {t : Nat} {α : Nat → Nat} {h0 h : AH} {thrown : Int} {now : Int → Int} {aside : Int → Int} {tried : Int → Int} {undos : Int → Int} {undoMany : Int} {saved : Int → Int} {isSaved : Int → Int} {accounts : Int → Int} {way : Int} {leftOut : Int} {here : Int → Int} {text : Int → Int} {length : Int} {atp : Int} {frm : Int} {token : Int} {number : Int} {error : Int} {errorAt : Int} {commands : Int} {command : Int → Int} {out : Int → Int} {outLong : Int} {c : Int}  (hM : MW t α h0 h thrown now aside tried undos undoMany saved isSaved accounts way leftOut here text length atp frm token number error errorAt commands command out outLong) (hR : ROK now c) : Sp Γ yX5_meanLife mX5_meanLife 4 0 0 [.ref (α 0)] h (Qf (fun x h' => x = mMean now ∧ MW t α h0 h' 0 now aside tried undos undoMany saved isSaved accounts way leftOut here text length atp frm token number error errorAt commands command out outLong)) NoX := by
  refine sp_of okX5_meanLife (cat_all rfl) (Nat.le_of_ble_eq_true rfl) rfl ?_
  have h7 := hR.s7
  have hc0 := hR.c0
  have L11 : ∀ (n9 : Nat) (h1 : AH) (n : Int) (k : Int) (u : Int), (now 7 - u).toNat = n9 → (MW t α h0 h1 0 now aside tried undos undoMany saved isSaved accounts way leftOut here text length atp frm token number error errorAt commands command out outLong) → (0 ≤ u ∧ u ≤ now 7) → (0 ≤ k ∧ k ≤ u) → (n = mLived now u) → (k = mDead now u) → V Γ mX5_meanLife 4 0 0 (Qf (fun x h' => x = mMean now ∧ MW t α h0 h' 0 now aside tried undos undoMany saved isSaved accounts way leftOut here text length atp frm token number error errorAt commands command out outLong)) (NoX) h1 0 0 11 [some (.ref (α 0)), some (vi n), some (vi k), some (vi u)] [] := by
    intro n9
    induction n9 using Nat.strongRecOn with
    | _ n9 ih =>
      intro h1 n k u hn9 hM hu hkr hn hk
      refine v_ild3 (pc := 11) dX5_meanLife_11 ?_
      refine v_ald0 (pc := 12) dX5_meanLife_12 ?_
      refine v_getf KX5 1 (pc := 13) dX5_meanLife_13 (lw_all_tbl q1995) (Or.inl rfl) (Nat.le_of_ble_eq_true rfl) (mw_obj hM) rfl ?_
      refine v_bipush (pc := 16) dX5_meanLife_16 ⟨by decide, by decide⟩ ?_
      refine v_ldM_now hM (pc := 18) dX5_meanLife_18 (by omega) ?_
      refine v_icmp_ge (pc := 19) (tgt := 66) dX5_meanLife_19 rfl (by omega) (by omega) (fun c19 => ?_) (fun c19 => ?_)
      · refine v_ild2 (pc := 66) dX5_meanLife_66 ?_
        refine v_if_ne (pc := 67) (tgt := 75) dX5_meanLife_67 rfl (by omega) (fun c67 => ?_) (fun c67 => ?_)
        · refine v_ild1 (pc := 75) dX5_meanLife_75 ?_
          refine v_i2f (pc := 76) dX5_meanLife_76 ?_
          refine v_ild2 (pc := 77) dX5_meanLife_77 ?_
          refine v_i2f (pc := 78) dX5_meanLife_78 ?_
          refine v_fdiv (pc := 79) dX5_meanLife_79 (fp_fdiv (fp_i2f _) (fp_pos32 ⟨by omega, by omega⟩)).1 ?_
          refine v_ret_f (pc := 80) dX5_meanLife_80 rfl ?_
          have hx : u = now 7 := by omega
          rw [hx] at hn hk
          first | exact ⟨_, rfl, by rw [mMean, ← hk, if_pos (by omega)], hM⟩ | exact ⟨_, rfl, by rw [mMean, ← hk, ← hn, if_neg (by omega)], hM⟩
        · refine v_ldcf (pc := 70) dX5_meanLife_70 (lw_all_tbl q2200) ?_
          refine v_goto (pc := 72) (tgt := 80) dX5_meanLife_72 rfl ?_
          refine v_ret_f (pc := 80) dX5_meanLife_80 rfl ?_
          have hx : u = now 7 := by omega
          rw [hx] at hn hk
          first | exact ⟨_, rfl, by rw [mMean, ← hk, if_pos (by omega)], hM⟩ | exact ⟨_, rfl, by rw [mMean, ← hk, ← hn, if_neg (by omega)], hM⟩
      · have hlv := hR.uLv u ⟨by omega, by omega⟩
        refine v_ild1 (pc := 22) dX5_meanLife_22 ?_
        refine v_ald0 (pc := 23) dX5_meanLife_23 ?_
        refine v_ild3 (pc := 24) dX5_meanLife_24 ?_
        refine v_cb0 (pc := 25) (v_runV1 okX5_lives rfl (sp_X5_lives hM (by omega) (by omega)) dX5_meanLife_25 (lw_all_tbl q2100) (lw_all_tbl q2102) (lw_all_tbl qs50) rfl (mw_obj hM) (Nat.le_of_ble_eq_true rfl) ⟨Nat.zero_le _, Nat.zero_le _⟩ (Nat.le_of_ble_eq_true rfl)) (fun c25 => ?_) (fun c25 => ?_)
        · refine v_if_eq1 (pc := 28) (tgt := 35) dX5_meanLife_28 rfl ?_
          refine v_iconst (pc := 31) dX5_meanLife_31 ?_
          refine v_goto (pc := 32) (tgt := 42) dX5_meanLife_32 rfl ?_
          refine v_iadd (pc := 42) dX5_meanLife_42 ?_
          refine v_ist1 (pc := 43) dX5_meanLife_43 rfl ?_
          refine v_ild2 (pc := 44) dX5_meanLife_44 ?_
          refine v_ald0 (pc := 45) dX5_meanLife_45 ?_
          refine v_ild3 (pc := 46) dX5_meanLife_46 ?_
          refine v_cb0 (pc := 47) (v_runV1 okX5_lives rfl (sp_X5_lives hM (by omega) (by omega)) dX5_meanLife_47 (lw_all_tbl q2100) (lw_all_tbl q2102) (lw_all_tbl qs50) rfl (mw_obj hM) (Nat.le_of_ble_eq_true rfl) ⟨Nat.zero_le _, Nat.zero_le _⟩ (Nat.le_of_ble_eq_true rfl)) (fun c47 => ?_) (fun c47 => ?_)
          · refine v_if_eq1 (pc := 50) (tgt := 57) dX5_meanLife_50 rfl ?_
            refine v_iconst (pc := 53) dX5_meanLife_53 ?_
            refine v_goto (pc := 54) (tgt := 58) dX5_meanLife_54 rfl ?_
            refine v_iadd (pc := 58) dX5_meanLife_58 ?_
            refine v_ist2 (pc := 59) dX5_meanLife_59 rfl ?_
            refine v_iinc3 (pc := 60) dX5_meanLife_60 rfl ?_
            refine v_goto (pc := 63) (tgt := 11) dX5_meanLife_63 rfl ?_
            exact ih _ (by omega) _ _ _ _ rfl hM (by omega) (by omega) (by first | (exfalso; omega) | (rw [mLived_s hu.1, ← hn]; first | rw [if_pos (by omega)] | rw [if_neg (by omega)])) (by first | (exfalso; omega) | (rw [mDead_s hu.1, ← hk]; first | rw [if_pos (by omega)] | rw [if_neg (by omega)]))
          · refine v_if_eq0 (pc := 50) (tgt := 57) dX5_meanLife_50 rfl ?_
            refine v_iconst (pc := 57) dX5_meanLife_57 ?_
            refine v_iadd (pc := 58) dX5_meanLife_58 ?_
            refine v_ist2 (pc := 59) dX5_meanLife_59 rfl ?_
            refine v_iinc3 (pc := 60) dX5_meanLife_60 rfl ?_
            refine v_goto (pc := 63) (tgt := 11) dX5_meanLife_63 rfl ?_
            exact ih _ (by omega) _ _ _ _ rfl hM (by omega) (by omega) (by first | (exfalso; omega) | (rw [mLived_s hu.1, ← hn]; first | rw [if_pos (by omega)] | rw [if_neg (by omega)])) (by first | (exfalso; omega) | (rw [mDead_s hu.1, ← hk]; first | rw [if_pos (by omega)] | rw [if_neg (by omega)]))
        · refine v_if_eq0 (pc := 28) (tgt := 35) dX5_meanLife_28 rfl ?_
          refine v_ald0 (pc := 35) dX5_meanLife_35 ?_
          refine v_ild3 (pc := 36) dX5_meanLife_36 ?_
          refine v_bipush (pc := 37) dX5_meanLife_37 ⟨by decide, by decide⟩ ?_
          refine v_ce0 (pc := 39) (v_runV2 okX5_ofUnit rfl (sp_X5_ofUnit hM (by omega) (by omega)) dX5_meanLife_39 (lw_all_tbl q2104) (lw_all_tbl q2106) (lw_all_tbl qs51) rfl (mw_obj hM) (Nat.le_of_ble_eq_true rfl) ⟨Nat.zero_le _, Nat.zero_le _⟩ (Nat.le_of_ble_eq_true rfl)) ?_
          refine v_iadd (pc := 42) dX5_meanLife_42 ?_
          refine v_ist1 (pc := 43) dX5_meanLife_43 rfl ?_
          refine v_ild2 (pc := 44) dX5_meanLife_44 ?_
          refine v_ald0 (pc := 45) dX5_meanLife_45 ?_
          refine v_ild3 (pc := 46) dX5_meanLife_46 ?_
          refine v_cb0 (pc := 47) (v_runV1 okX5_lives rfl (sp_X5_lives hM (by omega) (by omega)) dX5_meanLife_47 (lw_all_tbl q2100) (lw_all_tbl q2102) (lw_all_tbl qs50) rfl (mw_obj hM) (Nat.le_of_ble_eq_true rfl) ⟨Nat.zero_le _, Nat.zero_le _⟩ (Nat.le_of_ble_eq_true rfl)) (fun c47 => ?_) (fun c47 => ?_)
          · refine v_if_eq1 (pc := 50) (tgt := 57) dX5_meanLife_50 rfl ?_
            refine v_iconst (pc := 53) dX5_meanLife_53 ?_
            refine v_goto (pc := 54) (tgt := 58) dX5_meanLife_54 rfl ?_
            refine v_iadd (pc := 58) dX5_meanLife_58 ?_
            refine v_ist2 (pc := 59) dX5_meanLife_59 rfl ?_
            refine v_iinc3 (pc := 60) dX5_meanLife_60 rfl ?_
            refine v_goto (pc := 63) (tgt := 11) dX5_meanLife_63 rfl ?_
            exact ih _ (by omega) _ _ _ _ rfl hM (by omega) (by omega) (by first | (exfalso; omega) | (rw [mLived_s hu.1, ← hn]; first | rw [if_pos (by omega)] | rw [if_neg (by omega)])) (by first | (exfalso; omega) | (rw [mDead_s hu.1, ← hk]; first | rw [if_pos (by omega)] | rw [if_neg (by omega)]))
          · refine v_if_eq0 (pc := 50) (tgt := 57) dX5_meanLife_50 rfl ?_
            refine v_iconst (pc := 57) dX5_meanLife_57 ?_
            refine v_iadd (pc := 58) dX5_meanLife_58 ?_
            refine v_ist2 (pc := 59) dX5_meanLife_59 rfl ?_
            refine v_iinc3 (pc := 60) dX5_meanLife_60 rfl ?_
            refine v_goto (pc := 63) (tgt := 11) dX5_meanLife_63 rfl ?_
            exact ih _ (by omega) _ _ _ _ rfl hM (by omega) (by omega) (by first | (exfalso; omega) | (rw [mLived_s hu.1, ← hn]; first | rw [if_pos (by omega)] | rw [if_neg (by omega)])) (by first | (exfalso; omega) | (rw [mDead_s hu.1, ← hk]; first | rw [if_pos (by omega)] | rw [if_neg (by omega)]))
  refine v_ald0 (pc := 0) dX5_meanLife_0 ?_
  refine v_iconst (pc := 1) dX5_meanLife_1 ?_
  refine v_ptM_thrown hM (pc := 2) dX5_meanLife_2 (lw_all_tbl q1994) (fun h hM => ?_)
  refine v_iconst (pc := 5) dX5_meanLife_5 ?_
  refine v_ist1 (pc := 6) dX5_meanLife_6 rfl ?_
  refine v_iconst (pc := 7) dX5_meanLife_7 ?_
  refine v_ist2 (pc := 8) dX5_meanLife_8 rfl ?_
  refine v_iconst (pc := 9) dX5_meanLife_9 ?_
  refine v_ist3 (pc := 10) dX5_meanLife_10 rfl ?_
  exact L11 _ _ _ _ _ rfl hM (by omega) (by omega) rfl rfl
theorem sp_X5_appendText {Γ : Cx} {t : Nat} {α : Nat → Nat} {h0 h : AH} {thrown : Int} {now : Int → Int} {aside : Int → Int} {tried : Int → Int} {undos : Int → Int} {undoMany : Int} {saved : Int → Int} {isSaved : Int → Int} {accounts : Int → Int} {way : Int} {leftOut : Int} {here : Int → Int} {text : Int → Int} {length : Int} {atp : Int} {frm : Int} {token : Int} {number : Int} {error : Int} {errorAt : Int} {commands : Int} {command : Int → Int} {out : Int → Int} {outLong : Int} {x : Int} (hM : MW t α h0 h thrown now aside tried undos undoMany saved isSaved accounts way leftOut here text length atp frm token number error errorAt commands command out outLong) (hx : -2147483648 ≤ x ∧ x ≤ 2147483647) (hl : 0 ≤ length ∧ length ≤ 700) : Sp Γ yX5_appendText mX5_appendText 1 0 0 [.ref (α 0), vi x] h (Qi (fun y h' => y = (if length + 4 ≤ 700 then length + 4 else 0) ∧ MW t α h0 h' ((if length + 4 ≤ 700 then 0 else 1)) now aside tried undos undoMany saved isSaved accounts way leftOut here ((if length + 4 ≤ 700 then mApp text length x else text)) ((if length + 4 ≤ 700 then length + 4 else length)) atp frm token number error errorAt commands command out outLong)) NoX := by
  refine sp_of okX5_appendText (cat_all rfl) (Nat.le_of_ble_eq_true rfl) rfl ?_
  refine v_ald0 (pc := 0) dX5_appendText_0 ?_
  refine v_ald0 (pc := 1) dX5_appendText_1 ?_
  refine v_getf KX5 13 (pc := 2) dX5_appendText_2 (lw_all_tbl q2007) (Or.inl rfl) (Nat.le_of_ble_eq_true rfl) (mw_obj hM) rfl ?_
  refine v_iconst (pc := 5) dX5_appendText_5 ?_
  refine v_iadd (pc := 6) dX5_appendText_6 ?_
  refine v_sipush (pc := 7) dX5_appendText_7 ⟨by decide, by decide⟩ ?_
  refine v_icmp_gt (pc := 10) (tgt := 17) dX5_appendText_10 rfl (by omega) (by omega) (fun c10 => ?_) (fun c10 => ?_)
  · refine v_iconst (pc := 17) dX5_appendText_17 ?_
    refine v_ptM_thrown hM (pc := 18) dX5_appendText_18 (lw_all_tbl q1994) (fun h hM => ?_)
    refine v_ald0 (pc := 21) dX5_appendText_21 ?_
    refine v_getf KX5 0 (pc := 22) dX5_appendText_22 (lw_all_tbl q1994) (Or.inl rfl) (Nat.le_of_ble_eq_true rfl) (mw_obj hM) rfl ?_
    refine v_if_le (pc := 25) (tgt := 30) dX5_appendText_25 rfl (by omega) (fun c => absurd c (by decide)) (fun _ => ?_)
    refine v_iconst (pc := 28) dX5_appendText_28 ?_
    refine v_ret_n (pc := 29) dX5_appendText_29 rfl ?_
    exact qi_ok ⟨by rw [if_neg (by omega)], by rw [if_neg (by omega), if_neg (by omega), if_neg (by omega)]; exact hM⟩
  · refine v_iconst (pc := 13) dX5_appendText_13 ?_
    refine v_goto (pc := 14) (tgt := 18) dX5_appendText_14 rfl ?_
    refine v_ptM_thrown hM (pc := 18) dX5_appendText_18 (lw_all_tbl q1994) (fun h hM => ?_)
    refine v_ald0 (pc := 21) dX5_appendText_21 ?_
    refine v_getf KX5 0 (pc := 22) dX5_appendText_22 (lw_all_tbl q1994) (Or.inl rfl) (Nat.le_of_ble_eq_true rfl) (mw_obj hM) rfl ?_
    refine v_if_le (pc := 25) (tgt := 30) dX5_appendText_25 rfl (by omega) (fun _ => ?_) (fun c => absurd c (by decide))
    refine v_bipush (pc := 30) dX5_appendText_30 ⟨by decide, by decide⟩ ?_
    refine v_ist2 (pc := 32) dX5_appendText_32 rfl ?_
    refine v_ild2 (pc := 33) dX5_appendText_33 ?_
    refine v_if_lt (pc := 34) (tgt := 66) dX5_appendText_34 rfl (by omega) (fun c => absurd c (by decide)) (fun _ => ?_)
    refine v_ald0 (pc := 37) dX5_appendText_37 ?_
    refine v_getf KX5 12 (pc := 38) dX5_appendText_38 (lw_all_tbl q2006) (Or.inl rfl) (Nat.le_of_ble_eq_true rfl) (mw_obj hM) rfl ?_
    refine v_ald0 (pc := 41) dX5_appendText_41 ?_
    refine v_getf KX5 13 (pc := 42) dX5_appendText_42 (lw_all_tbl q2007) (Or.inl rfl) (Nat.le_of_ble_eq_true rfl) (mw_obj hM) rfl ?_
    refine v_ild1 (pc := 45) dX5_appendText_45 ?_
    refine v_ild2 (pc := 46) dX5_appendText_46 ?_
    refine v_ishrE (pc := 47) dX5_appendText_47 (by omega) (by omega) ?_
    refine v_i2bE (pc := 48) dX5_appendText_48 ?_
    refine v_stM_text hM (pc := 49) dX5_appendText_49 (by omega) (bm_r _) (fun h hM => ?_)
    refine v_ald0 (pc := 50) dX5_appendText_50 ?_
    refine v_dup (pc := 51) dX5_appendText_51 rfl ?_
    refine v_getf KX5 13 (pc := 52) dX5_appendText_52 (lw_all_tbl q2007) (Or.inl rfl) (Nat.le_of_ble_eq_true rfl) (mw_obj hM) rfl ?_
    refine v_iconst (pc := 55) dX5_appendText_55 ?_
    refine v_iadd (pc := 56) dX5_appendText_56 ?_
    refine v_ptM_length hM (pc := 57) dX5_appendText_57 (lw_all_tbl q2007) (fun h hM => ?_)
    refine v_iinc2 (pc := 60) dX5_appendText_60 rfl ?_
    refine v_goto (pc := 63) (tgt := 33) dX5_appendText_63 rfl ?_
    refine v_ild2 (pc := 33) dX5_appendText_33 ?_
    refine v_if_lt (pc := 34) (tgt := 66) dX5_appendText_34 rfl (by omega) (fun c => absurd c (by decide)) (fun _ => ?_)
    refine v_ald0 (pc := 37) dX5_appendText_37 ?_
    refine v_getf KX5 12 (pc := 38) dX5_appendText_38 (lw_all_tbl q2006) (Or.inl rfl) (Nat.le_of_ble_eq_true rfl) (mw_obj hM) rfl ?_
    refine v_ald0 (pc := 41) dX5_appendText_41 ?_
    refine v_getf KX5 13 (pc := 42) dX5_appendText_42 (lw_all_tbl q2007) (Or.inl rfl) (Nat.le_of_ble_eq_true rfl) (mw_obj hM) rfl ?_
    refine v_ild1 (pc := 45) dX5_appendText_45 ?_
    refine v_ild2 (pc := 46) dX5_appendText_46 ?_
    refine v_ishrE (pc := 47) dX5_appendText_47 (by omega) (by omega) ?_
    refine v_i2bE (pc := 48) dX5_appendText_48 ?_
    refine v_stM_text hM (pc := 49) dX5_appendText_49 (by omega) (bm_r _) (fun h hM => ?_)
    refine v_ald0 (pc := 50) dX5_appendText_50 ?_
    refine v_dup (pc := 51) dX5_appendText_51 rfl ?_
    refine v_getf KX5 13 (pc := 52) dX5_appendText_52 (lw_all_tbl q2007) (Or.inl rfl) (Nat.le_of_ble_eq_true rfl) (mw_obj hM) rfl ?_
    refine v_iconst (pc := 55) dX5_appendText_55 ?_
    refine v_iadd (pc := 56) dX5_appendText_56 ?_
    refine v_ptM_length hM (pc := 57) dX5_appendText_57 (lw_all_tbl q2007) (fun h hM => ?_)
    refine v_iinc2 (pc := 60) dX5_appendText_60 rfl ?_
    refine v_goto (pc := 63) (tgt := 33) dX5_appendText_63 rfl ?_
    refine v_ild2 (pc := 33) dX5_appendText_33 ?_
    refine v_if_lt (pc := 34) (tgt := 66) dX5_appendText_34 rfl (by omega) (fun c => absurd c (by decide)) (fun _ => ?_)
    refine v_ald0 (pc := 37) dX5_appendText_37 ?_
    refine v_getf KX5 12 (pc := 38) dX5_appendText_38 (lw_all_tbl q2006) (Or.inl rfl) (Nat.le_of_ble_eq_true rfl) (mw_obj hM) rfl ?_
    refine v_ald0 (pc := 41) dX5_appendText_41 ?_
    refine v_getf KX5 13 (pc := 42) dX5_appendText_42 (lw_all_tbl q2007) (Or.inl rfl) (Nat.le_of_ble_eq_true rfl) (mw_obj hM) rfl ?_
    refine v_ild1 (pc := 45) dX5_appendText_45 ?_
    refine v_ild2 (pc := 46) dX5_appendText_46 ?_
    refine v_ishrE (pc := 47) dX5_appendText_47 (by omega) (by omega) ?_
    refine v_i2bE (pc := 48) dX5_appendText_48 ?_
    refine v_stM_text hM (pc := 49) dX5_appendText_49 (by omega) (bm_r _) (fun h hM => ?_)
    refine v_ald0 (pc := 50) dX5_appendText_50 ?_
    refine v_dup (pc := 51) dX5_appendText_51 rfl ?_
    refine v_getf KX5 13 (pc := 52) dX5_appendText_52 (lw_all_tbl q2007) (Or.inl rfl) (Nat.le_of_ble_eq_true rfl) (mw_obj hM) rfl ?_
    refine v_iconst (pc := 55) dX5_appendText_55 ?_
    refine v_iadd (pc := 56) dX5_appendText_56 ?_
    refine v_ptM_length hM (pc := 57) dX5_appendText_57 (lw_all_tbl q2007) (fun h hM => ?_)
    refine v_iinc2 (pc := 60) dX5_appendText_60 rfl ?_
    refine v_goto (pc := 63) (tgt := 33) dX5_appendText_63 rfl ?_
    refine v_ild2 (pc := 33) dX5_appendText_33 ?_
    refine v_if_lt (pc := 34) (tgt := 66) dX5_appendText_34 rfl (by omega) (fun c => absurd c (by decide)) (fun _ => ?_)
    refine v_ald0 (pc := 37) dX5_appendText_37 ?_
    refine v_getf KX5 12 (pc := 38) dX5_appendText_38 (lw_all_tbl q2006) (Or.inl rfl) (Nat.le_of_ble_eq_true rfl) (mw_obj hM) rfl ?_
    refine v_ald0 (pc := 41) dX5_appendText_41 ?_
    refine v_getf KX5 13 (pc := 42) dX5_appendText_42 (lw_all_tbl q2007) (Or.inl rfl) (Nat.le_of_ble_eq_true rfl) (mw_obj hM) rfl ?_
    refine v_ild1 (pc := 45) dX5_appendText_45 ?_
    refine v_ild2 (pc := 46) dX5_appendText_46 ?_
    refine v_ishrE (pc := 47) dX5_appendText_47 (by omega) (by omega) ?_
    refine v_i2bE (pc := 48) dX5_appendText_48 ?_
    refine v_stM_text hM (pc := 49) dX5_appendText_49 (by omega) (bm_r _) (fun h hM => ?_)
    refine v_ald0 (pc := 50) dX5_appendText_50 ?_
    refine v_dup (pc := 51) dX5_appendText_51 rfl ?_
    refine v_getf KX5 13 (pc := 52) dX5_appendText_52 (lw_all_tbl q2007) (Or.inl rfl) (Nat.le_of_ble_eq_true rfl) (mw_obj hM) rfl ?_
    refine v_iconst (pc := 55) dX5_appendText_55 ?_
    refine v_iadd (pc := 56) dX5_appendText_56 ?_
    refine v_ptM_length hM (pc := 57) dX5_appendText_57 (lw_all_tbl q2007) (fun h hM => ?_)
    refine v_iinc2 (pc := 60) dX5_appendText_60 rfl ?_
    refine v_goto (pc := 63) (tgt := 33) dX5_appendText_63 rfl ?_
    refine v_ild2 (pc := 33) dX5_appendText_33 ?_
    refine v_if_lt (pc := 34) (tgt := 66) dX5_appendText_34 rfl (by omega) (fun _ => ?_) (fun c => absurd c (by decide))
    refine v_ald0 (pc := 66) dX5_appendText_66 ?_
    refine v_getf KX5 13 (pc := 67) dX5_appendText_67 (lw_all_tbl q2007) (Or.inl rfl) (Nat.le_of_ble_eq_true rfl) (mw_obj hM) rfl ?_
    refine v_ret_n (pc := 70) dX5_appendText_70 rfl ?_
    rw [show (24 : Int) + -8 = 16 from rfl, show (16 : Int) + -8 = 8 from rfl, show (8 : Int) + -8 = 0 from rfl, show length + 1 + 1 + 1 + 1 = length + 4 by omega, show length + 1 + 1 + 1 = length + 3 by omega, show length + 1 + 1 = length + 2 by omega] at hM
    exact qi_ok ⟨by rw [if_pos (by omega)]; omega, by rw [if_pos (by omega), if_pos (by omega), if_pos (by omega)]; exact hM⟩
