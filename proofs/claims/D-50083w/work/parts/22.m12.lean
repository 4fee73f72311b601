/-! FlashZonesModel: walks, 12 (printed by gen) -/
set_option maxRecDepth 100000
theorem sp_X5_livesAnew {Γ : Cx} {t : Nat} {α : Nat → Nat} {h0 h : AH} {thrown : Int} {now : Int → Int} {aside : Int → Int} {tried : Int → Int} {undos : Int → Int} {undoMany : Int} {saved : Int → Int} {isSaved : Int → Int} {accounts : Int → Int} {way : Int} {leftOut : Int} {here : Int → Int} {text : Int → Int} {length : Int} {atp : Int} {frm : Int} {token : Int} {number : Int} {error : Int} {errorAt : Int} {commands : Int} {command : Int → Int} {out : Int → Int} {outLong : Int} {c : Int} {its : Int} (hM : MW t α h0 h thrown now aside tried undos undoMany saved isSaved accounts way leftOut here text length atp frm token number error errorAt commands command out outLong) (hR : ROK now c) (hS : Sup aside) (hH : HOK now) (hits : 0 ≤ its ∧ its ≤ 6) : Sp Γ yX5_livesAnew mX5_livesAnew 10 0 0 [.ref (α 0), vi its] h (Qv (fun h' => ∃ tr, MW t α h0 h' thrown ((mLives now here its (now 11)).1) now tr undos undoMany saved isSaved accounts 5 ((mLives now here its (now 11)).2.2) ((mLives now here its (now 11)).2.1) text length atp frm token number error errorAt commands command out outLong)) NoX := by
  refine sp_of okX5_livesAnew (cat_all rfl) (Nat.le_of_ble_eq_true rfl) rfl ?_
  have h11 := hR.s11
  have L31 : ∀ (n9 : Nat) (h1 : AH) (now1 : Int → Int) (tr1 : Int → Int) (here1 : Int → Int) (left1 : Int) (o : Int) (k : Int), (now 11 - k).toNat = n9 → (MW t α h0 h1 thrown now1 now tr1 undos undoMany saved isSaved accounts its left1 here1 text length atp frm token number error errorAt commands command out outLong) → (0 ≤ k ∧ k ≤ now 11) → (o = wc now k) → (mLives now here its k = (now1, here1, left1)) → V Γ mX5_livesAnew 10 0 0 (Qv (fun h' => ∃ tr, MW t α h0 h' thrown ((mLives now here its (now 11)).1) now tr undos undoMany saved isSaved accounts 5 ((mLives now here its (now 11)).2.2) ((mLives now here its (now 11)).2.1) text length atp frm token number error errorAt commands command out outLong)) (NoX) h1 0 0 31 [some (.ref (α 0)), some (vi its), some (vi o), some (vi k), none, none] [] := by
    intro n9
    induction n9 using Nat.strongRecOn with
    | _ n9 ih =>
      intro h1 now1 tr1 here1 left1 o k hn9 hM hk ho he
      subst ho
      have hL := mLives_ok (here := here) hR hits hH k hk.1 hk.2
      rw [he] at hL
      have hR1 : ROK now1 (78000 * k) := hL.1
      have h71 := hR1.s7
      have hwm := wc_mono (A := now) (a := k) (n := k) (by omega) (by omega)
      refine v_ild3 (pc := 31) dX5_livesAnew_31 ?_
      refine v_ald0 (pc := 32) dX5_livesAnew_32 ?_
      refine v_getf KX5 2 (pc := 33) dX5_livesAnew_33 (lw_all_tbl q1996) (Or.inl rfl) (Nat.le_of_ble_eq_true rfl) (mw_obj hM) rfl ?_
      refine v_bipush (pc := 36) dX5_livesAnew_36 ⟨by decide, by decide⟩ ?_
      refine v_ldM_aside hM (pc := 38) dX5_livesAnew_38 (by omega) ?_
      refine v_icmp_ge (pc := 39) (tgt := 199) dX5_livesAnew_39 rfl (by omega) (by omega) (fun c39 => ?_) (fun c39 => ?_)
      · refine v_ald0 (pc := 199) dX5_livesAnew_199 ?_
        refine v_iconst (pc := 200) dX5_livesAnew_200 ?_
        refine v_ptM_way hM (pc := 201) dX5_livesAnew_201 (lw_all_tbl q2003) (fun h hM => ?_)
        refine v_ret_v (pc := 204) dX5_livesAnew_204 rfl ?_
        have hx : k = now 11 := by omega
        rw [hx] at he
        exact qv_ok ⟨_, by rw [he]; exact hM⟩
      · have hh := hH.2.2 k ⟨hk.1, by omega⟩
        have hws := wc_s (A := now) hk.1
        have hwn := wc_mono (A := now) (a := k + 1) (n := now 11) (by omega) (by omega)
        have hwt := hH.2.1
        refine v_sipush (pc := 42) dX5_livesAnew_42 ⟨by decide, by decide⟩ ?_
        refine v_iconst (pc := 45) dX5_livesAnew_45 ?_
        refine v_ild3 (pc := 46) dX5_livesAnew_46 ?_
        refine v_imul (pc := 47) dX5_livesAnew_47 ?_
        refine v_iadd (pc := 48) dX5_livesAnew_48 ?_
        refine v_ist4 (pc := 49) dX5_livesAnew_49 rfl ?_
        refine v_iconst (pc := 51) dX5_livesAnew_51 ?_
        refine v_ist5 (pc := 52) dX5_livesAnew_52 rfl ?_
        refine v_ald0 (pc := 54) dX5_livesAnew_54 ?_
        refine v_getf KX5 2 (pc := 55) dX5_livesAnew_55 (lw_all_tbl q1996) (Or.inl rfl) (Nat.le_of_ble_eq_true rfl) (mw_obj hM) rfl ?_
        refine v_ild4 (pc := 58) dX5_livesAnew_58 ?_
        refine v_ldM_aside hM (pc := 60) dX5_livesAnew_60 (by omega) ?_
        refine v_case (pc := 61) 0 (fun e61_0 => ?_) (fun e61_0 => ?_)
        · refine v_tableK 0 (pc := 61) (tgt := 92) dX5_livesAnew_61 ⟨by decide, by decide⟩ (by decide) (by decide) rfl rfl ?_ e61_0
          rw [if_pos e61_0] at hws
          have hh1 := hh.2.1 e61_0
          refine v_ald0 (pc := 92) dX5_livesAnew_92 ?_
          refine v_ild4 (pc := 93) dX5_livesAnew_93 ?_
          refine v_ild2 (pc := 95) dX5_livesAnew_95 ?_
          refine v_ci0 (pc := 96) (v_runV2 okX5_tellsWrite rfl (sp_X5_tellsWrite hM hR1 hits (fun _ => ⟨hR, by omega, by omega⟩) (by omega) (by omega) (by omega) (by omega) (by omega)) dX5_livesAnew_96 (lw_all_tbl q2256) (lw_all_tbl q2258) (lw_all_tbl qs69) rfl (mw_obj hM) (Nat.le_of_ble_eq_true rfl) ⟨Nat.zero_le _, Nat.zero_le _⟩ (Nat.le_of_ble_eq_true rfl)) (fun x96 h ⟨ex96, hM⟩ => ?_)
          subst ex96
          have hrr := lReason_r now1 now its (1862 + 4 * k) (wc now k)
          refine v_ist5 (pc := 99) dX5_livesAnew_99 rfl ?_
          refine v_iinc2 (pc := 101) dX5_livesAnew_101 rfl ?_
          refine v_goto (pc := 104) (tgt := 174) dX5_livesAnew_104 rfl ?_
          refine v_ald0 (pc := 174) dX5_livesAnew_174 ?_
          refine v_dup (pc := 175) dX5_livesAnew_175 rfl ?_
          refine v_getf KX5 10 (pc := 176) dX5_livesAnew_176 (lw_all_tbl q2004) (Or.inl rfl) (Nat.le_of_ble_eq_true rfl) (mw_obj hM) rfl ?_
          refine v_ild5 (pc := 179) dX5_livesAnew_179 ?_
          refine v_if_le (pc := 181) (tgt := 188) dX5_livesAnew_181 rfl (by omega) (fun c181 => ?_) (fun c181 => ?_)
          · refine v_iconst (pc := 188) dX5_livesAnew_188 ?_
            refine v_iadd (pc := 189) dX5_livesAnew_189 ?_
            refine v_ptM_leftOut hM (pc := 190) dX5_livesAnew_190 (lw_all_tbl q2004) (fun h hM => ?_)
            refine v_iinc3 (pc := 193) dX5_livesAnew_193 rfl ?_
            refine v_goto (pc := 196) (tgt := 31) dX5_livesAnew_196 rfl ?_
            refine v_forget 4 ?_
            refine v_forget 5 ?_
            exact ih _ (by omega) _ _ _ _ _ _ _ rfl hM (by omega) (by rw [wc_s hk.1]; first | rw [if_pos (by omega)] | rw [if_neg (by omega)]) (by rw [mLives_s hk.1, he]; unfold lStep; dsimp only; first | (rw [if_pos (by omega)]; (first | rw [if_pos (by omega)] | rw [if_neg (by omega)])) | (rw [if_neg (by omega), if_pos (by omega)]; (first | rw [if_pos (by omega)] | rw [if_neg (by omega)])) | (rw [if_neg (by omega), if_neg (by omega), if_pos (by omega)]; (first | rw [if_pos (by omega)] | rw [if_neg (by omega)])) | (rw [if_neg (by omega), if_neg (by omega), if_neg (by omega), if_pos (by omega)]; (first | rw [if_pos (by omega)] | rw [if_neg (by omega)])) | rw [if_neg (by omega), if_neg (by omega), if_neg (by omega), if_neg (by omega)])
          · refine v_iconst (pc := 184) dX5_livesAnew_184 ?_
            refine v_goto (pc := 185) (tgt := 189) dX5_livesAnew_185 rfl ?_
            refine v_iadd (pc := 189) dX5_livesAnew_189 ?_
            refine v_ptM_leftOut hM (pc := 190) dX5_livesAnew_190 (lw_all_tbl q2004) (fun h hM => ?_)
            refine v_iinc3 (pc := 193) dX5_livesAnew_193 rfl ?_
            refine v_goto (pc := 196) (tgt := 31) dX5_livesAnew_196 rfl ?_
            refine v_forget 4 ?_
            refine v_forget 5 ?_
            exact ih _ (by omega) _ _ _ _ _ _ _ rfl hM (by omega) (by rw [wc_s hk.1]; first | rw [if_pos (by omega)] | rw [if_neg (by omega)]) (by rw [mLives_s hk.1, he]; unfold lStep; dsimp only; first | (rw [if_pos (by omega)]; (first | rw [if_pos (by omega)] | rw [if_neg (by omega)])) | (rw [if_neg (by omega), if_pos (by omega)]; (first | rw [if_pos (by omega)] | rw [if_neg (by omega)])) | (rw [if_neg (by omega), if_neg (by omega), if_pos (by omega)]; (first | rw [if_pos (by omega)] | rw [if_neg (by omega)])) | (rw [if_neg (by omega), if_neg (by omega), if_neg (by omega), if_pos (by omega)]; (first | rw [if_pos (by omega)] | rw [if_neg (by omega)])) | rw [if_neg (by omega), if_neg (by omega), if_neg (by omega), if_neg (by omega)])
        refine v_case (pc := 61) 1 (fun e61_1 => ?_) (fun e61_1 => ?_)
        · refine v_tableK 1 (pc := 61) (tgt := 107) dX5_livesAnew_61 ⟨by decide, by decide⟩ (by decide) (by decide) rfl rfl ?_ e61_1
          have hh1 := hh.2.2.1 e61_1
          have hho := hL.2.1 (now (1862 + 4 * k + 1)) (by omega)
          dsimp only at hho
          refine v_ald0 (pc := 107) dX5_livesAnew_107 ?_
          refine v_ald0 (pc := 108) dX5_livesAnew_108 ?_
          refine v_getf KX5 2 (pc := 109) dX5_livesAnew_109 (lw_all_tbl q1996) (Or.inl rfl) (Nat.le_of_ble_eq_true rfl) (mw_obj hM) rfl ?_
          refine v_ild4 (pc := 112) dX5_livesAnew_112 ?_
          refine v_iconst (pc := 114) dX5_livesAnew_114 ?_
          refine v_iadd (pc := 115) dX5_livesAnew_115 ?_
          refine v_ldM_aside hM (pc := 116) dX5_livesAnew_116 (by omega) ?_
          refine v_ci0 (pc := 117) (v_runV1 okX5_tellsDie rfl (sp_X5_tellsDie hM hR1 (by omega) hho) dX5_livesAnew_117 (lw_all_tbl q2292) (lw_all_tbl q2294) (lw_all_tbl qs78) rfl (mw_obj hM) (Nat.le_of_ble_eq_true rfl) ⟨Nat.zero_le _, Nat.zero_le _⟩ (Nat.le_of_ble_eq_true rfl)) (fun x117 h ⟨ex117, hM⟩ => ?_)
          subst ex117
          have hrr : lDieR now1 (here1 (now (1862 + 4 * k + 1))) = 0 ∨ lDieR now1 (here1 (now (1862 + 4 * k + 1))) = 2 := by unfold lDieR; split <;> omega
          refine v_ist5 (pc := 120) dX5_livesAnew_120 rfl ?_
          refine v_goto (pc := 122) (tgt := 174) dX5_livesAnew_122 rfl ?_
          refine v_ald0 (pc := 174) dX5_livesAnew_174 ?_
          refine v_dup (pc := 175) dX5_livesAnew_175 rfl ?_
          refine v_getf KX5 10 (pc := 176) dX5_livesAnew_176 (lw_all_tbl q2004) (Or.inl rfl) (Nat.le_of_ble_eq_true rfl) (mw_obj hM) rfl ?_
          refine v_ild5 (pc := 179) dX5_livesAnew_179 ?_
          refine v_if_le (pc := 181) (tgt := 188) dX5_livesAnew_181 rfl (by omega) (fun c181 => ?_) (fun c181 => ?_)
          · refine v_iconst (pc := 188) dX5_livesAnew_188 ?_
            refine v_iadd (pc := 189) dX5_livesAnew_189 ?_
            refine v_ptM_leftOut hM (pc := 190) dX5_livesAnew_190 (lw_all_tbl q2004) (fun h hM => ?_)
            refine v_iinc3 (pc := 193) dX5_livesAnew_193 rfl ?_
            refine v_goto (pc := 196) (tgt := 31) dX5_livesAnew_196 rfl ?_
            refine v_forget 4 ?_
            refine v_forget 5 ?_
            exact ih _ (by omega) _ _ _ _ _ _ _ rfl hM (by omega) (by rw [wc_s hk.1]; first | rw [if_pos (by omega)] | rw [if_neg (by omega)]) (by rw [mLives_s hk.1, he]; unfold lStep; dsimp only; first | (rw [if_pos (by omega)]; (first | rw [if_pos (by omega)] | rw [if_neg (by omega)])) | (rw [if_neg (by omega), if_pos (by omega)]; (first | rw [if_pos (by omega)] | rw [if_neg (by omega)])) | (rw [if_neg (by omega), if_neg (by omega), if_pos (by omega)]; (first | rw [if_pos (by omega)] | rw [if_neg (by omega)])) | (rw [if_neg (by omega), if_neg (by omega), if_neg (by omega), if_pos (by omega)]; (first | rw [if_pos (by omega)] | rw [if_neg (by omega)])) | rw [if_neg (by omega), if_neg (by omega), if_neg (by omega), if_neg (by omega)])
          · refine v_iconst (pc := 184) dX5_livesAnew_184 ?_
            refine v_goto (pc := 185) (tgt := 189) dX5_livesAnew_185 rfl ?_
            refine v_iadd (pc := 189) dX5_livesAnew_189 ?_
            refine v_ptM_leftOut hM (pc := 190) dX5_livesAnew_190 (lw_all_tbl q2004) (fun h hM => ?_)
            refine v_iinc3 (pc := 193) dX5_livesAnew_193 rfl ?_
            refine v_goto (pc := 196) (tgt := 31) dX5_livesAnew_196 rfl ?_
            refine v_forget 4 ?_
            refine v_forget 5 ?_
            exact ih _ (by omega) _ _ _ _ _ _ _ rfl hM (by omega) (by rw [wc_s hk.1]; first | rw [if_pos (by omega)] | rw [if_neg (by omega)]) (by rw [mLives_s hk.1, he]; unfold lStep; dsimp only; first | (rw [if_pos (by omega)]; (first | rw [if_pos (by omega)] | rw [if_neg (by omega)])) | (rw [if_neg (by omega), if_pos (by omega)]; (first | rw [if_pos (by omega)] | rw [if_neg (by omega)])) | (rw [if_neg (by omega), if_neg (by omega), if_pos (by omega)]; (first | rw [if_pos (by omega)] | rw [if_neg (by omega)])) | (rw [if_neg (by omega), if_neg (by omega), if_neg (by omega), if_pos (by omega)]; (first | rw [if_pos (by omega)] | rw [if_neg (by omega)])) | rw [if_neg (by omega), if_neg (by omega), if_neg (by omega), if_neg (by omega)])
        refine v_case (pc := 61) 2 (fun e61_2 => ?_) (fun e61_2 => ?_)
        · refine v_tableK 2 (pc := 61) (tgt := 125) dX5_livesAnew_61 ⟨by decide, by decide⟩ (by decide) (by decide) rfl rfl ?_ e61_2
          have hh1 := hh.2.2.2.1 (Or.inl e61_2)
          refine v_ald0 (pc := 125) dX5_livesAnew_125 ?_
          refine v_ald0 (pc := 126) dX5_livesAnew_126 ?_
          refine v_getf KX5 2 (pc := 127) dX5_livesAnew_127 (lw_all_tbl q1996) (Or.inl rfl) (Nat.le_of_ble_eq_true rfl) (mw_obj hM) rfl ?_
          refine v_ild4 (pc := 130) dX5_livesAnew_130 ?_
          refine v_iconst (pc := 132) dX5_livesAnew_132 ?_
          refine v_iadd (pc := 133) dX5_livesAnew_133 ?_
          refine v_ldM_aside hM (pc := 134) dX5_livesAnew_134 (by omega) ?_
          refine v_ci0 (pc := 135) (v_runV1 okX5_tellsReset rfl (sp_X5_tellsReset hM hR1 (by omega)) dX5_livesAnew_135 (lw_all_tbl q2304) (lw_all_tbl q2306) (lw_all_tbl qs81) rfl (mw_obj hM) (Nat.le_of_ble_eq_true rfl) ⟨Nat.zero_le _, Nat.zero_le _⟩ (Nat.le_of_ble_eq_true rfl)) (fun x135 h ⟨ex135, hM⟩ => ?_)
          subst ex135
          have hrr : 0 ≤ lResetR now1 (now (1862 + 4 * k + 1)) ∧ lResetR now1 (now (1862 + 4 * k + 1)) ≤ 4 := by unfold lResetR; (repeat (any_goals split)) <;> omega
          refine v_ist5 (pc := 138) dX5_livesAnew_138 rfl ?_
          refine v_goto (pc := 140) (tgt := 174) dX5_livesAnew_140 rfl ?_
          refine v_ald0 (pc := 174) dX5_livesAnew_174 ?_
          refine v_dup (pc := 175) dX5_livesAnew_175 rfl ?_
          refine v_getf KX5 10 (pc := 176) dX5_livesAnew_176 (lw_all_tbl q2004) (Or.inl rfl) (Nat.le_of_ble_eq_true rfl) (mw_obj hM) rfl ?_
          refine v_ild5 (pc := 179) dX5_livesAnew_179 ?_
          refine v_if_le (pc := 181) (tgt := 188) dX5_livesAnew_181 rfl (by omega) (fun c181 => ?_) (fun c181 => ?_)
          · refine v_iconst (pc := 188) dX5_livesAnew_188 ?_
            refine v_iadd (pc := 189) dX5_livesAnew_189 ?_
            refine v_ptM_leftOut hM (pc := 190) dX5_livesAnew_190 (lw_all_tbl q2004) (fun h hM => ?_)
            refine v_iinc3 (pc := 193) dX5_livesAnew_193 rfl ?_
            refine v_goto (pc := 196) (tgt := 31) dX5_livesAnew_196 rfl ?_
            refine v_forget 4 ?_
            refine v_forget 5 ?_
            exact ih _ (by omega) _ _ _ _ _ _ _ rfl hM (by omega) (by rw [wc_s hk.1]; first | rw [if_pos (by omega)] | rw [if_neg (by omega)]) (by rw [mLives_s hk.1, he]; unfold lStep; dsimp only; first | (rw [if_pos (by omega)]; (first | rw [if_pos (by omega)] | rw [if_neg (by omega)])) | (rw [if_neg (by omega), if_pos (by omega)]; (first | rw [if_pos (by omega)] | rw [if_neg (by omega)])) | (rw [if_neg (by omega), if_neg (by omega), if_pos (by omega)]; (first | rw [if_pos (by omega)] | rw [if_neg (by omega)])) | (rw [if_neg (by omega), if_neg (by omega), if_neg (by omega), if_pos (by omega)]; (first | rw [if_pos (by omega)] | rw [if_neg (by omega)])) | rw [if_neg (by omega), if_neg (by omega), if_neg (by omega), if_neg (by omega)])
          · refine v_iconst (pc := 184) dX5_livesAnew_184 ?_
            refine v_goto (pc := 185) (tgt := 189) dX5_livesAnew_185 rfl ?_
            refine v_iadd (pc := 189) dX5_livesAnew_189 ?_
            refine v_ptM_leftOut hM (pc := 190) dX5_livesAnew_190 (lw_all_tbl q2004) (fun h hM => ?_)
            refine v_iinc3 (pc := 193) dX5_livesAnew_193 rfl ?_
            refine v_goto (pc := 196) (tgt := 31) dX5_livesAnew_196 rfl ?_
            refine v_forget 4 ?_
            refine v_forget 5 ?_
            exact ih _ (by omega) _ _ _ _ _ _ _ rfl hM (by omega) (by rw [wc_s hk.1]; first | rw [if_pos (by omega)] | rw [if_neg (by omega)]) (by rw [mLives_s hk.1, he]; unfold lStep; dsimp only; first | (rw [if_pos (by omega)]; (first | rw [if_pos (by omega)] | rw [if_neg (by omega)])) | (rw [if_neg (by omega), if_pos (by omega)]; (first | rw [if_pos (by omega)] | rw [if_neg (by omega)])) | (rw [if_neg (by omega), if_neg (by omega), if_pos (by omega)]; (first | rw [if_pos (by omega)] | rw [if_neg (by omega)])) | (rw [if_neg (by omega), if_neg (by omega), if_neg (by omega), if_pos (by omega)]; (first | rw [if_pos (by omega)] | rw [if_neg (by omega)])) | rw [if_neg (by omega), if_neg (by omega), if_neg (by omega), if_neg (by omega)])
        refine v_case (pc := 61) 3 (fun e61_3 => ?_) (fun e61_3 => ?_)
        · refine v_tableK 3 (pc := 61) (tgt := 143) dX5_livesAnew_61 ⟨by decide, by decide⟩ (by decide) (by decide) rfl rfl ?_ e61_3
          have hh1 := hh.2.2.2.1 (Or.inr e61_3)
          refine v_ald0 (pc := 143) dX5_livesAnew_143 ?_
          refine v_ald0 (pc := 144) dX5_livesAnew_144 ?_
          refine v_getf KX5 2 (pc := 145) dX5_livesAnew_145 (lw_all_tbl q1996) (Or.inl rfl) (Nat.le_of_ble_eq_true rfl) (mw_obj hM) rfl ?_
          refine v_ild4 (pc := 148) dX5_livesAnew_148 ?_
          refine v_iconst (pc := 150) dX5_livesAnew_150 ?_
          refine v_iadd (pc := 151) dX5_livesAnew_151 ?_
          refine v_ldM_aside hM (pc := 152) dX5_livesAnew_152 (by omega) ?_
          refine v_ci0 (pc := 153) (v_runV1 okX5_burial rfl (sp_X5_burial hM hR1 (by omega) hits (hL.KA hR) (by omega)) dX5_livesAnew_153 (lw_all_tbl q2316) (lw_all_tbl q2318) (lw_all_tbl qs84) rfl (mw_obj hM) (Nat.le_of_ble_eq_true rfl) ⟨Nat.zero_le _, Nat.zero_le _⟩ (Nat.le_of_ble_eq_true rfl)) (fun x153 h ⟨ex153, tried, hM⟩ => ?_)
          subst ex153
          have hrr : 0 ≤ mBurialR now1 now its (now (1862 + 4 * k + 1)) ∧ mBurialR now1 now its (now (1862 + 4 * k + 1)) ≤ 5 := by unfold mBurialR; (repeat (any_goals split)) <;> omega
          refine v_ist5 (pc := 156) dX5_livesAnew_156 rfl ?_
          refine v_goto (pc := 158) (tgt := 174) dX5_livesAnew_158 rfl ?_
          refine v_ald0 (pc := 174) dX5_livesAnew_174 ?_
          refine v_dup (pc := 175) dX5_livesAnew_175 rfl ?_
          refine v_getf KX5 10 (pc := 176) dX5_livesAnew_176 (lw_all_tbl q2004) (Or.inl rfl) (Nat.le_of_ble_eq_true rfl) (mw_obj hM) rfl ?_
          refine v_ild5 (pc := 179) dX5_livesAnew_179 ?_
          refine v_if_le (pc := 181) (tgt := 188) dX5_livesAnew_181 rfl (by omega) (fun c181 => ?_) (fun c181 => ?_)
          · refine v_iconst (pc := 188) dX5_livesAnew_188 ?_
            refine v_iadd (pc := 189) dX5_livesAnew_189 ?_
            refine v_ptM_leftOut hM (pc := 190) dX5_livesAnew_190 (lw_all_tbl q2004) (fun h hM => ?_)
            refine v_iinc3 (pc := 193) dX5_livesAnew_193 rfl ?_
            refine v_goto (pc := 196) (tgt := 31) dX5_livesAnew_196 rfl ?_
            refine v_forget 4 ?_
            refine v_forget 5 ?_
            exact ih _ (by omega) _ _ _ _ _ _ _ rfl hM (by omega) (by rw [wc_s hk.1]; first | rw [if_pos (by omega)] | rw [if_neg (by omega)]) (by rw [mLives_s hk.1, he]; unfold lStep; dsimp only; first | (rw [if_pos (by omega)]; (first | rw [if_pos (by omega)] | rw [if_neg (by omega)])) | (rw [if_neg (by omega), if_pos (by omega)]; (first | rw [if_pos (by omega)] | rw [if_neg (by omega)])) | (rw [if_neg (by omega), if_neg (by omega), if_pos (by omega)]; (first | rw [if_pos (by omega)] | rw [if_neg (by omega)])) | (rw [if_neg (by omega), if_neg (by omega), if_neg (by omega), if_pos (by omega)]; (first | rw [if_pos (by omega)] | rw [if_neg (by omega)])) | rw [if_neg (by omega), if_neg (by omega), if_neg (by omega), if_neg (by omega)])
          · refine v_iconst (pc := 184) dX5_livesAnew_184 ?_
            refine v_goto (pc := 185) (tgt := 189) dX5_livesAnew_185 rfl ?_
            refine v_iadd (pc := 189) dX5_livesAnew_189 ?_
            refine v_ptM_leftOut hM (pc := 190) dX5_livesAnew_190 (lw_all_tbl q2004) (fun h hM => ?_)
            refine v_iinc3 (pc := 193) dX5_livesAnew_193 rfl ?_
            refine v_goto (pc := 196) (tgt := 31) dX5_livesAnew_196 rfl ?_
            refine v_forget 4 ?_
            refine v_forget 5 ?_
            exact ih _ (by omega) _ _ _ _ _ _ _ rfl hM (by omega) (by rw [wc_s hk.1]; first | rw [if_pos (by omega)] | rw [if_neg (by omega)]) (by rw [mLives_s hk.1, he]; unfold lStep; dsimp only; first | (rw [if_pos (by omega)]; (first | rw [if_pos (by omega)] | rw [if_neg (by omega)])) | (rw [if_neg (by omega), if_pos (by omega)]; (first | rw [if_pos (by omega)] | rw [if_neg (by omega)])) | (rw [if_neg (by omega), if_neg (by omega), if_pos (by omega)]; (first | rw [if_pos (by omega)] | rw [if_neg (by omega)])) | (rw [if_neg (by omega), if_neg (by omega), if_neg (by omega), if_pos (by omega)]; (first | rw [if_pos (by omega)] | rw [if_neg (by omega)])) | rw [if_neg (by omega), if_neg (by omega), if_neg (by omega), if_neg (by omega)])
        refine v_tableOut (pc := 61) (tgt := 161) dX5_livesAnew_61 (by omega) (by omega) rfl ?_
        have hh1 := hh.2.2.2.2 (by omega)
        refine v_ald0 (pc := 161) dX5_livesAnew_161 ?_
        refine v_ald0 (pc := 162) dX5_livesAnew_162 ?_
        refine v_getf KX5 2 (pc := 163) dX5_livesAnew_163 (lw_all_tbl q1996) (Or.inl rfl) (Nat.le_of_ble_eq_true rfl) (mw_obj hM) rfl ?_
        refine v_ild4 (pc := 166) dX5_livesAnew_166 ?_
        refine v_iconst (pc := 168) dX5_livesAnew_168 ?_
        refine v_iadd (pc := 169) dX5_livesAnew_169 ?_
        refine v_ldM_aside hM (pc := 170) dX5_livesAnew_170 (by omega) ?_
        refine v_cv0 (pc := 171) (v_runV1 okX5_passesDays rfl (sp_X5_passesDays hM hR1 hits (hL.KA hR) (by omega) (by omega)) dX5_livesAnew_171 (lw_all_tbl q2324) (lw_all_tbl q2326) (lw_all_tbl qs86) rfl (mw_obj hM) (Nat.le_of_ble_eq_true rfl) ⟨Nat.zero_le _, Nat.zero_le _⟩ (Nat.le_of_ble_eq_true rfl)) (fun h ⟨tried, hM⟩ => ?_)
        refine v_ald0 (pc := 174) dX5_livesAnew_174 ?_
        refine v_dup (pc := 175) dX5_livesAnew_175 rfl ?_
        refine v_getf KX5 10 (pc := 176) dX5_livesAnew_176 (lw_all_tbl q2004) (Or.inl rfl) (Nat.le_of_ble_eq_true rfl) (mw_obj hM) rfl ?_
        refine v_ild5 (pc := 179) dX5_livesAnew_179 ?_
        refine v_if_le (pc := 181) (tgt := 188) dX5_livesAnew_181 rfl (by omega) (fun _ => ?_) (fun c => absurd c (by decide))
        refine v_iconst (pc := 188) dX5_livesAnew_188 ?_
        refine v_iadd (pc := 189) dX5_livesAnew_189 ?_
        refine v_ptM_leftOut hM (pc := 190) dX5_livesAnew_190 (lw_all_tbl q2004) (fun h hM => ?_)
        refine v_iinc3 (pc := 193) dX5_livesAnew_193 rfl ?_
        refine v_goto (pc := 196) (tgt := 31) dX5_livesAnew_196 rfl ?_
        refine v_forget 4 ?_
        refine v_forget 5 ?_
        exact ih _ (by omega) _ _ _ _ _ _ _ rfl hM (by omega) (by rw [wc_s hk.1]; first | rw [if_pos (by omega)] | rw [if_neg (by omega)]) (by rw [mLives_s hk.1, he]; unfold lStep; dsimp only; first | (rw [if_pos (by omega)]; (first | rw [if_pos (by omega)] | rw [if_neg (by omega)])) | (rw [if_neg (by omega), if_pos (by omega)]; (first | rw [if_pos (by omega)] | rw [if_neg (by omega)])) | (rw [if_neg (by omega), if_neg (by omega), if_pos (by omega)]; (first | rw [if_pos (by omega)] | rw [if_neg (by omega)])) | (rw [if_neg (by omega), if_neg (by omega), if_neg (by omega), if_pos (by omega)]; (first | rw [if_pos (by omega)] | rw [if_neg (by omega)])) | rw [if_neg (by omega), if_neg (by omega), if_neg (by omega), if_neg (by omega)])
  refine v_ald0 (pc := 0) dX5_livesAnew_0 ?_
  refine v_getf KX5 1 (pc := 1) dX5_livesAnew_1 (lw_all_tbl q1995) (Or.inl rfl) (Nat.le_of_ble_eq_true rfl) (mw_obj hM) rfl ?_
  refine v_iconst (pc := 4) dX5_livesAnew_4 ?_
  refine v_ald0 (pc := 5) dX5_livesAnew_5 ?_
  refine v_getf KX5 2 (pc := 6) dX5_livesAnew_6 (lw_all_tbl q1996) (Or.inl rfl) (Nat.le_of_ble_eq_true rfl) (mw_obj hM) rfl ?_
  refine v_iconst (pc := 9) dX5_livesAnew_9 ?_
  refine v_cv0 (pc := 10) (v_runS4 okX5_copies rfl (sp_cp_now_aside hM) dX5_livesAnew_10 (lw_all_tbl q2253) (lw_all_tbl q2254) (Nat.le_of_ble_eq_true rfl) ⟨Nat.zero_le _, Nat.zero_le _⟩ (Nat.le_of_ble_eq_true rfl)) (fun h hM => ?_)
  rw [cpy_all hR.sup hS] at hM
  refine v_ald0 (pc := 13) dX5_livesAnew_13 ?_
  refine v_ild1 (pc := 14) dX5_livesAnew_14 ?_
  refine v_ptM_way hM (pc := 15) dX5_livesAnew_15 (lw_all_tbl q2003) (fun h hM => ?_)
  refine v_ald0 (pc := 18) dX5_livesAnew_18 ?_
  refine v_cv0 (pc := 19) (v_runV0 okX5_begins rfl (sp_X5_begins hM) dX5_livesAnew_19 (lw_all_tbl q1987) (lw_all_tbl q1989) (lw_all_tbl qs48) rfl (mw_obj hM) (Nat.le_of_ble_eq_true rfl) ⟨Nat.zero_le _, Nat.zero_le _⟩ (Nat.le_of_ble_eq_true rfl)) (fun h hM => ?_)
  refine v_ald0 (pc := 22) dX5_livesAnew_22 ?_
  refine v_iconst (pc := 23) dX5_livesAnew_23 ?_
  refine v_ptM_leftOut hM (pc := 24) dX5_livesAnew_24 (lw_all_tbl q2004) (fun h hM => ?_)
  refine v_iconst (pc := 27) dX5_livesAnew_27 ?_
  refine v_ist2 (pc := 28) dX5_livesAnew_28 rfl ?_
  refine v_iconst (pc := 29) dX5_livesAnew_29 ?_
  refine v_ist3 (pc := 30) dX5_livesAnew_30 rfl ?_
  exact L31 _ _ _ _ _ _ _ _ rfl hM (by omega) rfl rfl
theorem sp_livesAnew {Γ : Cx} {t : Nat} {α : Nat → Nat} {h0 h : AH} {thrown : Int} {now : Int → Int} {aside : Int → Int} {tried : Int → Int} {undos : Int → Int} {undoMany : Int} {saved : Int → Int} {isSaved : Int → Int} {accounts : Int → Int} {way : Int} {leftOut : Int} {here : Int → Int} {text : Int → Int} {length : Int} {atp : Int} {frm : Int} {token : Int} {number : Int} {error : Int} {errorAt : Int} {commands : Int} {command : Int → Int} {out : Int → Int} {outLong : Int} {c its : Int} (hM : MW t α h0 h thrown now aside tried undos undoMany saved isSaved accounts way leftOut here text length atp frm token number error errorAt commands command out outLong) (hR : ROK now c) (hS : Sup aside) (hH : HOK now) (hits : 0 ≤ its ∧ its ≤ 6) : Sp Γ yX5_livesAnew mX5_livesAnew 10 0 0 [.ref (α 0), vi its] h (Qv (fun h' => ∃ tr he, MW t α h0 h' thrown ((mLz now its).1) now tr undos undoMany saved isSaved accounts 5 ((mLz now its).2.2) he text length atp frm token number error errorAt commands command out outLong)) NoX :=
  (sp_X5_livesAnew hM hR hS hH hits).post (fun v h' q => ⟨q.1, by obtain ⟨tr, hq⟩ := q.2; obtain ⟨e1, e2, -⟩ := mLives_here (g := here) (g' := fun _ => 0) (way := its) hH (now 11) hH.1.1 (Int.le_refl _); rw [e1, e2] at hq; exact ⟨tr, _, hq⟩⟩) (fun _ _ _ x => x)
theorem sp_X5_anew {Γ : Cx} {t : Nat} {α : Nat → Nat} {h0 h : AH} {thrown : Int} {now : Int → Int} {aside : Int → Int} {tried : Int → Int} {undos : Int → Int} {undoMany : Int} {saved : Int → Int} {isSaved : Int → Int} {accounts : Int → Int} {way : Int} {leftOut : Int} {here : Int → Int} {text : Int → Int} {length : Int} {atp : Int} {frm : Int} {token : Int} {number : Int} {error : Int} {errorAt : Int} {commands : Int} {command : Int → Int} {out : Int → Int} {outLong : Int} {c : Int} {its k : Int} (hM : MW t α h0 h thrown now aside tried undos undoMany saved isSaved accounts way leftOut here text length atp frm token number error errorAt commands command out outLong) (hR : ROK now c) (hS : Sup aside) (hH : HOK now) (hi : -2147483648 ≤ its ∧ its ≤ 2147483647) (hk : -2147483648 ≤ k ∧ k ≤ 2147483647) (hw5 : way = 5) : Sp Γ yX5_anew mX5_anew 11 0 0 [.ref (α 0), vi its, vi k] h (Qi (fun x h' => x = (if (0 ≤ its ∧ its ≤ 6) ∧ 0 ≤ k ∧ k ≤ 5 then aTold (mLz now its).1 (mLz now its).2.2 k else 0) ∧ ∃ tr he as lo, Sup as ∧ MW t α h0 h' ((if (0 ≤ its ∧ its ≤ 6) ∧ 0 ≤ k ∧ k ≤ 5 then 0 else 1)) now as tr undos undoMany saved isSaved accounts way lo he text length atp frm token number error errorAt commands command out outLong)) NoX := by
  refine sp_of okX5_anew (cat_all rfl) (Nat.le_of_ble_eq_true rfl) rfl ?_
  refine v_ald0 (pc := 0) dX5_anew_0 ?_
  refine v_ild1 (pc := 1) dX5_anew_1 ?_
  refine v_iconst (pc := 2) dX5_anew_2 ?_
  refine v_bipush (pc := 3) dX5_anew_3 ⟨by decide, by decide⟩ ?_
  refine v_cb0 (pc := 5) (v_runS3 okX5_in rfl (sp_X5_in (by omega) (by omega) (by omega)) dX5_anew_5 (lw_all_tbl q2079) (lw_all_tbl q2080) (Nat.le_of_ble_eq_true rfl) ⟨Nat.zero_le _, Nat.zero_le _⟩ (Nat.le_of_ble_eq_true rfl)) (fun c5 => ?_) (fun c5 => ?_)
  · refine v_if_eq1 (pc := 8) (tgt := 24) dX5_anew_8 rfl ?_
    refine v_ild2 (pc := 11) dX5_anew_11 ?_
    refine v_iconst (pc := 12) dX5_anew_12 ?_
    refine v_iconst (pc := 13) dX5_anew_13 ?_
    refine v_cb0 (pc := 14) (v_runS3 okX5_in rfl (sp_X5_in (by omega) (by omega) (by omega)) dX5_anew_14 (lw_all_tbl q2079) (lw_all_tbl q2080) (Nat.le_of_ble_eq_true rfl) ⟨Nat.zero_le _, Nat.zero_le _⟩ (Nat.le_of_ble_eq_true rfl)) (fun c14 => ?_) (fun c14 => ?_)
    · refine v_if_eq1 (pc := 17) (tgt := 24) dX5_anew_17 rfl ?_
      refine v_iconst (pc := 20) dX5_anew_20 ?_
      refine v_goto (pc := 21) (tgt := 25) dX5_anew_21 rfl ?_
      refine v_ptM_thrown hM (pc := 25) dX5_anew_25 (lw_all_tbl q1994) (fun h hM => ?_)
      refine v_ald0 (pc := 28) dX5_anew_28 ?_
      refine v_getf KX5 0 (pc := 29) dX5_anew_29 (lw_all_tbl q1994) (Or.inl rfl) (Nat.le_of_ble_eq_true rfl) (mw_obj hM) rfl ?_
      refine v_if_le (pc := 32) (tgt := 37) dX5_anew_32 rfl (by omega) (fun _ => ?_) (fun c => absurd c (by decide))
      refine v_ald0 (pc := 37) dX5_anew_37 ?_
      refine v_ild1 (pc := 38) dX5_anew_38 ?_
      refine v_cv0 (pc := 39) (v_runV1 okX5_livesAnew rfl (sp_livesAnew hM (by omega) (by omega) (by omega) (by omega)) dX5_anew_39 (lw_all_tbl q2249) (lw_all_tbl q2251) (lw_all_tbl qs68) rfl (mw_obj hM) (Nat.le_of_ble_eq_true rfl) ⟨Nat.zero_le _, Nat.zero_le _⟩ (Nat.le_of_ble_eq_true rfl)) (fun h ⟨tried, here, hM⟩ => ?_)
      refine v_ald0 (pc := 42) dX5_anew_42 ?_
      refine v_ild2 (pc := 43) dX5_anew_43 ?_
      refine v_ce0 (pc := 44) (v_runV1 okX5_toldNow rfl (sp_X5_toldNow hM (mLz_ok hR (by omega) hH) (by omega)) dX5_anew_44 (lw_all_tbl q2332) (lw_all_tbl q2334) (lw_all_tbl qs88) rfl (mw_obj hM) (Nat.le_of_ble_eq_true rfl) ⟨Nat.zero_le _, Nat.zero_le _⟩ (Nat.le_of_ble_eq_true rfl)) ?_
      refine v_ist3 (pc := 47) dX5_anew_47 rfl ?_
      refine v_ald0 (pc := 48) dX5_anew_48 ?_
      refine v_getf KX5 2 (pc := 49) dX5_anew_49 (lw_all_tbl q1996) (Or.inl rfl) (Nat.le_of_ble_eq_true rfl) (mw_obj hM) rfl ?_
      refine v_iconst (pc := 52) dX5_anew_52 ?_
      refine v_ald0 (pc := 53) dX5_anew_53 ?_
      refine v_getf KX5 1 (pc := 54) dX5_anew_54 (lw_all_tbl q1995) (Or.inl rfl) (Nat.le_of_ble_eq_true rfl) (mw_obj hM) rfl ?_
      refine v_iconst (pc := 57) dX5_anew_57 ?_
      refine v_cv0 (pc := 58) (v_runS4 okX5_copies rfl (sp_cp_aside_now hM) dX5_anew_58 (lw_all_tbl q2253) (lw_all_tbl q2254) (Nat.le_of_ble_eq_true rfl) ⟨Nat.zero_le _, Nat.zero_le _⟩ (Nat.le_of_ble_eq_true rfl)) (fun h hM => ?_)
      refine v_ild3 (pc := 61) dX5_anew_61 ?_
      refine v_ret_n (pc := 62) dX5_anew_62 rfl ?_
      rw [cpy_all hR.sup (mLz_ok hR (by omega) hH).sup] at hM
      rw [← hw5] at hM
      exact qi_ok ⟨by rw [if_pos (by omega)], _, _, _, _, hR.sup, mw_thr hM (by rw [if_pos (by omega)])⟩
    · refine v_if_eq0 (pc := 17) (tgt := 24) dX5_anew_17 rfl ?_
      refine v_iconst (pc := 24) dX5_anew_24 ?_
      refine v_ptM_thrown hM (pc := 25) dX5_anew_25 (lw_all_tbl q1994) (fun h hM => ?_)
      refine v_ald0 (pc := 28) dX5_anew_28 ?_
      refine v_getf KX5 0 (pc := 29) dX5_anew_29 (lw_all_tbl q1994) (Or.inl rfl) (Nat.le_of_ble_eq_true rfl) (mw_obj hM) rfl ?_
      refine v_if_le (pc := 32) (tgt := 37) dX5_anew_32 rfl (by omega) (fun c => absurd c (by decide)) (fun _ => ?_)
      refine v_iconst (pc := 35) dX5_anew_35 ?_
      refine v_ret_n (pc := 36) dX5_anew_36 rfl ?_
      exact qi_ok ⟨by rw [if_neg (by omega)], _, _, _, _, hS, mw_thr hM (by rw [if_neg (by omega)])⟩
  · refine v_if_eq0 (pc := 8) (tgt := 24) dX5_anew_8 rfl ?_
    refine v_iconst (pc := 24) dX5_anew_24 ?_
    refine v_ptM_thrown hM (pc := 25) dX5_anew_25 (lw_all_tbl q1994) (fun h hM => ?_)
    refine v_ald0 (pc := 28) dX5_anew_28 ?_
    refine v_getf KX5 0 (pc := 29) dX5_anew_29 (lw_all_tbl q1994) (Or.inl rfl) (Nat.le_of_ble_eq_true rfl) (mw_obj hM) rfl ?_
    refine v_if_le (pc := 32) (tgt := 37) dX5_anew_32 rfl (by omega) (fun c => absurd c (by decide)) (fun _ => ?_)
    refine v_iconst (pc := 35) dX5_anew_35 ?_
    refine v_ret_n (pc := 36) dX5_anew_36 rfl ?_
    exact qi_ok ⟨by rw [if_neg (by omega)], _, _, _, _, hS, mw_thr hM (by rw [if_neg (by omega)])⟩
theorem sp_X5_gap {Γ : Cx} {t : Nat} {α : Nat → Nat} {h0 h : AH} {thrown : Int} {now : Int → Int} {aside : Int → Int} {tried : Int → Int} {undos : Int → Int} {undoMany : Int} {saved : Int → Int} {isSaved : Int → Int} {accounts : Int → Int} {way : Int} {leftOut : Int} {here : Int → Int} {text : Int → Int} {length : Int} {atp : Int} {frm : Int} {token : Int} {number : Int} {error : Int} {errorAt : Int} {commands : Int} {command : Int → Int} {out : Int → Int} {outLong : Int} {c : Int} {k : Int} (hM : MW t α h0 h thrown now aside tried undos undoMany saved isSaved accounts way leftOut here text length atp frm token number error errorAt commands command out outLong) (hR : ROK now c) (hS : Sup aside) (hH : HOK now) (hk : -2147483648 ≤ k ∧ k ≤ 2147483647) (hw5 : way = 5) : Sp Γ yX5_gap mX5_gap 11 0 0 [.ref (α 0), vi k] h (Qi (fun x h' => x = (if 0 ≤ k ∧ k ≤ 2 then aTold (mLz now 5).1 (mLz now 5).2.2 k - aTold (mLz now 6).1 (mLz now 6).2.2 k else 0) ∧ ∃ tr he as lo, Sup as ∧ MW t α h0 h' ((if 0 ≤ k ∧ k ≤ 2 then 0 else 1)) now as tr undos undoMany saved isSaved accounts way lo he text length atp frm token number error errorAt commands command out outLong)) NoX := by
  refine sp_of okX5_gap (cat_all rfl) (Nat.le_of_ble_eq_true rfl) rfl ?_
  refine v_ald0 (pc := 0) dX5_gap_0 ?_
  refine v_ild1 (pc := 1) dX5_gap_1 ?_
  refine v_iconst (pc := 2) dX5_gap_2 ?_
  refine v_iconst (pc := 3) dX5_gap_3 ?_
  refine v_cb0 (pc := 4) (v_runS3 okX5_in rfl (sp_X5_in (by omega) (by omega) (by omega)) dX5_gap_4 (lw_all_tbl q2079) (lw_all_tbl q2080) (Nat.le_of_ble_eq_true rfl) ⟨Nat.zero_le _, Nat.zero_le _⟩ (Nat.le_of_ble_eq_true rfl)) (fun c4 => ?_) (fun c4 => ?_)
  · refine v_if_eq1 (pc := 7) (tgt := 14) dX5_gap_7 rfl ?_
    refine v_iconst (pc := 10) dX5_gap_10 ?_
    refine v_goto (pc := 11) (tgt := 15) dX5_gap_11 rfl ?_
    refine v_ptM_thrown hM (pc := 15) dX5_gap_15 (lw_all_tbl q1994) (fun h hM => ?_)
    refine v_ald0 (pc := 18) dX5_gap_18 ?_
    refine v_getf KX5 0 (pc := 19) dX5_gap_19 (lw_all_tbl q1994) (Or.inl rfl) (Nat.le_of_ble_eq_true rfl) (mw_obj hM) rfl ?_
    refine v_if_le (pc := 22) (tgt := 27) dX5_gap_22 rfl (by omega) (fun _ => ?_) (fun c => absurd c (by decide))
    refine v_ald0 (pc := 27) dX5_gap_27 ?_
    refine v_iconst (pc := 28) dX5_gap_28 ?_
    refine v_cv0 (pc := 29) (v_runV1 okX5_livesAnew rfl (sp_livesAnew hM (by omega) (by omega) (by omega) (by omega)) dX5_gap_29 (lw_all_tbl q2249) (lw_all_tbl q2251) (lw_all_tbl qs68) rfl (mw_obj hM) (Nat.le_of_ble_eq_true rfl) ⟨Nat.zero_le _, Nat.zero_le _⟩ (Nat.le_of_ble_eq_true rfl)) (fun h ⟨tried, here, hM⟩ => ?_)
    refine v_ald0 (pc := 32) dX5_gap_32 ?_
    refine v_ild1 (pc := 33) dX5_gap_33 ?_
    refine v_ce0 (pc := 34) (v_runV1 okX5_toldNow rfl (sp_X5_toldNow hM (mLz_ok hR (by omega) hH) (by omega)) dX5_gap_34 (lw_all_tbl q2332) (lw_all_tbl q2334) (lw_all_tbl qs88) rfl (mw_obj hM) (Nat.le_of_ble_eq_true rfl) ⟨Nat.zero_le _, Nat.zero_le _⟩ (Nat.le_of_ble_eq_true rfl)) ?_
    refine v_ist2 (pc := 37) dX5_gap_37 rfl ?_
    refine v_ald0 (pc := 38) dX5_gap_38 ?_
    refine v_getf KX5 2 (pc := 39) dX5_gap_39 (lw_all_tbl q1996) (Or.inl rfl) (Nat.le_of_ble_eq_true rfl) (mw_obj hM) rfl ?_
    refine v_iconst (pc := 42) dX5_gap_42 ?_
    refine v_ald0 (pc := 43) dX5_gap_43 ?_
    refine v_getf KX5 1 (pc := 44) dX5_gap_44 (lw_all_tbl q1995) (Or.inl rfl) (Nat.le_of_ble_eq_true rfl) (mw_obj hM) rfl ?_
    refine v_iconst (pc := 47) dX5_gap_47 ?_
    refine v_cv0 (pc := 48) (v_runS4 okX5_copies rfl (sp_cp_aside_now hM) dX5_gap_48 (lw_all_tbl q2253) (lw_all_tbl q2254) (Nat.le_of_ble_eq_true rfl) ⟨Nat.zero_le _, Nat.zero_le _⟩ (Nat.le_of_ble_eq_true rfl)) (fun h hM => ?_)
    rw [cpy_all hR.sup (mLz_ok hR (by omega) hH).sup] at hM
    refine v_ald0 (pc := 51) dX5_gap_51 ?_
    refine v_bipush (pc := 52) dX5_gap_52 ⟨by decide, by decide⟩ ?_
    refine v_cv0 (pc := 54) (v_runV1 okX5_livesAnew rfl (sp_livesAnew hM (by omega) hR.sup (by omega) (by omega)) dX5_gap_54 (lw_all_tbl q2249) (lw_all_tbl q2251) (lw_all_tbl qs68) rfl (mw_obj hM) (Nat.le_of_ble_eq_true rfl) ⟨Nat.zero_le _, Nat.zero_le _⟩ (Nat.le_of_ble_eq_true rfl)) (fun h ⟨tried, here, hM⟩ => ?_)
    refine v_ald0 (pc := 57) dX5_gap_57 ?_
    refine v_ild1 (pc := 58) dX5_gap_58 ?_
    refine v_ce0 (pc := 59) (v_runV1 okX5_toldNow rfl (sp_X5_toldNow hM (mLz_ok hR (by omega) hH) (by omega)) dX5_gap_59 (lw_all_tbl q2332) (lw_all_tbl q2334) (lw_all_tbl qs88) rfl (mw_obj hM) (Nat.le_of_ble_eq_true rfl) ⟨Nat.zero_le _, Nat.zero_le _⟩ (Nat.le_of_ble_eq_true rfl)) ?_
    refine v_ist3 (pc := 62) dX5_gap_62 rfl ?_
    refine v_ald0 (pc := 63) dX5_gap_63 ?_
    refine v_getf KX5 2 (pc := 64) dX5_gap_64 (lw_all_tbl q1996) (Or.inl rfl) (Nat.le_of_ble_eq_true rfl) (mw_obj hM) rfl ?_
    refine v_iconst (pc := 67) dX5_gap_67 ?_
    refine v_ald0 (pc := 68) dX5_gap_68 ?_
    refine v_getf KX5 1 (pc := 69) dX5_gap_69 (lw_all_tbl q1995) (Or.inl rfl) (Nat.le_of_ble_eq_true rfl) (mw_obj hM) rfl ?_
    refine v_iconst (pc := 72) dX5_gap_72 ?_
    refine v_cv0 (pc := 73) (v_runS4 okX5_copies rfl (sp_cp_aside_now hM) dX5_gap_73 (lw_all_tbl q2253) (lw_all_tbl q2254) (Nat.le_of_ble_eq_true rfl) ⟨Nat.zero_le _, Nat.zero_le _⟩ (Nat.le_of_ble_eq_true rfl)) (fun h hM => ?_)
    refine v_ild2 (pc := 76) dX5_gap_76 ?_
    refine v_ild3 (pc := 77) dX5_gap_77 ?_
    refine v_isub (pc := 78) dX5_gap_78 ?_
    refine v_ret_n (pc := 79) dX5_gap_79 rfl ?_
    rw [cpy_all hR.sup (mLz_ok hR (by omega) hH).sup] at hM
    rw [← hw5] at hM
    exact qi_ok ⟨by rw [if_pos (by omega)], _, _, _, _, hR.sup, mw_thr hM (by rw [if_pos (by omega)])⟩
  · refine v_if_eq0 (pc := 7) (tgt := 14) dX5_gap_7 rfl ?_
    refine v_iconst (pc := 14) dX5_gap_14 ?_
    refine v_ptM_thrown hM (pc := 15) dX5_gap_15 (lw_all_tbl q1994) (fun h hM => ?_)
    refine v_ald0 (pc := 18) dX5_gap_18 ?_
    refine v_getf KX5 0 (pc := 19) dX5_gap_19 (lw_all_tbl q1994) (Or.inl rfl) (Nat.le_of_ble_eq_true rfl) (mw_obj hM) rfl ?_
    refine v_if_le (pc := 22) (tgt := 27) dX5_gap_22 rfl (by omega) (fun c => absurd c (by decide)) (fun _ => ?_)
    refine v_iconst (pc := 25) dX5_gap_25 ?_
    refine v_ret_n (pc := 26) dX5_gap_26 rfl ?_
    exact qi_ok ⟨by rw [if_neg (by omega)], _, _, _, _, hS, mw_thr hM (by rw [if_neg (by omega)])⟩
