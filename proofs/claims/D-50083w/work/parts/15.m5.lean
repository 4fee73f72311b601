/-! FlashZonesModel: walks, 5 (printed by gen) -/
set_option maxRecDepth 100000
theorem sp_X5_begins {Γ : Cx} {t : Nat} {α : Nat → Nat} {h0 h : AH} {thrown : Int} {now : Int → Int} {aside : Int → Int} {tried : Int → Int} {undos : Int → Int} {undoMany : Int} {saved : Int → Int} {isSaved : Int → Int} {accounts : Int → Int} {way : Int} {leftOut : Int} {here : Int → Int} {text : Int → Int} {length : Int} {atp : Int} {frm : Int} {token : Int} {number : Int} {error : Int} {errorAt : Int} {commands : Int} {command : Int → Int} {out : Int → Int} {outLong : Int}  (hM : MW t α h0 h thrown now aside tried undos undoMany saved isSaved accounts way leftOut here text length atp frm token number error errorAt commands command out outLong) : Sp Γ yX5_begins mX5_begins 2 0 0 [.ref (α 0)] h (Qv (fun h' => MW t α h0 h' thrown ((mBegin now)) aside tried undos undoMany saved isSaved accounts way leftOut here text length atp frm token number error errorAt commands command out outLong)) NoX := by
  refine sp_of okX5_begins (cat_all rfl) (Nat.le_of_ble_eq_true rfl) rfl ?_
  have L50 : ∀ (n9 : Nat) (h1 : AH) (now1 : Int → Int) (z : Int), (12 - z).toNat = n9 → (MW t α h0 h1 thrown now1 aside tried undos undoMany saved isSaved accounts way leftOut here text length atp frm token number error errorAt commands command out outLong) → (0 ≤ z ∧ z ≤ 12) → (∀ i, now1 i = if 1706 ≤ i ∧ i < 1706 + 13 * z ∧ (i - 1706) % 13 = 0 then -1 else if 13 ≤ i ∧ i < 18 then 1000 else if 6 ≤ i ∧ i < 2462 then 0 else now i) → V Γ mX5_begins 2 0 0 (Qv (fun h' => MW t α h0 h' thrown ((mBegin now)) aside tried undos undoMany saved isSaved accounts way leftOut here text length atp frm token number error errorAt commands command out outLong)) (NoX) h1 0 0 50 [some (.ref (α 0)), some (vi z)] [] := by
    intro n9
    induction n9 using Nat.strongRecOn with
    | _ n9 ih =>
      intro h1 now1 z hn9 hM hz he
      refine v_ild1 (pc := 50) dX5_begins_50 ?_
      refine v_bipush (pc := 51) dX5_begins_51 ⟨by decide, by decide⟩ ?_
      refine v_icmp_ge (pc := 53) (tgt := 74) dX5_begins_53 rfl (by omega) (by omega) (fun c53 => ?_) (fun c53 => ?_)
      · refine v_ret_v (pc := 74) dX5_begins_74 rfl ?_
        have e : now1 = mBegin now := funext fun i => by rw [he i]; unfold mBegin; (repeat (any_goals split)) <;> first | rfl | omega
        exact qv_ok (e ▸ hM)
      · refine v_ald0 (pc := 56) dX5_begins_56 ?_
        refine v_getf KX5 1 (pc := 57) dX5_begins_57 (lw_all_tbl q1995) (Or.inl rfl) (Nat.le_of_ble_eq_true rfl) (mw_obj hM) rfl ?_
        refine v_ild1 (pc := 60) dX5_begins_60 ?_
        refine v_ce0 (pc := 61) (v_runS1 okX5_zoneAt rfl (sp_X5_zoneAt) dX5_begins_61 (lw_all_tbl q1991) (lw_all_tbl q1992) (Nat.le_of_ble_eq_true rfl) ⟨Nat.zero_le _, Nat.zero_le _⟩ (Nat.le_of_ble_eq_true rfl)) ?_
        refine v_iconst (pc := 64) dX5_begins_64 ?_
        refine v_iadd (pc := 65) dX5_begins_65 ?_
        refine v_iconst (pc := 66) dX5_begins_66 ?_
        refine v_stM_now hM (pc := 67) dX5_begins_67 (by omega) (fun h hM => ?_)
        refine v_iinc1 (pc := 68) dX5_begins_68 rfl ?_
        refine v_goto (pc := 71) (tgt := 50) dX5_begins_71 rfl ?_
        exact ih _ (by omega) _ _ _ rfl hM (by omega) (fun i => if e : i = 1706 + 13 * z + 0 then (by rw [e, upi_s, if_pos (by omega)]) else (by rw [upi_n e, he i]; exact ite_iff (by omega) _ _))
  have L25 : ∀ (n9 : Nat) (h1 : AH) (now1 : Int → Int) (g : Int), (5 - g).toNat = n9 → (MW t α h0 h1 thrown now1 aside tried undos undoMany saved isSaved accounts way leftOut here text length atp frm token number error errorAt commands command out outLong) → (0 ≤ g ∧ g ≤ 5) → (∀ i, now1 i = if 13 ≤ i ∧ i < 13 + g then 1000 else if 6 ≤ i ∧ i < 2462 then 0 else now i) → V Γ mX5_begins 2 0 0 (Qv (fun h' => MW t α h0 h' thrown ((mBegin now)) aside tried undos undoMany saved isSaved accounts way leftOut here text length atp frm token number error errorAt commands command out outLong)) (NoX) h1 0 0 25 [some (.ref (α 0)), some (vi g)] [] := by
    intro n9
    induction n9 using Nat.strongRecOn with
    | _ n9 ih =>
      intro h1 now1 g hn9 hM hg he
      refine v_ild1 (pc := 25) dX5_begins_25 ?_
      refine v_iconst (pc := 26) dX5_begins_26 ?_
      refine v_icmp_ge (pc := 27) (tgt := 48) dX5_begins_27 rfl (by omega) (by omega) (fun c27 => ?_) (fun c27 => ?_)
      · refine v_iconst (pc := 48) dX5_begins_48 ?_
        refine v_ist1 (pc := 49) dX5_begins_49 rfl ?_
        exact L50 _ _ _ _ rfl hM (by omega) (fun i => by rw [he i, if_neg (by omega : ¬ (1706 ≤ i ∧ i < 1706 + 13 * 0 ∧ (i - 1706) % 13 = 0))]; exact ite_iff (by omega) _ _)
      · refine v_ald0 (pc := 30) dX5_begins_30 ?_
        refine v_getf KX5 1 (pc := 31) dX5_begins_31 (lw_all_tbl q1995) (Or.inl rfl) (Nat.le_of_ble_eq_true rfl) (mw_obj hM) rfl ?_
        refine v_bipush (pc := 34) dX5_begins_34 ⟨by decide, by decide⟩ ?_
        refine v_ild1 (pc := 36) dX5_begins_36 ?_
        refine v_iadd (pc := 37) dX5_begins_37 ?_
        refine v_sipush (pc := 38) dX5_begins_38 ⟨by decide, by decide⟩ ?_
        refine v_stM_now hM (pc := 41) dX5_begins_41 (by omega) (fun h hM => ?_)
        refine v_iinc1 (pc := 42) dX5_begins_42 rfl ?_
        refine v_goto (pc := 45) (tgt := 25) dX5_begins_45 rfl ?_
        exact ih _ (by omega) _ _ _ rfl hM (by omega) (fun i => if e : i = 13 + g then (by rw [e, upi_s, if_pos (by omega)]) else (by rw [upi_n e, he i]; exact ite_iff (by omega) _ _))
  have L3 : ∀ (n9 : Nat) (h1 : AH) (now1 : Int → Int) (k : Int), (2462 - k).toNat = n9 → (MW t α h0 h1 thrown now1 aside tried undos undoMany saved isSaved accounts way leftOut here text length atp frm token number error errorAt commands command out outLong) → (6 ≤ k ∧ k ≤ 2462) → (∀ i, now1 i = if 6 ≤ i ∧ i < k then 0 else now i) → V Γ mX5_begins 2 0 0 (Qv (fun h' => MW t α h0 h' thrown ((mBegin now)) aside tried undos undoMany saved isSaved accounts way leftOut here text length atp frm token number error errorAt commands command out outLong)) (NoX) h1 0 0 3 [some (.ref (α 0)), some (vi k)] [] := by
    intro n9
    induction n9 using Nat.strongRecOn with
    | _ n9 ih =>
      intro h1 now1 k hn9 hM hk he
      refine v_ild1 (pc := 3) dX5_begins_3 ?_
      refine v_sipush (pc := 4) dX5_begins_4 ⟨by decide, by decide⟩ ?_
      refine v_icmp_ge (pc := 7) (tgt := 23) dX5_begins_7 rfl (by omega) (by omega) (fun c7 => ?_) (fun c7 => ?_)
      · refine v_iconst (pc := 23) dX5_begins_23 ?_
        refine v_ist1 (pc := 24) dX5_begins_24 rfl ?_
        exact L25 _ _ _ _ rfl hM (by omega) (fun i => by rw [he i, if_neg (by omega : ¬ (13 ≤ i ∧ i < 13 + 0))]; exact ite_iff (by omega) _ _)
      · refine v_ald0 (pc := 10) dX5_begins_10 ?_
        refine v_getf KX5 1 (pc := 11) dX5_begins_11 (lw_all_tbl q1995) (Or.inl rfl) (Nat.le_of_ble_eq_true rfl) (mw_obj hM) rfl ?_
        refine v_ild1 (pc := 14) dX5_begins_14 ?_
        refine v_iconst (pc := 15) dX5_begins_15 ?_
        refine v_stM_now hM (pc := 16) dX5_begins_16 (by omega) (fun h hM => ?_)
        refine v_iinc1 (pc := 17) dX5_begins_17 rfl ?_
        refine v_goto (pc := 20) (tgt := 3) dX5_begins_20 rfl ?_
        exact ih _ (by omega) _ _ _ rfl hM (by omega) (fun i => if e : i = k then (by rw [e, upi_s, if_pos (by omega)]) else (by rw [upi_n e, he i]; exact ite_iff (by omega) _ _))
  refine v_bipush (pc := 0) dX5_begins_0 ⟨by decide, by decide⟩ ?_
  refine v_ist1 (pc := 2) dX5_begins_2 rfl ?_
  exact L3 _ _ _ _ rfl hM (by omega) (fun i => by rw [if_neg (by omega)])
theorem sp_X5_isLong {Γ : Cx} {t : Nat} {α : Nat → Nat} {h0 h : AH} {thrown : Int} {now : Int → Int} {aside : Int → Int} {tried : Int → Int} {undos : Int → Int} {undoMany : Int} {saved : Int → Int} {isSaved : Int → Int} {accounts : Int → Int} {way : Int} {leftOut : Int} {here : Int → Int} {text : Int → Int} {length : Int} {atp : Int} {frm : Int} {token : Int} {number : Int} {error : Int} {errorAt : Int} {commands : Int} {command : Int → Int} {out : Int → Int} {outLong : Int}  (hM : MW t α h0 h thrown now aside tried undos undoMany saved isSaved accounts way leftOut here text length atp frm token number error errorAt commands command out outLong) (h11 : 0 ≤ now 11 ∧ now 11 ≤ 1000) : Sp Γ yX5_isLong mX5_isLong 1 0 0 [.ref (α 0)] h (Qb (now 11 = 150) h) NoX := by
  refine sp_of okX5_isLong (cat_all rfl) (Nat.le_of_ble_eq_true rfl) rfl ?_
  refine v_ald0 (pc := 0) dX5_isLong_0 ?_
  refine v_getf KX5 1 (pc := 1) dX5_isLong_1 (lw_all_tbl q1995) (Or.inl rfl) (Nat.le_of_ble_eq_true rfl) (mw_obj hM) rfl ?_
  refine v_bipush (pc := 4) dX5_isLong_4 ⟨by decide, by decide⟩ ?_
  refine v_ldM_now hM (pc := 6) dX5_isLong_6 (by omega) ?_
  refine v_sipush (pc := 7) dX5_isLong_7 ⟨by decide, by decide⟩ ?_
  refine v_icmp_ne (pc := 10) (tgt := 17) dX5_isLong_10 rfl (by omega) (by omega) (fun c10 => ?_) (fun c10 => ?_)
  · refine v_iconst (pc := 17) dX5_isLong_17 ?_
    refine v_ret_z0 (pc := 18) dX5_isLong_18 rfl ?_
    exact qb_0 (by omega)
  · refine v_iconst (pc := 13) dX5_isLong_13 ?_
    refine v_goto (pc := 14) (tgt := 18) dX5_isLong_14 rfl ?_
    refine v_ret_z1 (pc := 18) dX5_isLong_18 rfl ?_
    exact qb_1 (by omega)
theorem sp_X5_refuses {Γ : Cx} {t : Nat} {α : Nat → Nat} {h0 h : AH} {thrown : Int} {now : Int → Int} {aside : Int → Int} {tried : Int → Int} {undos : Int → Int} {undoMany : Int} {saved : Int → Int} {isSaved : Int → Int} {accounts : Int → Int} {way : Int} {leftOut : Int} {here : Int → Int} {text : Int → Int} {length : Int} {atp : Int} {frm : Int} {token : Int} {number : Int} {error : Int} {errorAt : Int} {commands : Int} {command : Int → Int} {out : Int → Int} {outLong : Int} {r : Int} (hM : MW t α h0 h thrown now aside tried undos undoMany saved isSaved accounts way leftOut here text length atp frm token number error errorAt commands command out outLong) (hr : 0 ≤ r ∧ r ≤ 7) : Sp Γ yX5_refuses mX5_refuses 1 0 0 [.ref (α 0), vi r] h (Qi (fun x h' => x = r ∧ MW t α h0 h' thrown now aside tried undos undoMany saved isSaved ((upi accounts r (accounts r + 1))) way leftOut here text length atp frm token number error errorAt commands command out outLong)) NoX := by
  refine sp_of okX5_refuses (cat_all rfl) (Nat.le_of_ble_eq_true rfl) rfl ?_
  refine v_ald0 (pc := 0) dX5_refuses_0 ?_
  refine v_getf KX5 8 (pc := 1) dX5_refuses_1 (lw_all_tbl q2002) (Or.inl rfl) (Nat.le_of_ble_eq_true rfl) (mw_obj hM) rfl ?_
  refine v_ild1 (pc := 4) dX5_refuses_4 ?_
  refine v_dup2 (pc := 5) dX5_refuses_5 rfl rfl ?_
  refine v_ldM_accounts hM (pc := 6) dX5_refuses_6 (by omega) ?_
  refine v_iconst (pc := 7) dX5_refuses_7 ?_
  refine v_iadd (pc := 8) dX5_refuses_8 ?_
  refine v_stM_accounts hM (pc := 9) dX5_refuses_9 (by omega) (fun h hM => ?_)
  refine v_ild1 (pc := 10) dX5_refuses_10 ?_
  refine v_ret_n (pc := 11) dX5_refuses_11 rfl ?_
  exact qi_ok ⟨rfl, hM⟩
theorem sp_X5_whyWrite {Γ : Cx} {t : Nat} {α : Nat → Nat} {h0 h : AH} {thrown : Int} {now : Int → Int} {aside : Int → Int} {tried : Int → Int} {undos : Int → Int} {undoMany : Int} {saved : Int → Int} {isSaved : Int → Int} {accounts : Int → Int} {way : Int} {leftOut : Int} {here : Int → Int} {text : Int → Int} {length : Int} {atp : Int} {frm : Int} {token : Int} {number : Int} {error : Int} {errorAt : Int} {commands : Int} {command : Int → Int} {out : Int → Int} {outLong : Int} {c : Int} {ca wr sz o : Int} (hM : MW t α h0 h thrown now aside tried undos undoMany saved isSaved accounts way leftOut here text length atp frm token number error errorAt commands command out outLong) (hR : ROK now c) (hway : 0 ≤ way ∧ way ≤ 6) (hko : way = 6 → ROK aside ca ∧ 0 ≤ o ∧ o < aside 7) (hwr : 0 ≤ wr ∧ wr ≤ 7) (hsz : 1 ≤ sz ∧ sz ≤ 3) (ho : -2147483648 ≤ o ∧ o ≤ 2147483647) : Sp Γ yX5_whyWrite mX5_whyWrite 7 0 0 [.ref (α 0), vi wr, vi sz, vi o] h (Qe (mWhyWrite now aside way wr sz o) h) NoX := by
  refine sp_of okX5_whyWrite (cat_all rfl) (Nat.le_of_ble_eq_true rfl) rfl ?_
  have h6 := hR.s6
  have h2 := hR.s2
  have hc0 := hR.c0
  have hs0 := hR.s0
  have hlr := mLeader_r (w := now) hway
  have hled := mLed_r now aside (mLeader now way) wr sz o
  have hq := tdiv_rng (a := now 6 + mLed now aside (mLeader now way) wr sz o) (b := now 2) (by omega) (by omega)
  have hzr := mZoneFor_r (w := now) (win := (now 6 + mLed now aside (mLeader now way) wr sz o).tdiv (now 2)) (size := sz) (but := -1) (by omega)
  refine v_ald0 (pc := 0) dX5_whyWrite_0 ?_
  refine v_ce0 (pc := 1) (v_runV0 okX5_leader rfl (sp_X5_leader hM (by omega) (by omega)) dX5_whyWrite_1 (lw_all_tbl q2123) (lw_all_tbl q2125) (lw_all_tbl qs55) rfl (mw_obj hM) (Nat.le_of_ble_eq_true rfl) ⟨Nat.zero_le _, Nat.zero_le _⟩ (Nat.le_of_ble_eq_true rfl)) ?_
  refine v_ist4 (pc := 4) dX5_whyWrite_4 rfl ?_
  refine v_ald0 (pc := 6) dX5_whyWrite_6 ?_
  refine v_getf KX5 1 (pc := 7) dX5_whyWrite_7 (lw_all_tbl q1995) (Or.inl rfl) (Nat.le_of_ble_eq_true rfl) (mw_obj hM) rfl ?_
  refine v_bipush (pc := 10) dX5_whyWrite_10 ⟨by decide, by decide⟩ ?_
  refine v_ldM_now hM (pc := 12) dX5_whyWrite_12 (by omega) ?_
  refine v_ald0 (pc := 13) dX5_whyWrite_13 ?_
  refine v_ild4 (pc := 14) dX5_whyWrite_14 ?_
  refine v_ild1 (pc := 16) dX5_whyWrite_16 ?_
  refine v_ild2 (pc := 17) dX5_whyWrite_17 ?_
  refine v_ild3 (pc := 18) dX5_whyWrite_18 ?_
  refine v_ce0 (pc := 19) (v_runV4 okX5_ledBy rfl (sp_X5_ledBy hM (by omega) (fun q => hko (mLeader_6 q)) (by omega) (by omega) (by omega)) dX5_whyWrite_19 (lw_all_tbl q2264) (lw_all_tbl q2266) (lw_all_tbl qs71) rfl (mw_obj hM) (Nat.le_of_ble_eq_true rfl) ⟨Nat.zero_le _, Nat.zero_le _⟩ (Nat.le_of_ble_eq_true rfl)) ?_
  refine v_iadd (pc := 22) dX5_whyWrite_22 ?_
  refine v_ald0 (pc := 23) dX5_whyWrite_23 ?_
  refine v_getf KX5 1 (pc := 24) dX5_whyWrite_24 (lw_all_tbl q1995) (Or.inl rfl) (Nat.le_of_ble_eq_true rfl) (mw_obj hM) rfl ?_
  refine v_iconst (pc := 27) dX5_whyWrite_27 ?_
  refine v_ldM_now hM (pc := 28) dX5_whyWrite_28 (by omega) ?_
  refine v_idiv (pc := 29) dX5_whyWrite_29 (by omega) (by omega) (by omega) ?_
  refine v_ist5 (pc := 30) dX5_whyWrite_30 rfl ?_
  refine v_ald0 (pc := 32) dX5_whyWrite_32 ?_
  refine v_ild5 (pc := 33) dX5_whyWrite_33 ?_
  refine v_ild2 (pc := 35) dX5_whyWrite_35 ?_
  refine v_iconst (pc := 36) dX5_whyWrite_36 ?_
  refine v_ce0 (pc := 37) (v_runV3 okX5_zoneFor rfl (sp_X5_zoneFor hM (by omega) (by omega) (by omega) (by omega)) dX5_whyWrite_37 (lw_all_tbl q2272) (lw_all_tbl q2274) (lw_all_tbl qs73) rfl (mw_obj hM) (Nat.le_of_ble_eq_true rfl) ⟨Nat.zero_le _, Nat.zero_le _⟩ (Nat.le_of_ble_eq_true rfl)) ?_
  refine v_iconst (pc := 40) dX5_whyWrite_40 ?_
  refine v_icmp_ne (pc := 41) (tgt := 48) dX5_whyWrite_41 rfl (by omega) (by omega) (fun c41 => ?_) (fun c41 => ?_)
  · refine v_iconst (pc := 48) dX5_whyWrite_48 ?_
    refine v_ret_n (pc := 49) dX5_whyWrite_49 rfl ?_
    exact qe_ok (by rw [mWhyWrite]; first | rw [if_pos (by omega)] | rw [if_neg (by omega)])
  · refine v_iconst (pc := 44) dX5_whyWrite_44 ?_
    refine v_goto (pc := 45) (tgt := 49) dX5_whyWrite_45 rfl ?_
    refine v_ret_n (pc := 49) dX5_whyWrite_49 rfl ?_
    exact qe_ok (by rw [mWhyWrite]; first | rw [if_pos (by omega)] | rw [if_neg (by omega)])
theorem sp_X5_whyReset {Γ : Cx} {t : Nat} {α : Nat → Nat} {h0 h : AH} {thrown : Int} {now : Int → Int} {aside : Int → Int} {tried : Int → Int} {undos : Int → Int} {undoMany : Int} {saved : Int → Int} {isSaved : Int → Int} {accounts : Int → Int} {way : Int} {leftOut : Int} {here : Int → Int} {text : Int → Int} {length : Int} {atp : Int} {frm : Int} {token : Int} {number : Int} {error : Int} {errorAt : Int} {commands : Int} {command : Int → Int} {out : Int → Int} {outLong : Int} {c : Int} {z : Int} (hM : MW t α h0 h thrown now aside tried undos undoMany saved isSaved accounts way leftOut here text length atp frm token number error errorAt commands command out outLong) (hR : ROK now c) (hz : 0 ≤ z ∧ z ≤ 11) : Sp Γ yX5_whyReset mX5_whyReset 5 0 0 [.ref (α 0), vi z] h (Qe (if now (1706 + 13 * z + 0) = -1 then 3 else if 0 < mLivIn now z (now 7) then 4 else 0) h) NoX := by
  refine sp_of okX5_whyReset (cat_all rfl) (Nat.le_of_ble_eq_true rfl) rfl ?_
  have hzw := hR.zW z hz
  have hc0 := hR.c0
  have h7 := hR.s7
  have hl := mLivIn_r now z (k := now 7) (by omega)
  refine v_ald0 (pc := 0) dX5_whyReset_0 ?_
  refine v_ild1 (pc := 1) dX5_whyReset_1 ?_
  refine v_cb0 (pc := 2) (v_runV1 okX5_isFree rfl (sp_X5_isFree hM (by omega) (by omega)) dX5_whyReset_2 (lw_all_tbl q2115) (lw_all_tbl q2117) (lw_all_tbl qs53) rfl (mw_obj hM) (Nat.le_of_ble_eq_true rfl) ⟨Nat.zero_le _, Nat.zero_le _⟩ (Nat.le_of_ble_eq_true rfl)) (fun c2 => ?_) (fun c2 => ?_)
  · refine v_if_eq1 (pc := 5) (tgt := 12) dX5_whyReset_5 rfl ?_
    refine v_iconst (pc := 8) dX5_whyReset_8 ?_
    refine v_goto (pc := 9) (tgt := 25) dX5_whyReset_9 rfl ?_
    refine v_ret_n (pc := 25) dX5_whyReset_25 rfl ?_
    exact qe_ok (by first | rw [if_pos (by omega)] | (rw [if_neg (by omega), if_pos (by omega)]) | rw [if_neg (by omega), if_neg (by omega)])
  · refine v_if_eq0 (pc := 5) (tgt := 12) dX5_whyReset_5 rfl ?_
    refine v_ald0 (pc := 12) dX5_whyReset_12 ?_
    refine v_ild1 (pc := 13) dX5_whyReset_13 ?_
    refine v_ce0 (pc := 14) (v_runV1 okX5_livingIn rfl (sp_X5_livingIn hM (by omega) (by omega)) dX5_whyReset_14 (lw_all_tbl q2143) (lw_all_tbl q2145) (lw_all_tbl qs59) rfl (mw_obj hM) (Nat.le_of_ble_eq_true rfl) ⟨Nat.zero_le _, Nat.zero_le _⟩ (Nat.le_of_ble_eq_true rfl)) ?_
    refine v_if_le (pc := 17) (tgt := 24) dX5_whyReset_17 rfl (by omega) (fun c17 => ?_) (fun c17 => ?_)
    · refine v_iconst (pc := 24) dX5_whyReset_24 ?_
      refine v_ret_n (pc := 25) dX5_whyReset_25 rfl ?_
      exact qe_ok (by first | rw [if_pos (by omega)] | (rw [if_neg (by omega), if_pos (by omega)]) | rw [if_neg (by omega), if_neg (by omega)])
    · refine v_iconst (pc := 20) dX5_whyReset_20 ?_
      refine v_goto (pc := 21) (tgt := 25) dX5_whyReset_21 rfl ?_
      refine v_ret_n (pc := 25) dX5_whyReset_25 rfl ?_
      exact qe_ok (by first | rw [if_pos (by omega)] | (rw [if_neg (by omega), if_pos (by omega)]) | rw [if_neg (by omega), if_neg (by omega)])
theorem sp_X5_writes {Γ : Cx} {t : Nat} {α : Nat → Nat} {h0 h : AH} {thrown : Int} {now : Int → Int} {aside : Int → Int} {tried : Int → Int} {undos : Int → Int} {undoMany : Int} {saved : Int → Int} {isSaved : Int → Int} {accounts : Int → Int} {way : Int} {leftOut : Int} {here : Int → Int} {text : Int → Int} {length : Int} {atp : Int} {frm : Int} {token : Int} {number : Int} {error : Int} {errorAt : Int} {commands : Int} {command : Int → Int} {out : Int → Int} {outLong : Int} {c : Int} {ca wr sz fa o : Int} (hM : MW t α h0 h thrown now aside tried undos undoMany saved isSaved accounts way leftOut here text length atp frm token number error errorAt commands command out outLong) (hR : ROK now c) (hway : 0 ≤ way ∧ way ≤ 6) (hko : way = 6 → ROK aside ca ∧ 0 ≤ o ∧ o < aside 7) (hwr : 0 ≤ wr ∧ wr ≤ 7) (hsz : 1 ≤ sz ∧ sz ≤ 3) (hfa : 0 ≤ fa ∧ fa ≤ 99) (ho : 0 ≤ o ∧ o ≤ 98) (h98 : now 7 ≤ 98) (hwhy : mWhyWrite now aside way wr sz o = 0) : Sp Γ yX5_writes mX5_writes 7 0 0 [.ref (α 0), vi wr, vi sz, vi fa, vi o] h (Qv (fun h' => MW t α h0 h' thrown ((mWrites now aside way wr sz fa o)) aside tried undos undoMany saved isSaved accounts way leftOut here text length atp frm token number error errorAt commands command out outLong)) NoX := by
  refine sp_of okX5_writes (cat_all rfl) (Nat.le_of_ble_eq_true rfl) rfl ?_
  have h7 := hR.s7
  have h6 := hR.s6
  have h2 := hR.s2
  have hc0 := hR.c0
  have hs0 := hR.s0
  have hlr := mLeader_r (w := now) hway
  have hled := mLed_r now aside (mLeader now way) wr sz o
  have L37 : ∀ (n9 : Nat) (h1 : AH) (now1 : Int → Int) (g : Int), (5 - g).toNat = n9 → (MW t α h0 h1 thrown now1 aside tried undos undoMany saved isSaved accounts way leftOut here text length atp frm token number error errorAt commands command out outLong) → (0 ≤ g ∧ g ≤ 5) → (mTold now (now 7) wr sz g = now1) → V Γ mX5_writes 7 0 0 (Qv (fun h' => MW t α h0 h' thrown ((mWrites now aside way wr sz fa o)) aside tried undos undoMany saved isSaved accounts way leftOut here text length atp frm token number error errorAt commands command out outLong)) (NoX) h1 0 0 37 [some (.ref (α 0)), some (vi wr), some (vi sz), some (vi fa), some (vi o), some (vi (now 7)), some (vi (23 + 17 * now 7)), some (vi (mLeader now way)), some (vi (mLed now aside (mLeader now way) wr sz o)), some (vi g)] [] := by
    intro n9
    induction n9 using Nat.strongRecOn with
    | _ n9 ih =>
      intro h1 now1 g hn9 hM hg he
      have hR1 := mTold_ok (wr := wr) (sz := sz) (k := g) hR (u := now 7) ⟨rfl, h98⟩ (by omega)
      rw [he] at hR1
      refine v_ild9 (pc := 37) dX5_writes_37 ?_
      refine v_iconst (pc := 39) dX5_writes_39 ?_
      refine v_icmp_ge (pc := 40) (tgt := 70) dX5_writes_40 rfl (by omega) (by omega) (fun c40 => ?_) (fun c40 => ?_)
      · have e5 : mTold now (now 7) wr sz 5 = now1 := by rw [← he, show g = 5 by omega]
        refine v_ald0 (pc := 70) dX5_writes_70 ?_
        refine v_getf KX5 1 (pc := 71) dX5_writes_71 (lw_all_tbl q1995) (Or.inl rfl) (Nat.le_of_ble_eq_true rfl) (mw_obj hM) rfl ?_
        refine v_ild6 (pc := 74) dX5_writes_74 ?_
        refine v_iconst (pc := 76) dX5_writes_76 ?_
        refine v_iadd (pc := 77) dX5_writes_77 ?_
        refine v_ild1 (pc := 78) dX5_writes_78 ?_
        refine v_stM_now hM (pc := 79) dX5_writes_79 (by omega) (fun h hM => ?_)
        refine v_ald0 (pc := 80) dX5_writes_80 ?_
        refine v_getf KX5 1 (pc := 81) dX5_writes_81 (lw_all_tbl q1995) (Or.inl rfl) (Nat.le_of_ble_eq_true rfl) (mw_obj hM) rfl ?_
        refine v_ild6 (pc := 84) dX5_writes_84 ?_
        refine v_iconst (pc := 86) dX5_writes_86 ?_
        refine v_iadd (pc := 87) dX5_writes_87 ?_
        refine v_ild2 (pc := 88) dX5_writes_88 ?_
        refine v_stM_now hM (pc := 89) dX5_writes_89 (by omega) (fun h hM => ?_)
        refine v_ald0 (pc := 90) dX5_writes_90 ?_
        refine v_getf KX5 1 (pc := 91) dX5_writes_91 (lw_all_tbl q1995) (Or.inl rfl) (Nat.le_of_ble_eq_true rfl) (mw_obj hM) rfl ?_
        refine v_ild6 (pc := 94) dX5_writes_94 ?_
        refine v_iconst (pc := 96) dX5_writes_96 ?_
        refine v_iadd (pc := 97) dX5_writes_97 ?_
        refine v_ild3 (pc := 98) dX5_writes_98 ?_
        refine v_stM_now hM (pc := 99) dX5_writes_99 (by omega) (fun h hM => ?_)
        refine v_ald0 (pc := 100) dX5_writes_100 ?_
        refine v_getf KX5 1 (pc := 101) dX5_writes_101 (lw_all_tbl q1995) (Or.inl rfl) (Nat.le_of_ble_eq_true rfl) (mw_obj hM) rfl ?_
        refine v_ild6 (pc := 104) dX5_writes_104 ?_
        refine v_iconst (pc := 106) dX5_writes_106 ?_
        refine v_iadd (pc := 107) dX5_writes_107 ?_
        refine v_ald0 (pc := 108) dX5_writes_108 ?_
        refine v_getf KX5 1 (pc := 109) dX5_writes_109 (lw_all_tbl q1995) (Or.inl rfl) (Nat.le_of_ble_eq_true rfl) (mw_obj hM) rfl ?_
        refine v_bipush (pc := 112) dX5_writes_112 ⟨by decide, by decide⟩ ?_
        refine v_ldM_now hM (pc := 114) dX5_writes_114 (by omega) ?_
        refine v_stM_now hM (pc := 115) dX5_writes_115 (by omega) (fun h hM => ?_)
        refine v_ald0 (pc := 116) dX5_writes_116 ?_
        refine v_getf KX5 1 (pc := 117) dX5_writes_117 (lw_all_tbl q1995) (Or.inl rfl) (Nat.le_of_ble_eq_true rfl) (mw_obj hM) rfl ?_
        refine v_ild6 (pc := 120) dX5_writes_120 ?_
        refine v_iconst (pc := 122) dX5_writes_122 ?_
        refine v_iadd (pc := 123) dX5_writes_123 ?_
        refine v_iconst (pc := 124) dX5_writes_124 ?_
        refine v_stM_now hM (pc := 125) dX5_writes_125 (by omega) (fun h hM => ?_)
        refine v_ald0 (pc := 126) dX5_writes_126 ?_
        refine v_getf KX5 1 (pc := 127) dX5_writes_127 (lw_all_tbl q1995) (Or.inl rfl) (Nat.le_of_ble_eq_true rfl) (mw_obj hM) rfl ?_
        refine v_ild6 (pc := 130) dX5_writes_130 ?_
        refine v_bipush (pc := 132) dX5_writes_132 ⟨by decide, by decide⟩ ?_
        refine v_iadd (pc := 134) dX5_writes_134 ?_
        refine v_ald0 (pc := 135) dX5_writes_135 ?_
        refine v_getf KX5 1 (pc := 136) dX5_writes_136 (lw_all_tbl q1995) (Or.inl rfl) (Nat.le_of_ble_eq_true rfl) (mw_obj hM) rfl ?_
        refine v_bipush (pc := 139) dX5_writes_139 ⟨by decide, by decide⟩ ?_
        refine v_ldM_now hM (pc := 141) dX5_writes_141 (by omega) ?_
        refine v_ild8 (pc := 142) dX5_writes_142 ?_
        refine v_iadd (pc := 144) dX5_writes_144 ?_
        refine v_stM_now hM (pc := 145) dX5_writes_145 (by omega) (fun h hM => ?_)
        refine v_ald0 (pc := 146) dX5_writes_146 ?_
        refine v_getf KX5 1 (pc := 147) dX5_writes_147 (lw_all_tbl q1995) (Or.inl rfl) (Nat.le_of_ble_eq_true rfl) (mw_obj hM) rfl ?_
        refine v_ild6 (pc := 150) dX5_writes_150 ?_
        refine v_bipush (pc := 152) dX5_writes_152 ⟨by decide, by decide⟩ ?_
        refine v_iadd (pc := 154) dX5_writes_154 ?_
        refine v_ild7 (pc := 155) dX5_writes_155 ?_
        refine v_stM_now hM (pc := 157) dX5_writes_157 (by omega) (fun h hM => ?_)
        refine v_ald0 (pc := 158) dX5_writes_158 ?_
        refine v_getf KX5 1 (pc := 159) dX5_writes_159 (lw_all_tbl q1995) (Or.inl rfl) (Nat.le_of_ble_eq_true rfl) (mw_obj hM) rfl ?_
        refine v_ild6 (pc := 162) dX5_writes_162 ?_
        refine v_bipush (pc := 164) dX5_writes_164 ⟨by decide, by decide⟩ ?_
        refine v_iadd (pc := 166) dX5_writes_166 ?_
        refine v_iconst (pc := 167) dX5_writes_167 ?_
        refine v_stM_now hM (pc := 168) dX5_writes_168 (by omega) (fun h hM => ?_)
        refine v_ald0 (pc := 169) dX5_writes_169 ?_
        refine v_getf KX5 1 (pc := 170) dX5_writes_170 (lw_all_tbl q1995) (Or.inl rfl) (Nat.le_of_ble_eq_true rfl) (mw_obj hM) rfl ?_
        refine v_ild6 (pc := 173) dX5_writes_173 ?_
        refine v_bipush (pc := 175) dX5_writes_175 ⟨by decide, by decide⟩ ?_
        refine v_iadd (pc := 177) dX5_writes_177 ?_
        refine v_iconst (pc := 178) dX5_writes_178 ?_
        refine v_stM_now hM (pc := 179) dX5_writes_179 (by omega) (fun h hM => ?_)
        refine v_ald0 (pc := 180) dX5_writes_180 ?_
        refine v_getf KX5 1 (pc := 181) dX5_writes_181 (lw_all_tbl q1995) (Or.inl rfl) (Nat.le_of_ble_eq_true rfl) (mw_obj hM) rfl ?_
        refine v_ild6 (pc := 184) dX5_writes_184 ?_
        refine v_bipush (pc := 186) dX5_writes_186 ⟨by decide, by decide⟩ ?_
        refine v_iadd (pc := 188) dX5_writes_188 ?_
        refine v_iconst (pc := 189) dX5_writes_189 ?_
        refine v_stM_now hM (pc := 190) dX5_writes_190 (by omega) (fun h hM => ?_)
        refine v_ald0 (pc := 191) dX5_writes_191 ?_
        refine v_getf KX5 1 (pc := 192) dX5_writes_192 (lw_all_tbl q1995) (Or.inl rfl) (Nat.le_of_ble_eq_true rfl) (mw_obj hM) rfl ?_
        refine v_ild6 (pc := 195) dX5_writes_195 ?_
        refine v_bipush (pc := 197) dX5_writes_197 ⟨by decide, by decide⟩ ?_
        refine v_iadd (pc := 199) dX5_writes_199 ?_
        refine v_ild4 (pc := 200) dX5_writes_200 ?_
        refine v_stM_now hM (pc := 202) dX5_writes_202 (by omega) (fun h hM => ?_)
        refine v_ald0 (pc := 203) dX5_writes_203 ?_
        refine v_getf KX5 1 (pc := 204) dX5_writes_204 (lw_all_tbl q1995) (Or.inl rfl) (Nat.le_of_ble_eq_true rfl) (mw_obj hM) rfl ?_
        refine v_bipush (pc := 207) dX5_writes_207 ⟨by decide, by decide⟩ ?_
        refine v_dup2 (pc := 209) dX5_writes_209 rfl rfl ?_
        refine v_ldM_now hM (pc := 210) dX5_writes_210 (by omega) ?_
        refine v_iconst (pc := 211) dX5_writes_211 ?_
        refine v_iadd (pc := 212) dX5_writes_212 ?_
        refine v_stM_now hM (pc := 213) dX5_writes_213 (by omega) (fun h hM => ?_)
        obtain ⟨b, hb⟩ : ∃ b, b = mNew now1 (now 7) wr sz fa (mLed now aside (mLeader now way) wr sz o) (mLeader now way) o := ⟨_, rfl⟩
        replace hM : MW t α h0 h thrown b aside tried undos undoMany saved isSaved accounts way leftOut here text length atp frm token number error errorAt commands command out outLong := by rw [hb]; exact hM
        have htr := (mTold_inv (w := now) (u := now 7) (wr := wr) (sz := sz) 5 (by omega) (by omega)).2
        rw [e5] at htr
        have hR2 : ROK b c := by rw [hb]; exact mNew_ok hR1 ⟨by rw [← he]; exact (mTold_inv (w := now) (u := now 7) (wr := wr) (sz := sz) g (by omega) (by omega)).1 7 (by omega), h98⟩ hwr hsz hfa hled hlr ho (fun g hg => htr g (by omega))
        have hg6 : b (23 + 17 * now 7 + 6) = now1 6 + mLed now aside (mLeader now way) wr sz o := by rw [hb]; exact (mNew_v (by omega)).2.2.2.2.2.2.2.1
        have h61 := hR1.s6
        have hb2 := hR2.s2
        have hb0 := hR2.s0
        have hb1 := hR2.s1
        have hq := tdiv_rng (a := b (23 + 17 * now 7 + 6)) (b := b 2) (by omega) (by omega)
        have hne : mZoneFor b ((b (23 + 17 * now 7 + 6)).tdiv (b 2)) sz (-1) ≠ -1 := by rw [hb, ← e5]; exact mWrites_ne hR hway h98 hwhy
        obtain ⟨hel1, hel2⟩ := mZoneFor_el (by omega) hne
        have hzw := hR2.zW _ (show 0 ≤ mZoneFor b ((b (23 + 17 * now 7 + 6)).tdiv (b 2)) sz (-1) ∧ mZoneFor b ((b (23 + 17 * now 7 + 6)).tdiv (b 2)) sz (-1) ≤ 11 by omega)
        have hzm := hR2.zM _ (show 0 ≤ mZoneFor b ((b (23 + 17 * now 7 + 6)).tdiv (b 2)) sz (-1) ∧ mZoneFor b ((b (23 + 17 * now 7 + 6)).tdiv (b 2)) sz (-1) ≤ 11 by omega)
        refine v_ald0 (pc := 214) dX5_writes_214 ?_
        refine v_getf KX5 1 (pc := 215) dX5_writes_215 (lw_all_tbl q1995) (Or.inl rfl) (Nat.le_of_ble_eq_true rfl) (mw_obj hM) rfl ?_
        refine v_ild6 (pc := 218) dX5_writes_218 ?_
        refine v_bipush (pc := 220) dX5_writes_220 ⟨by decide, by decide⟩ ?_
        refine v_iadd (pc := 222) dX5_writes_222 ?_
        refine v_ldM_now hM (pc := 223) dX5_writes_223 (by omega) ?_
        refine v_ald0 (pc := 224) dX5_writes_224 ?_
        refine v_getf KX5 1 (pc := 225) dX5_writes_225 (lw_all_tbl q1995) (Or.inl rfl) (Nat.le_of_ble_eq_true rfl) (mw_obj hM) rfl ?_
        refine v_iconst (pc := 228) dX5_writes_228 ?_
        refine v_ldM_now hM (pc := 229) dX5_writes_229 (by omega) ?_
        refine v_idiv (pc := 230) dX5_writes_230 (by omega) (by omega) (by omega) ?_
        refine v_ist9 (pc := 231) dX5_writes_231 rfl ?_
        refine v_ald0 (pc := 233) dX5_writes_233 ?_
        refine v_ild5 (pc := 234) dX5_writes_234 ?_
        refine v_ald0 (pc := 236) dX5_writes_236 ?_
        refine v_ild9 (pc := 237) dX5_writes_237 ?_
        refine v_ild2 (pc := 239) dX5_writes_239 ?_
        refine v_iconst (pc := 240) dX5_writes_240 ?_
        refine v_ce0 (pc := 241) (v_runV3 okX5_zoneFor rfl (sp_X5_zoneFor hM hR2 (by omega) (by omega) (by omega)) dX5_writes_241 (lw_all_tbl q2272) (lw_all_tbl q2274) (lw_all_tbl qs73) rfl (mw_obj hM) (Nat.le_of_ble_eq_true rfl) ⟨Nat.zero_le _, Nat.zero_le _⟩ (Nat.le_of_ble_eq_true rfl)) ?_
        refine v_ild9 (pc := 244) dX5_writes_244 ?_
        refine v_cv0 (pc := 246) (v_runV3 okX5_puts rfl (sp_X5_puts hM (by omega) (by omega) (by omega) (by omega)) dX5_writes_246 (lw_all_tbl q2288) (lw_all_tbl q2290) (lw_all_tbl qs77) rfl (mw_obj hM) (Nat.le_of_ble_eq_true rfl) ⟨Nat.zero_le _, Nat.zero_le _⟩ (Nat.le_of_ble_eq_true rfl)) (fun h hM => ?_)
        refine v_ret_v (pc := 249) dX5_writes_249 rfl ?_
        exact qv_ok (by dsimp only [mWrites]; rw [e5, ← hb]; exact hM)
      · refine v_ald0 (pc := 43) dX5_writes_43 ?_
        refine v_getf KX5 1 (pc := 44) dX5_writes_44 (lw_all_tbl q1995) (Or.inl rfl) (Nat.le_of_ble_eq_true rfl) (mw_obj hM) rfl ?_
        refine v_ild6 (pc := 47) dX5_writes_47 ?_
        refine v_bipush (pc := 49) dX5_writes_49 ⟨by decide, by decide⟩ ?_
        refine v_iadd (pc := 51) dX5_writes_51 ?_
        refine v_ild9 (pc := 52) dX5_writes_52 ?_
        refine v_iadd (pc := 54) dX5_writes_54 ?_
        refine v_ald0 (pc := 55) dX5_writes_55 ?_
        refine v_ild9 (pc := 56) dX5_writes_56 ?_
        refine v_ild1 (pc := 58) dX5_writes_58 ?_
        refine v_ild2 (pc := 59) dX5_writes_59 ?_
        refine v_ce0 (pc := 60) (v_runV3 okX5_tells rfl (sp_X5_tells hM hR1 (by omega) (by omega) (by omega)) dX5_writes_60 (lw_all_tbl q2177) (lw_all_tbl q2179) (lw_all_tbl qs63) rfl (mw_obj hM) (Nat.le_of_ble_eq_true rfl) ⟨Nat.zero_le _, Nat.zero_le _⟩ (Nat.le_of_ble_eq_true rfl)) ?_
        refine v_stM_now hM (pc := 63) dX5_writes_63 (by omega) (fun h hM => ?_)
        refine v_iinc9 (pc := 64) dX5_writes_64 rfl ?_
        refine v_goto (pc := 67) (tgt := 37) dX5_writes_67 rfl ?_
        exact ih _ (by omega) _ _ _ rfl hM (by omega) (by rw [mTold_s hg.1, he])
  refine v_ald0 (pc := 0) dX5_writes_0 ?_
  refine v_getf KX5 1 (pc := 1) dX5_writes_1 (lw_all_tbl q1995) (Or.inl rfl) (Nat.le_of_ble_eq_true rfl) (mw_obj hM) rfl ?_
  refine v_bipush (pc := 4) dX5_writes_4 ⟨by decide, by decide⟩ ?_
  refine v_ldM_now hM (pc := 6) dX5_writes_6 (by omega) ?_
  refine v_ist5 (pc := 7) dX5_writes_7 rfl ?_
  refine v_ild5 (pc := 9) dX5_writes_9 ?_
  refine v_ce0 (pc := 11) (v_runS1 okX5_unitAt rfl (sp_X5_unitAt) dX5_writes_11 (lw_all_tbl q2108) (lw_all_tbl q2109) (Nat.le_of_ble_eq_true rfl) ⟨Nat.zero_le _, Nat.zero_le _⟩ (Nat.le_of_ble_eq_true rfl)) ?_
  refine v_ist6 (pc := 14) dX5_writes_14 rfl ?_
  refine v_ald0 (pc := 16) dX5_writes_16 ?_
  refine v_ce0 (pc := 17) (v_runV0 okX5_leader rfl (sp_X5_leader hM (by omega) (by omega)) dX5_writes_17 (lw_all_tbl q2123) (lw_all_tbl q2125) (lw_all_tbl qs55) rfl (mw_obj hM) (Nat.le_of_ble_eq_true rfl) ⟨Nat.zero_le _, Nat.zero_le _⟩ (Nat.le_of_ble_eq_true rfl)) ?_
  refine v_ist7 (pc := 20) dX5_writes_20 rfl ?_
  refine v_ald0 (pc := 22) dX5_writes_22 ?_
  refine v_ild7 (pc := 23) dX5_writes_23 ?_
  refine v_ild1 (pc := 25) dX5_writes_25 ?_
  refine v_ild2 (pc := 26) dX5_writes_26 ?_
  refine v_ild4 (pc := 27) dX5_writes_27 ?_
  refine v_ce0 (pc := 29) (v_runV4 okX5_ledBy rfl (sp_X5_ledBy hM (by omega) (fun q => hko (mLeader_6 q)) (by omega) (by omega) (by omega)) dX5_writes_29 (lw_all_tbl q2264) (lw_all_tbl q2266) (lw_all_tbl qs71) rfl (mw_obj hM) (Nat.le_of_ble_eq_true rfl) ⟨Nat.zero_le _, Nat.zero_le _⟩ (Nat.le_of_ble_eq_true rfl)) ?_
  refine v_ist8 (pc := 32) dX5_writes_32 rfl ?_
  refine v_iconst (pc := 34) dX5_writes_34 ?_
  refine v_ist9 (pc := 35) dX5_writes_35 rfl ?_
  exact L37 _ _ _ _ rfl hM (by omega) rfl
