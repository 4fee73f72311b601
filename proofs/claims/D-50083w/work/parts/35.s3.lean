/-! THE STORE: deaths (printed by gen) -/
set_option maxRecDepth 100000
theorem sp_X3_learns {Γ : Cx} {t : Nat} {α : Int → Nat} {h0 h : AH} {w x : Int → Int} {u : Int} (hS : SX Γ t α h0 h w x) (hu : 0 ≤ u ∧ u < w 7) (h7 : w 7 ≤ 99) (hwr : 0 ≤ w (23 + 17 * u + 0) ∧ w (23 + 17 * u + 0) ≤ 7) (hsz : 1 ≤ w (23 + 17 * u + 1) ∧ w (23 + 17 * u + 1) ≤ 3) (hl : -1 ≤ w (23 + 17 * u + 9) ∧ w (23 + 17 * u + 9) ≤ 14000000) (hxm : -1 ≤ x (20 + w (23 + 17 * u + 0)) ∧ x (20 + w (23 + 17 * u + 0)) ≤ 1400000000) : Sp Γ yX3_learns mX3_learns 2 0 0 [.ref (α 0), .ref (α (100 + u))] h (Qv (fun h9 => SX Γ t α h0 h9 (upi w 12 (w 12 + 1)) (xLearn w x u))) NoX := by
  refine sp_of okX3_learns (cat_all rfl) (Nat.le_of_ble_eq_true rfl) rfl ?_
  refine v_ald1 (pc := 0) dX3_learns_0 ?_
  refine v_getfN KX9 1 (pc := 1) dX3_learns_1 q880 (Or.inl rfl) (Nat.le_of_ble_eq_true rfl) (sx_unit hS (u := u) ⟨(by first | omega | (simp (disch := omega) only [upi_n]; omega)), (by first | omega | (simp (disch := omega) only [upi_n]; omega))⟩) rfl ?_
  refine v_ist2 (pc := 4) dX3_learns_4 rfl ?_
  refine v_ald1 (pc := 5) dX3_learns_5 ?_
  refine v_getfN KX9 2 (pc := 6) dX3_learns_6 q883 (Or.inl rfl) (Nat.le_of_ble_eq_true rfl) (sx_unit hS (u := u) ⟨(by first | omega | (simp (disch := omega) only [upi_n]; omega)), (by first | omega | (simp (disch := omega) only [upi_n]; omega))⟩) rfl ?_
  refine v_ist3 (pc := 9) dX3_learns_9 rfl ?_
  refine v_ald0 (pc := 10) dX3_learns_10 ?_
  refine v_getf KX3 13 (pc := 11) dX3_learns_11 (lw_all_tbl q623) (Or.inl rfl) (Nat.le_of_ble_eq_true rfl) (sx_obj hS) rfl ?_
  refine v_ild2 (pc := 14) dX3_learns_14 ?_
  refine v_dup2 (pc := 15) dX3_learns_15 rfl rfl ?_
  refine v_ldS_writerMany hS (pc := 16) dX3_learns_16 ⟨(by first | omega | (simp (disch := omega) only [upi_n]; omega)), (by first | omega | (simp (disch := omega) only [upi_n]; omega))⟩ ?_
  refine v_iconst (pc := 17) dX3_learns_17 ?_
  refine v_iadd (pc := 18) dX3_learns_18 ?_
  refine v_stS_writerMany hS (pc := 19) dX3_learns_19 ⟨(by first | omega | (simp (disch := omega) only [upi_n]; omega)), (by first | omega | (simp (disch := omega) only [upi_n]; omega))⟩ (fun h hS => ?_)
  refine v_ald0 (pc := 20) dX3_learns_20 ?_
  refine v_getf KX3 14 (pc := 21) dX3_learns_21 (lw_all_tbl q624) (Or.inl rfl) (Nat.le_of_ble_eq_true rfl) (sx_obj hS) rfl ?_
  refine v_ild2 (pc := 24) dX3_learns_24 ?_
  refine v_dup2 (pc := 25) dX3_learns_25 rfl rfl ?_
  refine v_ldS_writerSum hS (pc := 26) dX3_learns_26 ⟨(by first | omega | (simp (disch := omega) only [upi_n]; omega)), (by first | omega | (simp (disch := omega) only [upi_n]; omega))⟩ ?_
  refine v_ald1 (pc := 27) dX3_learns_27 ?_
  refine v_getfN KX9 10 (pc := 28) dX3_learns_28 q906 (Or.inl rfl) (Nat.le_of_ble_eq_true rfl) (sx_unit hS (u := u) ⟨(by first | omega | (simp (disch := omega) only [upi_n]; omega)), (by first | omega | (simp (disch := omega) only [upi_n]; omega))⟩) rfl ?_
  refine v_iadd (pc := 31) dX3_learns_31 ?_
  refine v_stS_writerSum hS (pc := 32) dX3_learns_32 ⟨(by first | omega | (simp (disch := omega) only [upi_n]; omega)), (by first | omega | (simp (disch := omega) only [upi_n]; omega))⟩ (fun h hS => ?_)
  refine v_ald0 (pc := 33) dX3_learns_33 ?_
  refine v_getf KX3 15 (pc := 34) dX3_learns_34 (lw_all_tbl q625) (Or.inl rfl) (Nat.le_of_ble_eq_true rfl) (sx_obj hS) rfl ?_
  refine v_ild2 (pc := 37) dX3_learns_37 ?_
  refine v_ald0 (pc := 38) dX3_learns_38 ?_
  refine v_getf KX3 15 (pc := 39) dX3_learns_39 (lw_all_tbl q625) (Or.inl rfl) (Nat.le_of_ble_eq_true rfl) (sx_obj hS) rfl ?_
  refine v_ild2 (pc := 42) dX3_learns_42 ?_
  refine v_ldS_writerMost hS (pc := 43) dX3_learns_43 ⟨(by first | omega | (simp (disch := omega) only [upi_n]; omega)), (by first | omega | (simp (disch := omega) only [upi_n]; omega))⟩ ?_
  refine v_ald1 (pc := 44) dX3_learns_44 ?_
  refine v_getfN KX9 10 (pc := 45) dX3_learns_45 q906 (Or.inl rfl) (Nat.le_of_ble_eq_true rfl) (sx_unit hS (u := u) ⟨(by first | omega | (simp (disch := omega) only [upi_n]; omega)), (by first | omega | (simp (disch := omega) only [upi_n]; omega))⟩) rfl ?_
  simp (disch := omega) only [upi_n]
  refine v_mmax (pc := 48) dX3_learns_48 (lw_all_tbl q856) (lw_all_tbl q361) (lw_all_tbl q129) (lw_all_tbl q362) (Nat.le_of_ble_eq_true rfl) (Nat.le_of_ble_eq_true rfl) (by omega) (by omega) ?_
  refine v_stS_writerMost hS (pc := 51) dX3_learns_51 ⟨(by first | omega | (simp (disch := omega) only [upi_n]; omega)), (by first | omega | (simp (disch := omega) only [upi_n]; omega))⟩ (fun h hS => ?_)
  refine v_ald0 (pc := 52) dX3_learns_52 ?_
  refine v_getf KX3 16 (pc := 53) dX3_learns_53 (lw_all_tbl q626) (Or.inl rfl) (Nat.le_of_ble_eq_true rfl) (sx_obj hS) rfl ?_
  refine v_ild3 (pc := 56) dX3_learns_56 ?_
  refine v_dup2 (pc := 57) dX3_learns_57 rfl rfl ?_
  refine v_ldS_sizeMany hS (pc := 58) dX3_learns_58 ⟨(by first | omega | (simp (disch := omega) only [upi_n]; omega)), (by first | omega | (simp (disch := omega) only [upi_n]; omega))⟩ ?_
  refine v_iconst (pc := 59) dX3_learns_59 ?_
  refine v_iadd (pc := 60) dX3_learns_60 ?_
  refine v_stS_sizeMany hS (pc := 61) dX3_learns_61 ⟨(by first | omega | (simp (disch := omega) only [upi_n]; omega)), (by first | omega | (simp (disch := omega) only [upi_n]; omega))⟩ (fun h hS => ?_)
  refine v_ald0 (pc := 62) dX3_learns_62 ?_
  refine v_getf KX3 17 (pc := 63) dX3_learns_63 (lw_all_tbl q627) (Or.inl rfl) (Nat.le_of_ble_eq_true rfl) (sx_obj hS) rfl ?_
  refine v_ild3 (pc := 66) dX3_learns_66 ?_
  refine v_dup2 (pc := 67) dX3_learns_67 rfl rfl ?_
  refine v_ldS_sizeSum hS (pc := 68) dX3_learns_68 ⟨(by first | omega | (simp (disch := omega) only [upi_n]; omega)), (by first | omega | (simp (disch := omega) only [upi_n]; omega))⟩ ?_
  refine v_ald1 (pc := 69) dX3_learns_69 ?_
  refine v_getfN KX9 10 (pc := 70) dX3_learns_70 q906 (Or.inl rfl) (Nat.le_of_ble_eq_true rfl) (sx_unit hS (u := u) ⟨(by first | omega | (simp (disch := omega) only [upi_n]; omega)), (by first | omega | (simp (disch := omega) only [upi_n]; omega))⟩) rfl ?_
  refine v_iadd (pc := 73) dX3_learns_73 ?_
  refine v_stS_sizeSum hS (pc := 74) dX3_learns_74 ⟨(by first | omega | (simp (disch := omega) only [upi_n]; omega)), (by first | omega | (simp (disch := omega) only [upi_n]; omega))⟩ (fun h hS => ?_)
  refine v_ald0 (pc := 75) dX3_learns_75 ?_
  refine v_getf KX3 18 (pc := 76) dX3_learns_76 (lw_all_tbl q628) (Or.inl rfl) (Nat.le_of_ble_eq_true rfl) (sx_obj hS) rfl ?_
  refine v_ild2 (pc := 79) dX3_learns_79 ?_
  refine v_ild3 (pc := 80) dX3_learns_80 ?_
  refine v_ce0 (pc := 81) (v_runS2 okX3_both rfl (sp_X3_both) dX3_learns_81 (lw_all_tbl q234) (lw_all_tbl q235) (Nat.le_of_ble_eq_true rfl) ⟨Nat.zero_le _, Nat.zero_le _⟩ (Nat.le_of_ble_eq_true rfl)) ?_
  refine v_ald1 (pc := 84) dX3_learns_84 ?_
  refine v_getfN KX9 10 (pc := 85) dX3_learns_85 q906 (Or.inl rfl) (Nat.le_of_ble_eq_true rfl) (sx_unit hS (u := u) ⟨(by first | omega | (simp (disch := omega) only [upi_n]; omega)), (by first | omega | (simp (disch := omega) only [upi_n]; omega))⟩) rfl ?_
  refine v_stS_latest hS (pc := 88) dX3_learns_88 ⟨(by first | omega | (simp (disch := omega) only [upi_n]; omega)), (by first | omega | (simp (disch := omega) only [upi_n]; omega))⟩ (fun h hS => ?_)
  refine v_ald0 (pc := 89) dX3_learns_89 ?_
  refine v_dup (pc := 90) dX3_learns_90 rfl ?_
  refine v_getf KX3 7 (pc := 91) dX3_learns_91 (lw_all_tbl q610) (Or.inl rfl) (Nat.le_of_ble_eq_true rfl) (sx_obj hS) rfl ?_
  refine v_iconst (pc := 94) dX3_learns_94 ?_
  refine v_iadd (pc := 95) dX3_learns_95 ?_
  refine v_ptS_deaths hS (pc := 96) dX3_learns_96 (lw_all_tbl q610) (fun h hS => ?_)
  refine v_ald0 (pc := 99) dX3_learns_99 ?_
  refine v_dup (pc := 100) dX3_learns_100 rfl ?_
  refine v_getf KX3 8 (pc := 101) dX3_learns_101 (lw_all_tbl q612) (Or.inl rfl) (Nat.le_of_ble_eq_true rfl) (sx_obj hS) rfl ?_
  refine v_ald1 (pc := 104) dX3_learns_104 ?_
  refine v_getfN KX9 10 (pc := 105) dX3_learns_105 q906 (Or.inl rfl) (Nat.le_of_ble_eq_true rfl) (sx_unit hS (u := u) ⟨(by first | omega | (simp (disch := omega) only [upi_n]; omega)), (by first | omega | (simp (disch := omega) only [upi_n]; omega))⟩) rfl ?_
  refine v_iadd (pc := 108) dX3_learns_108 ?_
  refine v_ptS_lives hS (pc := 109) dX3_learns_109 (lw_all_tbl q612) (fun h hS => ?_)
  refine v_ret_v (pc := 112) dX3_learns_112 rfl ?_
  exact qv_ok (by unfold xLearn; simp (disch := omega) only [upi_n] at hS ⊢; exact hS)
theorem sp_X3_weighs {Γ : Cx} {t : Nat} {α : Int → Nat} {h0 h : AH} {w x : Int → Int} {u : Int} (hS : SX Γ t α h0 h w x) (hu : 0 ≤ u ∧ u < w 7) (h7 : w 7 ≤ 99) (hl : -1 ≤ w (23 + 17 * u + 9) ∧ w (23 + 17 * u + 9) ≤ 14000000) (ht : ∀ g, 0 ≤ g ∧ g ≤ 4 → 0 ≤ w (23 + 17 * u + (10 + g)) ∧ w (23 + 17 * u + (10 + g)) ≤ 1000) (h5 : 0 ≤ w 5 ∧ w 5 ≤ 90) (hwt : (∀ k, 0 ≤ k ∧ k ≤ 4 → 1 ≤ w (13 + k) ∧ w (13 + k) ≤ 1000)) : Sp Γ yX3_weighs mX3_weighs 3 0 0 [.ref (α 0), .ref (α (100 + u))] h (Qv (fun h9 => SX Γ t α h0 h9 (XWt w u) x)) NoX := by
  refine sp_of okX3_weighs (cat_all rfl) (Nat.le_of_ble_eq_true rfl) rfl ?_
  have L92 : ∀ (n9 : Nat) (h1 : AH) (w1 : Int → Int) (wA : Int → Int) (low : Int) (g : Int), (5 - g).toNat = n9 → (SX Γ t α h0 h1 w1 x) → (0 ≤ g ∧ g ≤ 5) → (0 ≤ low ∧ low ≤ 1) → (fI 5 (mW1 u) (w, 1) = (wA, low)) → (w1 = if low = 1 then mW2 wA g else wA) → ((∀ i, i < 13 ∨ 23 ≤ i → w1 i = w i)) → V Γ mX3_weighs 3 0 0 (Qv (fun h9 => SX Γ t α h0 h9 (XWt w u) x)) (NoX) h1 0 0 92 [some (.ref (α 0)), some (.ref (α (100 + u))), some (vi low), some (vi g), none] [] := by
    intro n9
    induction n9 using Nat.strongRecOn with
    | _ n9 ih =>
      intro h1 w1 wA low g hn9 hS hg hlow he h2 hfr
      refine v_ild3 (pc := 92) dX3_weighs_92 ?_
      refine v_iconst (pc := 93) dX3_weighs_93 ?_
      refine v_icmp_ge (pc := 94) (tgt := 117) dX3_weighs_94 rfl (by omega) (by omega) (fun c94 => ?_) (fun c94 => ?_)
      · refine v_ret_v (pc := 117) dX3_weighs_117 rfl ?_
        exact qv_ok (by have e : XWt w u = if low = 1 then mW2 wA 5 else wA := (by rw [XWt, he]); rw [e]; by_cases q : low = 1; (rw [if_pos q]; rw [h2, if_pos q, show g = 5 by omega] at hS; exact hS); (rw [if_neg q]; rw [h2, if_neg q] at hS; exact hS))
      · refine v_ild2 (pc := 97) dX3_weighs_97 ?_
        refine v_if_eq (pc := 98) (tgt := 117) dX3_weighs_98 rfl (by omega) (fun c98 => ?_) (fun c98 => ?_)
        · refine v_ret_v (pc := 117) dX3_weighs_117 rfl ?_
          exact qv_ok (by have e : XWt w u = if low = 1 then mW2 wA 5 else wA := (by rw [XWt, he]); rw [e]; by_cases q : low = 1; (rw [if_pos q]; rw [h2, if_pos q, show g = 5 by omega] at hS; exact hS); (rw [if_neg q]; rw [h2, if_neg q] at hS; exact hS))
        · refine v_ald0 (pc := 101) dX3_weighs_101 ?_
          refine v_getf KX3 11 (pc := 102) dX3_weighs_102 (lw_all_tbl q619) (Or.inl rfl) (Nat.le_of_ble_eq_true rfl) (sx_obj hS) rfl ?_
          refine v_ild3 (pc := 105) dX3_weighs_105 ?_
          refine v_dup2 (pc := 106) dX3_weighs_106 rfl rfl ?_
          refine v_ldS_weights hS (pc := 107) dX3_weighs_107 ⟨(by first | omega | (simp (disch := omega) only [upi_n]; omega)), (by first | omega | (simp (disch := omega) only [upi_n]; omega))⟩ ?_
          refine v_iconst (pc := 108) dX3_weighs_108 ?_
          refine v_imul (pc := 109) dX3_weighs_109 ?_
          refine v_stS_weights hS (pc := 110) dX3_weighs_110 ⟨(by first | omega | (simp (disch := omega) only [upi_n]; omega)), (by first | omega | (simp (disch := omega) only [upi_n]; omega))⟩ (fun h hS => ?_)
          refine v_iinc3 (pc := 111) dX3_weighs_111 rfl ?_
          refine v_goto (pc := 114) (tgt := 92) dX3_weighs_114 rfl ?_
          exact ih _ (by omega) _ _ _ _ _ rfl hS (by omega) (by omega) he (by rw [h2, if_pos (by omega), if_pos (by omega), mW2_s (by omega)]) (fun i hi => by rw [upi_n (by omega)]; exact hfr i hi)
  have L4 : ∀ (n9 : Nat) (h1 : AH) (w1 : Int → Int) (low : Int) (g : Int), (5 - g).toNat = n9 → (SX Γ t α h0 h1 w1 x) → (0 ≤ g ∧ g ≤ 5) → (0 ≤ low ∧ low ≤ 1) → (fI g (mW1 u) (w, 1) = (w1, low)) → ((∀ i, i < 13 ∨ 23 ≤ i → w1 i = w i)) → ((∀ k, 0 ≤ k ∧ k ≤ 4 → 1 ≤ w1 (13 + k) ∧ w1 (13 + k) ≤ 1000)) → V Γ mX3_weighs 3 0 0 (Qv (fun h9 => SX Γ t α h0 h9 (XWt w u) x)) (NoX) h1 0 0 4 [some (.ref (α 0)), some (.ref (α (100 + u))), some (vi low), some (vi g), none] [] := by
    intro n9
    induction n9 using Nat.strongRecOn with
    | _ n9 ih =>
      intro h1 w1 low g hn9 hS hg hlow he hfr hwt1
      have hu7 : 0 ≤ u ∧ u < w1 7 := by rw [hfr 7 (by omega)]; exact hu
      refine v_ild3 (pc := 4) dX3_weighs_4 ?_
      refine v_iconst (pc := 5) dX3_weighs_5 ?_
      refine v_icmp_ge (pc := 6) (tgt := 90) dX3_weighs_6 rfl (by omega) (by omega) (fun c6 => ?_) (fun c6 => ?_)
      · have hx : g = 5 := by omega
        subst hx
        refine v_iconst (pc := 90) dX3_weighs_90 ?_
        refine v_ist3 (pc := 91) dX3_weighs_91 rfl ?_
        exact L92 _ _ _ _ _ _ rfl hS (by omega) (by omega) he (by split <;> rfl) hfr
      · have ha := hfr (23 + 17 * u + 9) (by omega)
        have hb := hfr (23 + 17 * u + (10 + g)) (by omega)
        have hb2 := ht g (by omega)
        have hc5 := hfr 5 (by omega)
        have hw1 := hwt1 g (by omega)
        have hlo := mLoss_r w1 u g
        have hwr := wt_r (a := w1 (13 + g)) (b := w1 5) (l := mLoss w1 u g) (by omega) (by omega) (by omega)
        refine v_ald1 (pc := 9) dX3_weighs_9 ?_
        refine v_ild3 (pc := 10) dX3_weighs_10 ?_
        refine v_ce0 (pc := 11) (v_runS2 okX3_lossOf rfl (sp_X3_lossOf hS hu7 (by omega) (by omega) (by omega)) dX3_weighs_11 (lw_all_tbl q1004) (lw_all_tbl q1005) (Nat.le_of_ble_eq_true rfl) ⟨Nat.zero_le _, Nat.zero_le _⟩ (Nat.le_of_ble_eq_true rfl)) ?_
        refine v_ist4 (pc := 14) dX3_weighs_14 rfl ?_
        refine v_ald0 (pc := 16) dX3_weighs_16 ?_
        refine v_getf KX3 12 (pc := 17) dX3_weighs_17 (lw_all_tbl q621) (Or.inl rfl) (Nat.le_of_ble_eq_true rfl) (sx_obj hS) rfl ?_
        refine v_ild3 (pc := 20) dX3_weighs_20 ?_
        refine v_dup2 (pc := 21) dX3_weighs_21 rfl rfl ?_
        refine v_ldS_losses hS (pc := 22) dX3_weighs_22 ⟨(by first | omega | (simp (disch := omega) only [upi_n]; omega)), (by first | omega | (simp (disch := omega) only [upi_n]; omega))⟩ ?_
        refine v_ild4 (pc := 23) dX3_weighs_23 ?_
        refine v_iadd (pc := 25) dX3_weighs_25 ?_
        refine v_stS_losses hS (pc := 26) dX3_weighs_26 ⟨(by first | omega | (simp (disch := omega) only [upi_n]; omega)), (by first | omega | (simp (disch := omega) only [upi_n]; omega))⟩ (fun h hS => ?_)
        refine v_ald0 (pc := 27) dX3_weighs_27 ?_
        refine v_getf KX3 11 (pc := 28) dX3_weighs_28 (lw_all_tbl q619) (Or.inl rfl) (Nat.le_of_ble_eq_true rfl) (sx_obj hS) rfl ?_
        refine v_ild3 (pc := 31) dX3_weighs_31 ?_
        refine v_iconst (pc := 32) dX3_weighs_32 ?_
        refine v_ald0 (pc := 33) dX3_weighs_33 ?_
        refine v_getf KX3 11 (pc := 34) dX3_weighs_34 (lw_all_tbl q619) (Or.inl rfl) (Nat.le_of_ble_eq_true rfl) (sx_obj hS) rfl ?_
        refine v_ild3 (pc := 37) dX3_weighs_37 ?_
        refine v_ldS_weights hS (pc := 38) dX3_weighs_38 ⟨(by first | omega | (simp (disch := omega) only [upi_n]; omega)), (by first | omega | (simp (disch := omega) only [upi_n]; omega))⟩ ?_
        simp (disch := omega) only [upi_n]
        refine v_i2l (pc := 39) dX3_weighs_39 (by omega) ?_
        refine v_ldc2 (n := Int64.ofInt (2000)) (pc := 40) dX3_weighs_40 (lw_all_tbl q1011) ?_
        refine v_ald0 (pc := 43) dX3_weighs_43 ?_
        refine v_getf KX3 0 (pc := 44) dX3_weighs_44 (lw_all_tbl q596) (Or.inl rfl) (Nat.le_of_ble_eq_true rfl) (sx_obj hS) rfl ?_
        refine v_iconst (pc := 47) dX3_weighs_47 ?_
        refine v_ldS_set hS (pc := 48) dX3_weighs_48 ⟨(by first | omega | (simp (disch := omega) only [upi_n]; omega)), (by first | omega | (simp (disch := omega) only [upi_n]; omega))⟩ ?_
        simp (disch := omega) only [upi_n]
        refine v_ild4 (pc := 49) dX3_weighs_49 ?_
        refine v_imul (pc := 51) dX3_weighs_51 ?_
        refine v_i2l (pc := 52) dX3_weighs_52 (by omega) ?_
        refine v_lsub (pc := 53) dX3_weighs_53 ?_
        refine v_lmul (pc := 54) dX3_weighs_54 ?_
        refine v_ldc2 (n := Int64.ofInt (2000)) (pc := 55) dX3_weighs_55 (lw_all_tbl q1011) ?_
        refine v_ldiv (pc := 58) dX3_weighs_58 (by omega) (by omega) ?_
        refine v_l2i (pc := 59) dX3_weighs_59 ?_
        refine v_mmax (pc := 60) dX3_weighs_60 (lw_all_tbl q856) (lw_all_tbl q361) (lw_all_tbl q129) (lw_all_tbl q362) (Nat.le_of_ble_eq_true rfl) (Nat.le_of_ble_eq_true rfl) (by omega) (by omega) ?_
        refine v_stS_weights hS (pc := 63) dX3_weighs_63 ⟨(by first | omega | (simp (disch := omega) only [upi_n]; omega)), (by first | omega | (simp (disch := omega) only [upi_n]; omega))⟩ (fun h hS => ?_)
        refine v_ild2 (pc := 64) dX3_weighs_64 ?_
        refine v_ald0 (pc := 65) dX3_weighs_65 ?_
        refine v_getf KX3 11 (pc := 66) dX3_weighs_66 (lw_all_tbl q619) (Or.inl rfl) (Nat.le_of_ble_eq_true rfl) (sx_obj hS) rfl ?_
        refine v_ild3 (pc := 69) dX3_weighs_69 ?_
        refine v_ldS_weights hS (pc := 70) dX3_weighs_70 ⟨(by first | omega | (simp (disch := omega) only [upi_n]; omega)), (by first | omega | (simp (disch := omega) only [upi_n]; omega))⟩ ?_
        rw [upi_s]
        refine v_sipush (pc := 71) dX3_weighs_71 ⟨by decide, by decide⟩ ?_
        refine v_icmp_ge (pc := 74) (tgt := 81) dX3_weighs_74 rfl (by omega) (by omega) (fun c74 => ?_) (fun c74 => ?_)
        · refine v_iconst (pc := 81) dX3_weighs_81 ?_
          refine v_iand01 (pc := 82) dX3_weighs_82 (by omega) (by omega) ?_
          refine v_ist2 (pc := 83) dX3_weighs_83 rfl ?_
          refine v_iinc3 (pc := 84) dX3_weighs_84 rfl ?_
          refine v_goto (pc := 87) (tgt := 4) dX3_weighs_87 rfl ?_
          refine v_forget 4 ?_
          exact ih _ (by omega) _ _ _ _ rfl hS (by omega) (by omega) (by rw [fI_s (by omega), he]; exact mW1_ok (by unfold mWt; split <;> omega) (by first | (rw [upi_s] at c74; split <;> omega) | (split <;> omega))) (fun i hi => by rw [upi_n (by omega), upi_n (by omega)]; exact hfr i hi) (fun k hk => if e : k = g then (by subst e; rw [upi_s]; omega) else (by rw [upi_n (by omega), upi_n (by omega)]; exact hwt1 k hk))
        · refine v_iconst (pc := 77) dX3_weighs_77 ?_
          refine v_goto (pc := 78) (tgt := 82) dX3_weighs_78 rfl ?_
          refine v_iand01 (pc := 82) dX3_weighs_82 (by omega) (by omega) ?_
          refine v_ist2 (pc := 83) dX3_weighs_83 rfl ?_
          refine v_iinc3 (pc := 84) dX3_weighs_84 rfl ?_
          refine v_goto (pc := 87) (tgt := 4) dX3_weighs_87 rfl ?_
          refine v_forget 4 ?_
          exact ih _ (by omega) _ _ _ _ rfl hS (by omega) (by omega) (by rw [fI_s (by omega), he]; exact mW1_ok (by unfold mWt; split <;> omega) (by first | (rw [upi_s] at c74; split <;> omega) | (split <;> omega))) (fun i hi => by rw [upi_n (by omega), upi_n (by omega)]; exact hfr i hi) (fun k hk => if e : k = g then (by subst e; rw [upi_s]; omega) else (by rw [upi_n (by omega), upi_n (by omega)]; exact hwt1 k hk))
  refine v_iconst (pc := 0) dX3_weighs_0 ?_
  refine v_ist2 (pc := 1) dX3_weighs_1 rfl ?_
  refine v_iconst (pc := 2) dX3_weighs_2 ?_
  refine v_ist3 (pc := 3) dX3_weighs_3 rfl ?_
  exact L4 _ _ _ _ _ rfl hS (by omega) (by omega) rfl (fun i _ => rfl) hwt
section S3M
variable {Γ : Cx} {t : Nat} {α : Int → Nat} {h0 h : AH} {w x : Int → Int}
def xB (w : Int → Int) (u : Int) : Int → Int :=
  let a := upi (upi w (23 + 17 * u + 9) (w 6 - w (23 + 17 * u + 3))) (23 + 17 * u + 5) (-1)
  upi a 10 (a 10 + (if a (23 + 17 * u + 7) < 5 then mLoss a u (a (23 + 17 * u + 7)) else 0))
theorem xB_v {w : Int → Int} {u : Int} (hu : 0 ≤ u) (j : Int) (n : j ≠ 10) : xB w u j = if j = 23 + 17 * u + 5 then -1 else if j = 23 + 17 * u + 9 then w 6 - w (23 + 17 * u + 3) else w j := by
  unfold xB
  rw [upi_n n]
  rfl
theorem xDies_B (w : Int → Int) (u : Int) : xDies w u = upi (XWt (xB w u) u) 12 (XWt (xB w u) u 12 + 1) := rfl
theorem xLearn_cg {w v x : Int → Int} {u : Int} (h : ∀ f, (f = 0 ∨ f = 1 ∨ f = 9) → v (23 + 17 * u + f) = w (23 + 17 * u + f)) : xLearn v x u = xLearn w x u := by
  unfold xLearn
  rw [h 0 (by decide), h 1 (by decide), h 9 (by decide)]
theorem SX.dies {c u : Int} (hR : ROK w c) (hu : 0 ≤ u ∧ u < w 7) (hS : SX Γ t α h0 h (upi (XWt (xB w u) u) 12 (XWt (xB w u) u 12 + 1)) (xLearn (XWt (xB w u) u) x u)) : SX Γ t α h0 h (mDies w u) (xLearn (mDies w u) x u) := by
  have h7 := hR.s7
  have hE := xDies_eq (w := w) (u := u) hu.1 hR.s5 hR.gW (hR.uLe u hu)
  obtain ⟨m1, -, m12, ⟨m4, m5, m9, m15⟩, -⟩ := mDies_inv (w := w) (u := u) hu.1 hR.s5 hR.gW
  have hx : xLearn (mDies w u) x u = xLearn (XWt (xB w u) u) x u := xLearn_cg (fun f hf => by
    rw [← hE _ (by omega) (by omega), xDies_B, upi_n (by omega)])
  rw [hx]
  rw [← xDies_B] at hS
  refine hS.to (hE 0 (by omega) (by omega)).symm (hE 7 (by omega) (by omega)).symm (fun z hz => ?_) (fun i hi j hj => ?_) (fun i hi j hj => rfl)
  · rw [← hE _ (by omega) (by omega)]
    exact hS.b.2.2.2.2 z hz
  · exact (hE j (by omega) (by omega)).symm
end S3M
theorem sp_X3_dies {Γ : Cx} {t : Nat} {α : Int → Nat} {h0 h : AH} {w x : Int → Int} {c : Int} {u : Int} (hS : SX Γ t α h0 h w x) (hR : ROK w c) (hu : 0 ≤ u ∧ u < w 7) (hm : ∀ i, 0 ≤ i ∧ i ≤ 100 → -1 ≤ x i ∧ x i ≤ 1400000000) : Sp Γ yX3_dies mX3_dies 4 0 0 [.ref (α 0), .ref (α (100 + u))] h (Qv (fun h9 => SX Γ t α h0 h9 (mDies w u) (xLearn (mDies w u) x u))) NoX := by
  refine sp_of okX3_dies (cat_all rfl) (Nat.le_of_ble_eq_true rfl) rfl ?_
  have h7 := hR.s7
  have h5 := hR.s5
  have h6 := hR.s6
  have hc := hR.c0
  have hwr := hR.uWr u hu
  have hsz := hR.uSz u hu
  have hwt := hR.uWt u hu
  have hle := hR.uLe u hu
  have hV := xB_v (w := w) (u := u) hu.1
  have hF := XWt_fr (w := xB w u) (u := u) (by rw [hV _ (by omega), if_neg (by omega), if_neg (by omega)]; exact h5) (fun g hg => by rw [hV _ (by omega), if_neg (by omega), if_neg (by omega)]; exact hR.gW g hg)
  have hG : ∀ j, j ≠ 10 → (j < 13 ∨ 23 ≤ j) → XWt (xB w u) u j = if j = 23 + 17 * u + 5 then -1 else if j = 23 + 17 * u + 9 then w 6 - w (23 + 17 * u + 3) else w j := fun j h1 h2 => by rw [hF j h2, hV j h1]
  have g7 := hG 7 (by omega) (by omega)
  rw [if_neg (by omega), if_neg (by omega)] at g7
  have gw := hG (23 + 17 * u + 0) (by omega) (by omega)
  rw [if_neg (by omega), if_neg (by omega)] at gw
  have gs := hG (23 + 17 * u + 1) (by omega) (by omega)
  rw [if_neg (by omega), if_neg (by omega)] at gs
  have gl := hG (23 + 17 * u + 9) (by omega) (by omega)
  rw [if_neg (by omega), if_pos rfl] at gl
  have hm0 := hm (20 + w (23 + 17 * u + 0)) (by omega)
  refine v_ald1 (pc := 0) dX3_dies_0 ?_
  refine v_ald0 (pc := 1) dX3_dies_1 ?_
  refine v_getf KX3 3 (pc := 2) dX3_dies_2 (lw_all_tbl q599) (Or.inl rfl) (Nat.le_of_ble_eq_true rfl) (sx_obj hS) rfl ?_
  refine v_ald1 (pc := 5) dX3_dies_5 ?_
  refine v_getfN KX9 4 (pc := 6) dX3_dies_6 q888 (Or.inl rfl) (Nat.le_of_ble_eq_true rfl) (sx_unit hS (u := u) ⟨(by first | omega | (simp (disch := omega) only [upi_n]; omega)), (by first | omega | (simp (disch := omega) only [upi_n]; omega))⟩) rfl ?_
  refine v_isub (pc := 9) dX3_dies_9 ?_
  refine v_ptU_life hS (pc := 10) dX3_dies_10 q906 ⟨(by first | omega | (simp (disch := omega) only [upi_n]; omega)), (by first | omega | (simp (disch := omega) only [upi_n]; omega))⟩ (fun h hS => ?_)
  refine v_ald1 (pc := 13) dX3_dies_13 ?_
  refine v_iconst (pc := 14) dX3_dies_14 ?_
  refine v_ptU_zone hS (pc := 15) dX3_dies_15 q897 ⟨(by first | omega | (simp (disch := omega) only [upi_n]; omega)), (by first | omega | (simp (disch := omega) only [upi_n]; omega))⟩ (fun h hS => ?_)
  refine v_ald0 (pc := 18) dX3_dies_18 ?_
  refine v_dup (pc := 19) dX3_dies_19 rfl ?_
  refine v_getf KX3 4 (pc := 20) dX3_dies_20 (lw_all_tbl q601) (Or.inl rfl) (Nat.le_of_ble_eq_true rfl) (sx_obj hS) rfl ?_
  refine v_ald1 (pc := 23) dX3_dies_23 ?_
  refine v_getfN KX9 5 (pc := 24) dX3_dies_24 q891 (Or.inl rfl) (Nat.le_of_ble_eq_true rfl) (sx_unit hS (u := u) ⟨(by first | omega | (simp (disch := omega) only [upi_n]; omega)), (by first | omega | (simp (disch := omega) only [upi_n]; omega))⟩) rfl ?_
  refine v_iconst (pc := 27) dX3_dies_27 ?_
  refine v_icmp_ge (pc := 28) (tgt := 42) dX3_dies_28 rfl (by first | omega | (simp (disch := omega) only [upi_n]; omega)) (by omega) (fun c28 => ?_) (fun c28 => ?_)
  · simp (disch := omega) only [upi_n] at c28
    refine v_iconst (pc := 42) dX3_dies_42 ?_
    refine v_iadd (pc := 43) dX3_dies_43 ?_
    refine v_ptS_loss hS (pc := 44) dX3_dies_44 (lw_all_tbl q601) (fun h hS => ?_)
    refine v_ald0 (pc := 47) dX3_dies_47 ?_
    refine v_ald1 (pc := 48) dX3_dies_48 ?_
    refine v_cv0 (pc := 49) (v_runV1 okX3_weighs rfl (sp_X3_weighs hS ⟨(by first | omega | (simp (disch := omega) only [upi_n]; omega)), (by first | omega | (simp (disch := omega) only [upi_n]; omega))⟩ (by first | omega | (simp (disch := omega) only [upi_n]; omega)) (by simp (disch := omega) only [upi_n]; rw [upi_s]; omega) (fun g hg => by simp (disch := omega) only [upi_n]; have := hR.t u g hu hg; omega) (by simp (disch := omega) only [upi_n]; exact h5) (fun k hk => (by simp (disch := omega) only [upi_n]; exact hR.gW k hk))) dX3_dies_49 (lw_all_tbl q1007) (lw_all_tbl q1009) (lw_all_tbl qs19) rfl (sx_obj hS) (Nat.le_of_ble_eq_true rfl) ⟨Nat.zero_le _, Nat.zero_le _⟩ (Nat.le_of_ble_eq_true rfl)) (fun h hS => ?_)
    replace hS : SX Γ t α h0 h (XWt (xB w u) u) x := by
      unfold xB
      simp (disch := omega) only [upi_n] at hS ⊢
      first | (rw [if_pos (by omega)]; exact hS) | (rw [if_neg (by omega)]; exact hS)
    refine v_ald0 (pc := 52) dX3_dies_52 ?_
    refine v_ald1 (pc := 53) dX3_dies_53 ?_
    refine v_cv0 (pc := 54) (v_runV1 okX3_learns rfl (sp_X3_learns hS ⟨by omega, by omega⟩ (by omega) (by omega) (by omega) (by omega) (by rw [gw]; exact hm0)) dX3_dies_54 (lw_all_tbl q1012) (lw_all_tbl q1014) (lw_all_tbl qs20) rfl (sx_obj hS) (Nat.le_of_ble_eq_true rfl) ⟨Nat.zero_le _, Nat.zero_le _⟩ (Nat.le_of_ble_eq_true rfl)) (fun h hS => ?_)
    refine v_ret_v (pc := 57) dX3_dies_57 rfl ?_
    exact qv_ok (SX.dies hR hu hS)
  · simp (disch := omega) only [upi_n] at c28
    refine v_ald1 (pc := 31) dX3_dies_31 ?_
    refine v_ald1 (pc := 32) dX3_dies_32 ?_
    refine v_getfN KX9 5 (pc := 33) dX3_dies_33 q891 (Or.inl rfl) (Nat.le_of_ble_eq_true rfl) (sx_unit hS (u := u) ⟨(by first | omega | (simp (disch := omega) only [upi_n]; omega)), (by first | omega | (simp (disch := omega) only [upi_n]; omega))⟩) rfl ?_
    refine v_ce0 (pc := 36) (v_runS2 okX3_lossOf rfl (sp_X3_lossOf hS ⟨(by first | omega | (simp (disch := omega) only [upi_n]; omega)), (by first | omega | (simp (disch := omega) only [upi_n]; omega))⟩ ⟨(by first | omega | (simp (disch := omega) only [upi_n]; omega)), (by first | omega | (simp (disch := omega) only [upi_n]; omega))⟩ (by rw [upi_n (by omega), upi_s]; omega) (by simp (disch := omega) only [upi_n]; have := hR.t u (w (23 + 17 * u + 7)) hu (by omega); omega)) dX3_dies_36 (lw_all_tbl q1004) (lw_all_tbl q1005) (Nat.le_of_ble_eq_true rfl) ⟨Nat.zero_le _, Nat.zero_le _⟩ (Nat.le_of_ble_eq_true rfl)) ?_
    refine v_goto (pc := 39) (tgt := 43) dX3_dies_39 rfl ?_
    refine v_iadd (pc := 43) dX3_dies_43 ?_
    refine v_ptS_loss hS (pc := 44) dX3_dies_44 (lw_all_tbl q601) (fun h hS => ?_)
    refine v_ald0 (pc := 47) dX3_dies_47 ?_
    refine v_ald1 (pc := 48) dX3_dies_48 ?_
    refine v_cv0 (pc := 49) (v_runV1 okX3_weighs rfl (sp_X3_weighs hS ⟨(by first | omega | (simp (disch := omega) only [upi_n]; omega)), (by first | omega | (simp (disch := omega) only [upi_n]; omega))⟩ (by first | omega | (simp (disch := omega) only [upi_n]; omega)) (by simp (disch := omega) only [upi_n]; rw [upi_s]; omega) (fun g hg => by simp (disch := omega) only [upi_n]; have := hR.t u g hu hg; omega) (by simp (disch := omega) only [upi_n]; exact h5) (fun k hk => (by simp (disch := omega) only [upi_n]; exact hR.gW k hk))) dX3_dies_49 (lw_all_tbl q1007) (lw_all_tbl q1009) (lw_all_tbl qs19) rfl (sx_obj hS) (Nat.le_of_ble_eq_true rfl) ⟨Nat.zero_le _, Nat.zero_le _⟩ (Nat.le_of_ble_eq_true rfl)) (fun h hS => ?_)
    replace hS : SX Γ t α h0 h (XWt (xB w u) u) x := by
      unfold xB
      simp (disch := omega) only [upi_n] at hS ⊢
      first | (rw [if_pos (by omega)]; exact hS) | (rw [if_neg (by omega)]; exact hS)
    refine v_ald0 (pc := 52) dX3_dies_52 ?_
    refine v_ald1 (pc := 53) dX3_dies_53 ?_
    refine v_cv0 (pc := 54) (v_runV1 okX3_learns rfl (sp_X3_learns hS ⟨by omega, by omega⟩ (by omega) (by omega) (by omega) (by omega) (by rw [gw]; exact hm0)) dX3_dies_54 (lw_all_tbl q1012) (lw_all_tbl q1014) (lw_all_tbl qs20) rfl (sx_obj hS) (Nat.le_of_ble_eq_true rfl) ⟨Nat.zero_le _, Nat.zero_le _⟩ (Nat.le_of_ble_eq_true rfl)) (fun h hS => ?_)
    refine v_ret_v (pc := 57) dX3_dies_57 rfl ?_
    exact qv_ok (SX.dies hR hu hS)
theorem sp_X3_killUnit {Γ : Cx} {t : Nat} {α : Int → Nat} {h0 h : AH} {w x : Int → Int} {c : Int} {u : Int} (hS : SX Γ t α h0 h w x) (hR : ROK w c) (hu : 0 ≤ u ∧ u < w 7) (hm : ∀ i, 0 ≤ i ∧ i ≤ 100 → -1 ≤ x i ∧ x i ≤ 1400000000) : Sp Γ yX3_killUnit mX3_killUnit 5 0 0 [.ref (α 0), .ref (α (100 + u))] h (Qi (fun y h9 => (w (23 + 17 * u + 4) = 1 → y = 0 ∧ SX Γ t α h0 h9 (mDies w u) (xLearn (mDies w u) x u)) ∧ (w (23 + 17 * u + 4) ≠ 1 → y = 2 ∧ SX Γ t α h0 h9 w x))) NoX := by
  refine sp_of okX3_killUnit (cat_all rfl) (Nat.le_of_ble_eq_true rfl) rfl ?_
  refine v_ald1 (pc := 0) dX3_killUnit_0 ?_
  refine v_cb0 (pc := 1) (v_runV0 okX9_lives rfl (sp_X9_lives hS (by omega) (by omega)) dX3_killUnit_1 (lw_all_tbl q999) (lw_all_tbl q800) (lw_all_tbl q801) rfl (sx_unit hS (u := u) ⟨(by first | omega | (simp (disch := omega) only [upi_n]; omega)), (by first | omega | (simp (disch := omega) only [upi_n]; omega))⟩) (Nat.le_of_ble_eq_true rfl) ⟨Nat.zero_le _, Nat.zero_le _⟩ (Nat.le_of_ble_eq_true rfl)) (fun c1 => ?_) (fun c1 => ?_)
  · refine v_if_ne1 (pc := 4) (tgt := 9) dX3_killUnit_4 rfl ?_
    refine v_ald0 (pc := 9) dX3_killUnit_9 ?_
    refine v_ald1 (pc := 10) dX3_killUnit_10 ?_
    refine v_cv0 (pc := 11) (v_runV1 okX3_dies rfl (sp_X3_dies hS (by omega) (by omega) (by omega)) dX3_killUnit_11 (lw_all_tbl q1000) (lw_all_tbl q1001) (lw_all_tbl q1002) rfl (sx_obj hS) (Nat.le_of_ble_eq_true rfl) ⟨Nat.zero_le _, Nat.zero_le _⟩ (Nat.le_of_ble_eq_true rfl)) (fun h hS => ?_)
    refine v_iconst (pc := 14) dX3_killUnit_14 ?_
    refine v_ret_n (pc := 15) dX3_killUnit_15 rfl ?_
    exact qi_ok ⟨fun _ => ⟨rfl, hS⟩, fun z => absurd (by assumption) z⟩
  · refine v_if_ne0 (pc := 4) (tgt := 9) dX3_killUnit_4 rfl ?_
    refine v_iconst (pc := 7) dX3_killUnit_7 ?_
    refine v_ret_n (pc := 8) dX3_killUnit_8 rfl ?_
    exact qi_ok ⟨fun z => absurd z (by assumption), fun _ => ⟨rfl, hS⟩⟩
