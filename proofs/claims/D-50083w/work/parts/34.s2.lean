/-! THE STORE: zones (printed by gen) -/
set_option maxRecDepth 100000
section S2H
variable {Γ : Cx} {t : Nat} {α : Int → Nat} {h0 h : AH} {w x : Int → Int}
theorem sp_zput (hS : SX Γ t α h0 h w x) {z u : Int} (hz : 0 ≤ z ∧ z < w 0) (hu : 0 ≤ u ∧ u < w 7) (hn : w (1706 + 13 * z + 3) < 9) : Sp Γ yJ2_add mJ2_add 2 0 0 [.ref (α (60 + z)), .ref (α (100 + u))] h (Qi (fun y h9 => y = 1 ∧ SX Γ t α h0 h9 (upi (upi w (1706 + 13 * z + 4 + w (1706 + 13 * z + 3)) u) (1706 + 13 * z + 3) (w (1706 + 13 * z + 3) + 1)) (upi x (410 + z) (x (410 + z) + 1)))) NoX := by
  have b := hS.b
  have b2 := b.2.2.2.2 z (by omega)
  obtain ⟨f, h1, h2⟩ := sx_zd hS hz
  refine Sp.post (sp_J2_add (sx_zl hS hz) hS.tne.1 h1 hS.tne.1 (sx_unit hS hu) rfl (Or.inr q2568) (by decide) (by omega)) (fun v h' hq => ?_) (fun _ _ _ z => z)
  obtain ⟨y, rfl, rfl, hh⟩ := hq
  exact ⟨1, rfl, rfl, hS.zadd hz h2 hn hh⟩
theorem sp_zclr (hS : SX Γ t α h0 h w x) {z : Int} (hz : 0 ≤ z ∧ z < w 0) : Sp Γ yJ2_clear mJ2_clear 1 0 0 [.ref (α (60 + z))] h (Qv (fun h9 => SX Γ t α h0 h9 (upi w (1706 + 13 * z + 3) 0) (upi x (410 + z) (x (410 + z) + 1)))) NoX := by
  have b := hS.b
  have b2 := b.2.2.2.2 z (by omega)
  obtain ⟨f, h1, h2⟩ := sx_zd hS hz
  refine Sp.post (sp_J2_clear (sx_zl hS hz) hS.tne.1 h1 hS.tne.1 (by omega)) (fun v h' hq => ?_) (fun _ _ _ z => z)
  obtain ⟨rfl, f9, hh⟩ := hq
  exact ⟨rfl, hS.zclear hz hh⟩
end S2H
theorem sp_X3_find {Γ : Cx} {t : Nat} {α : Int → Nat} {h0 h : AH} {w x : Int → Int} {c : Int} {w9 : Int → Int} {win sz but : Int} (hS : SX Γ t α h0 h w x) (hR9 : ROK w9 c) (hL : Lay w9 w x) (hwin : -1000 ≤ win ∧ win ≤ 20000000) (hsz : 0 ≤ sz ∧ sz ≤ 10) (hbut : -2147483648 ≤ but ∧ but ≤ 2147483647) (hR : ROK w c) : Sp Γ yX3_find mX3_find 3 0 0 [.ref (α 0), vi win, vi sz, vi but] h (Qe (mZoneFor w9 win sz but) h) NoX := by
  refine sp_of okX3_find (cat_all rfl) (Nat.le_of_ble_eq_true rfl) rfl ?_
  have h0 := hR9.s0
  have h1 := hR9.s1
  have hc := hR9.c0
  have hl0 := hL.1
  have hl1 := hL.2.1
  have L9 : ∀ (n9 : Nat) (free : Int) (near : Int) (z : Int), (w9 0 - z).toNat = n9 → (0 ≤ z ∧ z ≤ w9 0) → (-1 ≤ free ∧ (free < z ∨ free = -1) ∧ -1 ≤ near ∧ (near < z ∨ near = -1)) → (zEx w9 win sz but z = -1) → (free = zFree w9 sz but z) → (near = zNear w9 win sz but z) → V Γ mX3_find 3 0 0 (Qe (mZoneFor w9 win sz but) h) (NoX) h 0 0 9 [some (.ref (α 0)), some (vi win), some (vi sz), some (vi but), some (vi free), some (vi near), some (vi z)] [] := by
    intro n9
    induction n9 using Nat.strongRecOn with
    | _ n9 ih =>
      intro free near z hn9 hz hnr hex hfr hne
      refine v_ild6 (pc := 9) dX3_find_9 ?_
      refine v_ald0 (pc := 11) dX3_find_11 ?_
      refine v_getf KX3 0 (pc := 12) dX3_find_12 (lw_all_tbl q596) (Or.inl rfl) (Nat.le_of_ble_eq_true rfl) (sx_obj hS) rfl ?_
      refine v_iconst (pc := 15) dX3_find_15 ?_
      refine v_ldS_set hS (pc := 16) dX3_find_16 ⟨(by first | omega | (simp (disch := omega) only [upi_n]; omega)), (by first | omega | (simp (disch := omega) only [upi_n]; omega))⟩ ?_
      refine v_icmp_ge (pc := 17) (tgt := 119) dX3_find_17 rfl (by omega) (by omega) (fun c17 => ?_) (fun c17 => ?_)
      · have hx : z = w9 0 := by omega
        subst hx
        refine v_ild4 (pc := 119) dX3_find_119 ?_
        refine v_iconst (pc := 121) dX3_find_121 ?_
        refine v_icmp_eq (pc := 122) (tgt := 130) dX3_find_122 rfl (by omega) (by omega) (fun c122 => ?_) (fun c122 => ?_)
        · refine v_ild5 (pc := 130) dX3_find_130 ?_
          refine v_ret_n (pc := 132) dX3_find_132 rfl ?_
          exact qe_ok (by rw [mZoneFor, if_neg (by omega)]; first | rw [if_pos (by omega), ← hfr] | rw [if_neg (by omega), ← hne])
        · refine v_ild4 (pc := 125) dX3_find_125 ?_
          refine v_goto (pc := 127) (tgt := 132) dX3_find_127 rfl ?_
          refine v_ret_n (pc := 132) dX3_find_132 rfl ?_
          exact qe_ok (by rw [mZoneFor, if_neg (by omega)]; first | rw [if_pos (by omega), ← hfr] | rw [if_neg (by omega), ← hne])
      · have hzw := hR9.zW z ⟨(by first | omega | (simp (disch := omega) only [upi_n]; omega)), (by first | omega | (simp (disch := omega) only [upi_n]; omega))⟩
        have hzf := hR9.zF z ⟨(by first | omega | (simp (disch := omega) only [upi_n]; omega)), (by first | omega | (simp (disch := omega) only [upi_n]; omega))⟩
        have hlz := hL.2.2 z ⟨(by first | omega | (simp (disch := omega) only [upi_n]; omega)), (by first | omega | (simp (disch := omega) only [upi_n]; omega))⟩
        refine v_ild6 (pc := 20) dX3_find_20 ?_
        refine v_ild3 (pc := 22) dX3_find_22 ?_
        refine v_icmp_eq (pc := 23) (tgt := 113) dX3_find_23 rfl (by omega) (by omega) (fun c23 => ?_) (fun c23 => ?_)
        · refine v_iinc6 (pc := 113) dX3_find_113 rfl ?_
          refine v_goto (pc := 116) (tgt := 9) dX3_find_116 rfl ?_
          exact ih _ (by omega) _ _ _ rfl (by omega) (by omega) (by rw [zEx_s (by omega), hex, if_neg (by omega)]) (by rw [zFree_s (by omega), ← hfr]; split <;> omega) (by rw [zNear_s (by omega), ← hne]; split <;> omega)
        · refine v_ald0 (pc := 26) dX3_find_26 ?_
          refine v_ild6 (pc := 27) dX3_find_27 ?_
          refine v_ild2 (pc := 29) dX3_find_29 ?_
          refine v_cb0 (pc := 30) (v_runV2 okX3_hasRoom rfl (sp_X3_hasRoom hS (by omega) (by omega) (by omega) (by omega)) dX3_find_30 (lw_all_tbl q861) (lw_all_tbl q863) (lw_all_tbl qs14) rfl (sx_obj hS) (Nat.le_of_ble_eq_true rfl) ⟨Nat.zero_le _, Nat.zero_le _⟩ (Nat.le_of_ble_eq_true rfl)) (fun c30 => ?_) (fun c30 => ?_)
          · refine v_if_ne1 (pc := 33) (tgt := 39) dX3_find_33 rfl ?_
            refine v_ald0 (pc := 39) dX3_find_39 ?_
            refine v_getf KX3 20 (pc := 40) dX3_find_40 (lw_all_tbl q630) (Or.inl rfl) (Nat.le_of_ble_eq_true rfl) (sx_obj hS) rfl ?_
            refine v_ild6 (pc := 43) dX3_find_43 ?_
            refine v_ldS_windows hS (pc := 45) dX3_find_45 ⟨(by first | omega | (simp (disch := omega) only [upi_n]; omega)), (by first | omega | (simp (disch := omega) only [upi_n]; omega))⟩ ?_
            rw [hlz.1]
            refine v_ild1 (pc := 46) dX3_find_46 ?_
            refine v_icmp_ne (pc := 47) (tgt := 53) dX3_find_47 rfl (by omega) (by omega) (fun c47 => ?_) (fun c47 => ?_)
            · refine v_ald0 (pc := 53) dX3_find_53 ?_
              refine v_getf KX3 20 (pc := 54) dX3_find_54 (lw_all_tbl q630) (Or.inl rfl) (Nat.le_of_ble_eq_true rfl) (sx_obj hS) rfl ?_
              refine v_ild6 (pc := 57) dX3_find_57 ?_
              refine v_ldS_windows hS (pc := 59) dX3_find_59 ⟨(by first | omega | (simp (disch := omega) only [upi_n]; omega)), (by first | omega | (simp (disch := omega) only [upi_n]; omega))⟩ ?_
              rw [hlz.1]
              refine v_iconst (pc := 60) dX3_find_60 ?_
              refine v_icmp_ne (pc := 61) (tgt := 82) dX3_find_61 rfl (by omega) (by omega) (fun c61 => ?_) (fun c61 => ?_)
              · refine v_ild5 (pc := 82) dX3_find_82 ?_
                refine v_iconst (pc := 84) dX3_find_84 ?_
                refine v_icmp_eq (pc := 85) (tgt := 109) dX3_find_85 rfl (by omega) (by omega) (fun c85 => ?_) (fun c85 => ?_)
                · refine v_ild6 (pc := 109) dX3_find_109 ?_
                  refine v_ist5 (pc := 111) dX3_find_111 rfl ?_
                  refine v_iinc6 (pc := 113) dX3_find_113 rfl ?_
                  refine v_goto (pc := 116) (tgt := 9) dX3_find_116 rfl ?_
                  exact ih _ (by omega) _ _ _ rfl (by omega) (by omega) (by rw [zEx_s (by omega), hex, if_neg (by omega)]) (by rw [zFree_s (by omega), ← hfr]; split <;> omega) (by rw [zNear_s (by omega), ← hne]; split <;> omega)
                · have hnw := hR9.zW near ⟨(by first | omega | (simp (disch := omega) only [upi_n]; omega)), (by first | omega | (simp (disch := omega) only [upi_n]; omega))⟩
                  have hln := hL.2.2 near ⟨(by first | omega | (simp (disch := omega) only [upi_n]; omega)), (by first | omega | (simp (disch := omega) only [upi_n]; omega))⟩
                  refine v_ald0 (pc := 88) dX3_find_88 ?_
                  refine v_getf KX3 20 (pc := 89) dX3_find_89 (lw_all_tbl q630) (Or.inl rfl) (Nat.le_of_ble_eq_true rfl) (sx_obj hS) rfl ?_
                  refine v_ild6 (pc := 92) dX3_find_92 ?_
                  refine v_ldS_windows hS (pc := 94) dX3_find_94 ⟨(by first | omega | (simp (disch := omega) only [upi_n]; omega)), (by first | omega | (simp (disch := omega) only [upi_n]; omega))⟩ ?_
                  rw [hlz.1]
                  refine v_ald0 (pc := 95) dX3_find_95 ?_
                  refine v_getf KX3 20 (pc := 96) dX3_find_96 (lw_all_tbl q630) (Or.inl rfl) (Nat.le_of_ble_eq_true rfl) (sx_obj hS) rfl ?_
                  refine v_ild5 (pc := 99) dX3_find_99 ?_
                  refine v_ldS_windows hS (pc := 101) dX3_find_101 ⟨(by first | omega | (simp (disch := omega) only [upi_n]; omega)), (by first | omega | (simp (disch := omega) only [upi_n]; omega))⟩ ?_
                  rw [hln.1]
                  refine v_ild1 (pc := 102) dX3_find_102 ?_
                  refine v_cb0 (pc := 103) (v_runS3 okX3_isNearer rfl (sp_X3_isNearer (by omega)) dX3_find_103 (lw_all_tbl q865) (lw_all_tbl q866) (Nat.le_of_ble_eq_true rfl) ⟨Nat.zero_le _, Nat.zero_le _⟩ (Nat.le_of_ble_eq_true rfl)) (fun c103 => ?_) (fun c103 => ?_)
                  · have cc : mApart w9 z win < mApart w9 near win ∨ mApart w9 z win = mApart w9 near win ∧ w9 (1706 + 13 * z + 0) < w9 (1706 + 13 * near + 0) := c103
                    refine v_if_eq1 (pc := 106) (tgt := 113) dX3_find_106 rfl ?_
                    refine v_ild6 (pc := 109) dX3_find_109 ?_
                    refine v_ist5 (pc := 111) dX3_find_111 rfl ?_
                    refine v_iinc6 (pc := 113) dX3_find_113 rfl ?_
                    refine v_goto (pc := 116) (tgt := 9) dX3_find_116 rfl ?_
                    exact ih _ (by omega) _ _ _ rfl (by omega) (by omega) (by rw [zEx_s (by omega), hex, if_neg (by omega)]) (by rw [zFree_s (by omega), ← hfr]; split <;> omega) (by rw [zNear_s (by omega), ← hne]; split <;> omega)
                  · have cc : ¬ (mApart w9 z win < mApart w9 near win ∨ mApart w9 z win = mApart w9 near win ∧ w9 (1706 + 13 * z + 0) < w9 (1706 + 13 * near + 0)) := c103
                    refine v_if_eq0 (pc := 106) (tgt := 113) dX3_find_106 rfl ?_
                    refine v_iinc6 (pc := 113) dX3_find_113 rfl ?_
                    refine v_goto (pc := 116) (tgt := 9) dX3_find_116 rfl ?_
                    exact ih _ (by omega) _ _ _ rfl (by omega) (by omega) (by rw [zEx_s (by omega), hex, if_neg (by omega)]) (by rw [zFree_s (by omega), ← hfr]; split <;> omega) (by rw [zNear_s (by omega), ← hne]; split <;> omega)
              · refine v_ild4 (pc := 64) dX3_find_64 ?_
                refine v_iconst (pc := 66) dX3_find_66 ?_
                refine v_icmp_ne (pc := 67) (tgt := 75) dX3_find_67 rfl (by omega) (by omega) (fun c67 => ?_) (fun c67 => ?_)
                · refine v_ild4 (pc := 75) dX3_find_75 ?_
                  refine v_ist4 (pc := 77) dX3_find_77 rfl ?_
                  refine v_goto (pc := 79) (tgt := 113) dX3_find_79 rfl ?_
                  refine v_iinc6 (pc := 113) dX3_find_113 rfl ?_
                  refine v_goto (pc := 116) (tgt := 9) dX3_find_116 rfl ?_
                  exact ih _ (by omega) _ _ _ rfl (by omega) (by omega) (by rw [zEx_s (by omega), hex, if_neg (by omega)]) (by rw [zFree_s (by omega), ← hfr]; split <;> omega) (by rw [zNear_s (by omega), ← hne]; split <;> omega)
                · refine v_ild6 (pc := 70) dX3_find_70 ?_
                  refine v_goto (pc := 72) (tgt := 77) dX3_find_72 rfl ?_
                  refine v_ist4 (pc := 77) dX3_find_77 rfl ?_
                  refine v_goto (pc := 79) (tgt := 113) dX3_find_79 rfl ?_
                  refine v_iinc6 (pc := 113) dX3_find_113 rfl ?_
                  refine v_goto (pc := 116) (tgt := 9) dX3_find_116 rfl ?_
                  exact ih _ (by omega) _ _ _ rfl (by omega) (by omega) (by rw [zEx_s (by omega), hex, if_neg (by omega)]) (by rw [zFree_s (by omega), ← hfr]; split <;> omega) (by rw [zNear_s (by omega), ← hne]; split <;> omega)
            · refine v_ild6 (pc := 50) dX3_find_50 ?_
              refine v_ret_n (pc := 52) dX3_find_52 rfl ?_
              exact qe_ok (by have e := zEx_hit hex (m := w9 0) (by omega) ⟨by omega, by omega⟩ (by omega); rw [mZoneFor, e, if_pos (by omega)])
          · refine v_if_ne0 (pc := 33) (tgt := 39) dX3_find_33 rfl ?_
            refine v_goto (pc := 36) (tgt := 113) dX3_find_36 rfl ?_
            refine v_iinc6 (pc := 113) dX3_find_113 rfl ?_
            refine v_goto (pc := 116) (tgt := 9) dX3_find_116 rfl ?_
            exact ih _ (by omega) _ _ _ rfl (by omega) (by omega) (by rw [zEx_s (by omega), hex, if_neg (by omega)]) (by rw [zFree_s (by omega), ← hfr]; split <;> omega) (by rw [zNear_s (by omega), ← hne]; split <;> omega)
  refine v_iconst (pc := 0) dX3_find_0 ?_
  refine v_ist4 (pc := 1) dX3_find_1 rfl ?_
  refine v_iconst (pc := 3) dX3_find_3 ?_
  refine v_ist5 (pc := 4) dX3_find_4 rfl ?_
  refine v_iconst (pc := 6) dX3_find_6 ?_
  refine v_ist6 (pc := 7) dX3_find_7 rfl ?_
  exact L9 _ _ _ _ rfl (by omega) (by omega) rfl rfl rfl
theorem sp_X3_enter {Γ : Cx} {t : Nat} {α : Int → Nat} {h0 h : AH} {w x : Int → Int} {u z dth : Int} (hS : SX Γ t α h0 h w x) (hu : 0 ≤ u ∧ u < w 7) (hz : 0 ≤ z ∧ z < w 0) (hd : 0 ≤ dth ∧ dth ≤ 20000000) (h2 : 1 ≤ w 2 ∧ w 2 ≤ 20) (hzw : -1 ≤ w (1706 + 13 * z + 0) ∧ w (1706 + 13 * z + 0) ≤ 20000000) (hn : w (1706 + 13 * z + 3) ≤ 8) : Sp Γ yX3_enter mX3_enter 3 0 0 [.ref (α 0), .ref (α (100 + u)), vi z, vi dth] h (Qv (fun h9 => SX Γ t α h0 h9 (mPuts (upi w (23 + 17 * u + 6) dth) u z (dth.tdiv (w 2))) (upi x (410 + z) (x (410 + z) + 1)))) NoX := by
  refine sp_of okX3_enter (cat_all rfl) (Nat.le_of_ble_eq_true rfl) rfl ?_
  have b := hS.b
  have b2 := b.2.2.2.2 z ⟨(by first | omega | (simp (disch := omega) only [upi_n]; omega)), (by first | omega | (simp (disch := omega) only [upi_n]; omega))⟩
  refine v_ald1 (pc := 0) dX3_enter_0 ?_
  refine v_ild2 (pc := 1) dX3_enter_1 ?_
  refine v_ptU_zone hS (pc := 2) dX3_enter_2 q897 ⟨(by first | omega | (simp (disch := omega) only [upi_n]; omega)), (by first | omega | (simp (disch := omega) only [upi_n]; omega))⟩ (fun h hS => ?_)
  refine v_ald1 (pc := 5) dX3_enter_5 ?_
  refine v_ild3 (pc := 6) dX3_enter_6 ?_
  refine v_ptU_guessed hS (pc := 7) dX3_enter_7 q900 ⟨(by first | omega | (simp (disch := omega) only [upi_n]; omega)), (by first | omega | (simp (disch := omega) only [upi_n]; omega))⟩ (fun h hS => ?_)
  refine v_ald0 (pc := 10) dX3_enter_10 ?_
  refine v_getf KX3 10 (pc := 11) dX3_enter_11 (lw_all_tbl q616) (Or.inl rfl) (Nat.le_of_ble_eq_true rfl) (sx_obj hS) rfl ?_
  refine v_ild2 (pc := 14) dX3_enter_14 ?_
  refine v_ldS_zones hS (z := z) (pc := 15) dX3_enter_15 ⟨(by first | omega | (simp (disch := omega) only [upi_n]; omega)), (by first | omega | (simp (disch := omega) only [upi_n]; omega))⟩ ?_
  refine v_ast4 (pc := 16) dX3_enter_16 rfl ?_
  refine v_ald4 (pc := 18) dX3_enter_18 ?_
  refine v_ald4 (pc := 20) dX3_enter_20 ?_
  refine v_cb0 (pc := 22) (v_runV0 okX4_isFree rfl (sp_X4_isFree hS ⟨(by first | omega | (simp (disch := omega) only [upi_n]; omega)), (by first | omega | (simp (disch := omega) only [upi_n]; omega))⟩ (by first | omega | (simp (disch := omega) only [upi_n]; omega))) dX3_enter_22 (lw_all_tbl q991) (lw_all_tbl q992) (lw_all_tbl q993) rfl (sx_zone hS (z := z) ⟨(by first | omega | (simp (disch := omega) only [upi_n]; omega)), (by first | omega | (simp (disch := omega) only [upi_n]; omega))⟩) (Nat.le_of_ble_eq_true rfl) ⟨Nat.zero_le _, Nat.zero_le _⟩ (Nat.le_of_ble_eq_true rfl)) (fun c22 => ?_) (fun c22 => ?_)
  · refine v_if_eq1 (pc := 25) (tgt := 39) dX3_enter_25 rfl ?_
    refine v_ild3 (pc := 28) dX3_enter_28 ?_
    refine v_ald0 (pc := 29) dX3_enter_29 ?_
    refine v_getf KX3 0 (pc := 30) dX3_enter_30 (lw_all_tbl q596) (Or.inl rfl) (Nat.le_of_ble_eq_true rfl) (sx_obj hS) rfl ?_
    refine v_iconst (pc := 33) dX3_enter_33 ?_
    refine v_ldS_set hS (pc := 34) dX3_enter_34 ⟨(by first | omega | (simp (disch := omega) only [upi_n]; omega)), (by first | omega | (simp (disch := omega) only [upi_n]; omega))⟩ ?_
    refine v_idiv (pc := 35) dX3_enter_35 (by first | omega | (simp (disch := omega) only [upi_n]; omega)) (by first | omega | (simp (disch := omega) only [upi_n]; omega)) (by first | omega | (simp (disch := omega) only [upi_n]; omega)) ?_
    refine v_goto (pc := 36) (tgt := 44) dX3_enter_36 rfl ?_
    refine v_ptZ_window hS (pc := 44) dX3_enter_44 q575 ⟨(by first | omega | (simp (disch := omega) only [upi_n]; omega)), (by first | omega | (simp (disch := omega) only [upi_n]; omega))⟩ (fun h hS => ?_)
    refine v_ald4 (pc := 47) dX3_enter_47 ?_
    refine v_dup (pc := 49) dX3_enter_49 rfl ?_
    refine v_getfN KX4 1 (pc := 50) dX3_enter_50 q578 (Or.inl rfl) (Nat.le_of_ble_eq_true rfl) (sx_zone hS (z := z) ⟨(by first | omega | (simp (disch := omega) only [upi_n]; omega)), (by first | omega | (simp (disch := omega) only [upi_n]; omega))⟩) rfl ?_
    refine v_ald1 (pc := 53) dX3_enter_53 ?_
    refine v_getfN KX9 2 (pc := 54) dX3_enter_54 q883 (Or.inl rfl) (Nat.le_of_ble_eq_true rfl) (sx_unit hS (u := u) ⟨(by first | omega | (simp (disch := omega) only [upi_n]; omega)), (by first | omega | (simp (disch := omega) only [upi_n]; omega))⟩) rfl ?_
    refine v_iadd (pc := 57) dX3_enter_57 ?_
    refine v_ptZ_filled hS (pc := 58) dX3_enter_58 q578 ⟨(by first | omega | (simp (disch := omega) only [upi_n]; omega)), (by first | omega | (simp (disch := omega) only [upi_n]; omega))⟩ (fun h hS => ?_)
    refine v_ald4 (pc := 61) dX3_enter_61 ?_
    refine v_getfN KX4 3 (pc := 63) dX3_enter_63 q585 (Or.inl rfl) (Nat.le_of_ble_eq_true rfl) (sx_zone hS (z := z) ⟨(by first | omega | (simp (disch := omega) only [upi_n]; omega)), (by first | omega | (simp (disch := omega) only [upi_n]; omega))⟩) rfl ?_
    refine v_ald1 (pc := 66) dX3_enter_66 ?_
    refine v_ci0 (pc := 67) (v_runF1 okJ2_add rfl (sp_zput hS (z := z) (u := u) ⟨(by first | omega | (simp (disch := omega) only [upi_n]; omega)), (by first | omega | (simp (disch := omega) only [upi_n]; omega))⟩ ⟨(by first | omega | (simp (disch := omega) only [upi_n]; omega)), (by first | omega | (simp (disch := omega) only [upi_n]; omega))⟩ (by first | omega | (simp (disch := omega) only [upi_n]; omega))) dX3_enter_67 (lw_all_tbl q932) q934 q933 rfl (lw_all_tbl q935) (lw_all_tbl q937) q938 q936 q773 ⟨⟨by decide, by decide⟩, by decide +kernel⟩ rfl (sx_zl hS (z := z) ⟨(by first | omega | (simp (disch := omega) only [upi_n]; omega)), (by first | omega | (simp (disch := omega) only [upi_n]; omega))⟩) (Nat.le_of_ble_eq_true rfl) ⟨Nat.zero_le _, Nat.zero_le _⟩ (Nat.le_of_ble_eq_true rfl)) (fun x67 h ⟨ex67, hS⟩ => ?_)
    subst ex67
    refine v_pop (pc := 72) dX3_enter_72 rfl ?_
    refine v_ret_v (pc := 73) dX3_enter_73 rfl ?_
    exact qv_ok (by rw [← xEnter_eq (by omega) (by omega) (by omega)]; unfold xEnter; dsimp only; first | (rw [if_pos c22]; exact hS) | (rw [if_neg c22]; exact hS))
  · refine v_if_eq0 (pc := 25) (tgt := 39) dX3_enter_25 rfl ?_
    refine v_ald4 (pc := 39) dX3_enter_39 ?_
    refine v_getfN KX4 0 (pc := 41) dX3_enter_41 q575 (Or.inl rfl) (Nat.le_of_ble_eq_true rfl) (sx_zone hS (z := z) ⟨(by first | omega | (simp (disch := omega) only [upi_n]; omega)), (by first | omega | (simp (disch := omega) only [upi_n]; omega))⟩) rfl ?_
    refine v_ptZ_window hS (pc := 44) dX3_enter_44 q575 ⟨(by first | omega | (simp (disch := omega) only [upi_n]; omega)), (by first | omega | (simp (disch := omega) only [upi_n]; omega))⟩ (fun h hS => ?_)
    refine v_ald4 (pc := 47) dX3_enter_47 ?_
    refine v_dup (pc := 49) dX3_enter_49 rfl ?_
    refine v_getfN KX4 1 (pc := 50) dX3_enter_50 q578 (Or.inl rfl) (Nat.le_of_ble_eq_true rfl) (sx_zone hS (z := z) ⟨(by first | omega | (simp (disch := omega) only [upi_n]; omega)), (by first | omega | (simp (disch := omega) only [upi_n]; omega))⟩) rfl ?_
    refine v_ald1 (pc := 53) dX3_enter_53 ?_
    refine v_getfN KX9 2 (pc := 54) dX3_enter_54 q883 (Or.inl rfl) (Nat.le_of_ble_eq_true rfl) (sx_unit hS (u := u) ⟨(by first | omega | (simp (disch := omega) only [upi_n]; omega)), (by first | omega | (simp (disch := omega) only [upi_n]; omega))⟩) rfl ?_
    refine v_iadd (pc := 57) dX3_enter_57 ?_
    refine v_ptZ_filled hS (pc := 58) dX3_enter_58 q578 ⟨(by first | omega | (simp (disch := omega) only [upi_n]; omega)), (by first | omega | (simp (disch := omega) only [upi_n]; omega))⟩ (fun h hS => ?_)
    refine v_ald4 (pc := 61) dX3_enter_61 ?_
    refine v_getfN KX4 3 (pc := 63) dX3_enter_63 q585 (Or.inl rfl) (Nat.le_of_ble_eq_true rfl) (sx_zone hS (z := z) ⟨(by first | omega | (simp (disch := omega) only [upi_n]; omega)), (by first | omega | (simp (disch := omega) only [upi_n]; omega))⟩) rfl ?_
    refine v_ald1 (pc := 66) dX3_enter_66 ?_
    refine v_ci0 (pc := 67) (v_runF1 okJ2_add rfl (sp_zput hS (z := z) (u := u) ⟨(by first | omega | (simp (disch := omega) only [upi_n]; omega)), (by first | omega | (simp (disch := omega) only [upi_n]; omega))⟩ ⟨(by first | omega | (simp (disch := omega) only [upi_n]; omega)), (by first | omega | (simp (disch := omega) only [upi_n]; omega))⟩ (by first | omega | (simp (disch := omega) only [upi_n]; omega))) dX3_enter_67 (lw_all_tbl q932) q934 q933 rfl (lw_all_tbl q935) (lw_all_tbl q937) q938 q936 q773 ⟨⟨by decide, by decide⟩, by decide +kernel⟩ rfl (sx_zl hS (z := z) ⟨(by first | omega | (simp (disch := omega) only [upi_n]; omega)), (by first | omega | (simp (disch := omega) only [upi_n]; omega))⟩) (Nat.le_of_ble_eq_true rfl) ⟨Nat.zero_le _, Nat.zero_le _⟩ (Nat.le_of_ble_eq_true rfl)) (fun x67 h ⟨ex67, hS⟩ => ?_)
    subst ex67
    refine v_pop (pc := 72) dX3_enter_72 rfl ?_
    refine v_ret_v (pc := 73) dX3_enter_73 rfl ?_
    exact qv_ok (by rw [← xEnter_eq (by omega) (by omega) (by omega)]; unfold xEnter; dsimp only; first | (rw [if_pos c22]; exact hS) | (rw [if_neg c22]; exact hS))
theorem sp_X4_empty {Γ : Cx} {t : Nat} {α : Int → Nat} {h0 h : AH} {w x : Int → Int} {z : Int} (hS : SX Γ t α h0 h w x) (hz : 0 ≤ z ∧ z < w 0) : Sp Γ yX4_empty mX4_empty 2 0 0 [.ref (α (40 + z))] h (Qv (fun h9 => SX Γ t α h0 h9 (let a := upi (upi (upi w (1706 + 13 * z + 0) (-1)) (1706 + 13 * z + 1) 0) (1706 + 13 * z + 3) 0; upi a (1706 + 13 * z + 2) (a (1706 + 13 * z + 2) + 1)) (upi x (410 + z) (x (410 + z) + 1)))) NoX := by
  refine sp_of okX4_empty (cat_all rfl) (Nat.le_of_ble_eq_true rfl) rfl ?_
  refine v_ald0 (pc := 0) dX4_empty_0 ?_
  refine v_iconst (pc := 1) dX4_empty_1 ?_
  refine v_ptZO_window hS (pc := 2) dX4_empty_2 (lw_all_tbl q574) ⟨(by first | omega | (simp (disch := omega) only [upi_n]; omega)), (by first | omega | (simp (disch := omega) only [upi_n]; omega))⟩ (fun h hS => ?_)
  refine v_ald0 (pc := 5) dX4_empty_5 ?_
  refine v_iconst (pc := 6) dX4_empty_6 ?_
  refine v_ptZO_filled hS (pc := 7) dX4_empty_7 (lw_all_tbl q577) ⟨(by first | omega | (simp (disch := omega) only [upi_n]; omega)), (by first | omega | (simp (disch := omega) only [upi_n]; omega))⟩ (fun h hS => ?_)
  refine v_ald0 (pc := 10) dX4_empty_10 ?_
  refine v_getf KX4 3 (pc := 11) dX4_empty_11 (lw_all_tbl q584) (Or.inl rfl) (Nat.le_of_ble_eq_true rfl) (sx_zone hS (z := z) ⟨(by first | omega | (simp (disch := omega) only [upi_n]; omega)), (by first | omega | (simp (disch := omega) only [upi_n]; omega))⟩) rfl ?_
  refine v_cv0 (pc := 14) (v_runF0 okJ2_clear rfl (sp_zclr hS (z := z) ⟨(by first | omega | (simp (disch := omega) only [upi_n]; omega)), (by first | omega | (simp (disch := omega) only [upi_n]; omega))⟩) dX4_empty_14 (lw_all_tbl q1036) q1038 q1037 rfl (lw_all_tbl q1039) (lw_all_tbl q1041) q1042 q1040 q773 ⟨⟨by decide, by decide⟩, by decide +kernel⟩ rfl (sx_zl hS (z := z) ⟨(by first | omega | (simp (disch := omega) only [upi_n]; omega)), (by first | omega | (simp (disch := omega) only [upi_n]; omega))⟩) (Nat.le_of_ble_eq_true rfl) ⟨Nat.zero_le _, Nat.zero_le _⟩ (Nat.le_of_ble_eq_true rfl)) (fun h hS => ?_)
  refine v_ald0 (pc := 19) dX4_empty_19 ?_
  refine v_dup (pc := 20) dX4_empty_20 rfl ?_
  refine v_getf KX4 2 (pc := 21) dX4_empty_21 (lw_all_tbl q582) (Or.inl rfl) (Nat.le_of_ble_eq_true rfl) (sx_zone hS (z := z) ⟨(by first | omega | (simp (disch := omega) only [upi_n]; omega)), (by first | omega | (simp (disch := omega) only [upi_n]; omega))⟩) rfl ?_
  refine v_iconst (pc := 24) dX4_empty_24 ?_
  refine v_iadd (pc := 25) dX4_empty_25 ?_
  refine v_ptZO_resets hS (pc := 26) dX4_empty_26 (lw_all_tbl q582) ⟨(by first | omega | (simp (disch := omega) only [upi_n]; omega)), (by first | omega | (simp (disch := omega) only [upi_n]; omega))⟩ (fun h hS => ?_)
  refine v_ret_v (pc := 29) dX4_empty_29 rfl ?_
  exact qv_ok hS
theorem sp_X3_clearZone {Γ : Cx} {t : Nat} {α : Int → Nat} {h0 h : AH} {w x : Int → Int} {z : Int} (hS : SX Γ t α h0 h w x) (hz : 0 ≤ z ∧ z < w 0) : Sp Γ yX3_clearZone mX3_clearZone 3 0 0 [.ref (α 0), vi z] h (Qv (fun h9 => SX Γ t α h0 h9 (mResets w z) (upi x (410 + z) (x (410 + z) + 1)))) NoX := by
  refine sp_of okX3_clearZone (cat_all rfl) (Nat.le_of_ble_eq_true rfl) rfl ?_
  refine v_ald0 (pc := 0) dX3_clearZone_0 ?_
  refine v_getf KX3 10 (pc := 1) dX3_clearZone_1 (lw_all_tbl q616) (Or.inl rfl) (Nat.le_of_ble_eq_true rfl) (sx_obj hS) rfl ?_
  refine v_ild1 (pc := 4) dX3_clearZone_4 ?_
  refine v_ldS_zones hS (z := z) (pc := 5) dX3_clearZone_5 ⟨(by first | omega | (simp (disch := omega) only [upi_n]; omega)), (by first | omega | (simp (disch := omega) only [upi_n]; omega))⟩ ?_
  refine v_cv0 (pc := 6) (v_runV0 okX4_empty rfl (sp_X4_empty hS (by omega)) dX3_clearZone_6 (lw_all_tbl q1031) (lw_all_tbl q1032) (lw_all_tbl q1033) rfl (sx_zone hS (z := z) ⟨(by first | omega | (simp (disch := omega) only [upi_n]; omega)), (by first | omega | (simp (disch := omega) only [upi_n]; omega))⟩) (Nat.le_of_ble_eq_true rfl) ⟨Nat.zero_le _, Nat.zero_le _⟩ (Nat.le_of_ble_eq_true rfl)) (fun h hS => ?_)
  refine v_ald0 (pc := 9) dX3_clearZone_9 ?_
  refine v_dup (pc := 10) dX3_clearZone_10 rfl ?_
  refine v_getf KX3 6 (pc := 11) dX3_clearZone_11 (lw_all_tbl q607) (Or.inl rfl) (Nat.le_of_ble_eq_true rfl) (sx_obj hS) rfl ?_
  refine v_iconst (pc := 14) dX3_clearZone_14 ?_
  refine v_iadd (pc := 15) dX3_clearZone_15 ?_
  refine v_ptS_resets hS (pc := 16) dX3_clearZone_16 (lw_all_tbl q607) (fun h hS => ?_)
  refine v_ret_v (pc := 19) dX3_clearZone_19 rfl ?_
  exact qv_ok hS
