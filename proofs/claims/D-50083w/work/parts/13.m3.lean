/-! FlashZonesModel: walks, 3 (printed by gen) -/
set_option maxRecDepth 100000
theorem sp_X5_buries {Γ : Cx} {t : Nat} {α : Nat → Nat} {h0 h : AH} {thrown : Int} {now : Int → Int} {aside : Int → Int} {tried : Int → Int} {undos : Int → Int} {undoMany : Int} {saved : Int → Int} {isSaved : Int → Int} {accounts : Int → Int} {way : Int} {leftOut : Int} {here : Int → Int} {text : Int → Int} {length : Int} {atp : Int} {frm : Int} {token : Int} {number : Int} {error : Int} {errorAt : Int} {commands : Int} {command : Int → Int} {out : Int → Int} {outLong : Int} {c : Int} {ca z : Int} (hM : MW t α h0 h thrown now aside tried undos undoMany saved isSaved accounts way leftOut here text length atp frm token number error errorAt commands command out outLong) (hR : ROK now c) (hz : 0 ≤ z ∧ z ≤ 11) (hway : 0 ≤ way ∧ way ≤ 6) (hka : way = 6 → ROK aside ca ∧ ∀ u, 0 ≤ u ∧ u < now 7 → 0 ≤ now (23 + 17 * u + 16) ∧ now (23 + 17 * u + 16) < aside 7) (hc : c + 100 ≤ 14000000) : Sp Γ yX5_buries mX5_buries 7 0 0 [.ref (α 0), vi z] h (Qi (fun x h' => (x = 1 ∧ ∃ w', mBuries now aside way z = some w' ∧ MW t α h0 h' thrown w' aside ((cpy now 0 tried 0)) undos undoMany saved isSaved accounts way leftOut here text length atp frm token number error errorAt commands command out outLong) ∨ (x = 0 ∧ mBuries now aside way z = none ∧ MW t α h0 h' thrown now aside ((cpy now 0 tried 0)) undos undoMany saved isSaved accounts way leftOut here text length atp frm token number error errorAt commands command out outLong))) NoX := by
  refine sp_of okX5_buries (cat_all rfl) (Nat.le_of_ble_eq_true rfl) rfl ?_
  have h7 := hR.s7
  have hc0 := hR.c0
  have hlr := mLeader_r (w := now) hway
  have hm0 := mLivIn_r now z (k := now 7) (by omega)
  have L27 : ∀ (n9 : Nat) (h1 : AH) (now1 : Int → Int) (liv : Int) (u : Int), (now 7 - u).toNat = n9 → (MW t α h0 h1 thrown now1 aside ((cpy now 0 tried 0)) undos undoMany saved isSaved accounts way leftOut here text length atp frm token number error errorAt commands command out outLong) → (0 ≤ u ∧ u ≤ now 7) → (mBurL now aside (mLeader now way) z u = some now1) → (liv = mLivIn now1 z (now 7) - mLivIn now1 z u) → V Γ mX5_buries 7 0 0 (Qi (fun x h' => (x = 1 ∧ ∃ w', mBuries now aside way z = some w' ∧ MW t α h0 h' thrown w' aside ((cpy now 0 tried 0)) undos undoMany saved isSaved accounts way leftOut here text length atp frm token number error errorAt commands command out outLong) ∨ (x = 0 ∧ mBuries now aside way z = none ∧ MW t α h0 h' thrown now aside ((cpy now 0 tried 0)) undos undoMany saved isSaved accounts way leftOut here text length atp frm token number error errorAt commands command out outLong))) (NoX) h1 0 0 27 [some (.ref (α 0)), some (vi z), some (vi liv), some (vi (mLeader now way)), some (vi u), none, none, none, none] [] := by
    intro n9
    induction n9 using Nat.strongRecOn with
    | _ n9 ih =>
      intro h1 now1 liv u hn9 hM hu hf hl
      obtain ⟨hR1, hfr⟩ := mBurL_inv hR (by omega) u hu.1 hu.2 now1 hf
      have f7 := hfr 7 (Or.inl ⟨by omega, by omega, fun x hx => by omega⟩)
      have hli := liv_mono (w := now1) (z := z) (a := u) (n := now 7) (by omega) (by omega)
      have hcr := hR1.c0
      have hlr1 := mLivIn_r now1 z (k := now 7) (by omega)
      have hlr2 := mLivIn_r now1 z (k := u) (by omega)
      have h61 := hR1.s6
      have h21 := hR1.s2
      have h01 := hR1.s0
      have h11 := hR1.s1
      refine v_ild4 (pc := 27) dX5_buries_27 ?_
      refine v_ald0 (pc := 29) dX5_buries_29 ?_
      refine v_getf KX5 1 (pc := 30) dX5_buries_30 (lw_all_tbl q1995) (Or.inl rfl) (Nat.le_of_ble_eq_true rfl) (mw_obj hM) rfl ?_
      refine v_bipush (pc := 33) dX5_buries_33 ⟨by decide, by decide⟩ ?_
      refine v_ldM_now hM (pc := 35) dX5_buries_35 (by omega) ?_
      refine v_icmp_ge (pc := 36) (tgt := 256) dX5_buries_36 rfl (by omega) (by omega) (fun c36 => ?_) (fun c36 => ?_)
      · have hend : mBurL now aside (mLeader now way) z (now 7) = some now1 := by rw [← hf, show u = now 7 by omega]
        refine v_ald0 (pc := 256) dX5_buries_256 ?_
        refine v_ild1 (pc := 257) dX5_buries_257 ?_
        refine v_cv0 (pc := 258) (v_runV1 okX5_resets rfl (sp_X5_resets hM (by omega)) dX5_buries_258 (lw_all_tbl q2312) (lw_all_tbl q2314) (lw_all_tbl qs83) rfl (mw_obj hM) (Nat.le_of_ble_eq_true rfl) ⟨Nat.zero_le _, Nat.zero_le _⟩ (Nat.le_of_ble_eq_true rfl)) (fun h hM => ?_)
        refine v_iconst (pc := 261) dX5_buries_261 ?_
        refine v_ret_z1 (pc := 262) dX5_buries_262 rfl ?_
        exact qi_ok (Or.inl ⟨rfl, _, by unfold mBuries; rw [hend], hM⟩)
      · have hlv := hR1.uLv u ⟨by omega, by omega⟩
        have hwh := hR1.uWh u ⟨by omega, by omega⟩
        refine v_ild2 (pc := 39) dX5_buries_39 ?_
        refine v_if_le (pc := 40) (tgt := 256) dX5_buries_40 rfl (by omega) (fun c40 => ?_) (fun c40 => ?_)
        · have hend : mBurL now aside (mLeader now way) z (now 7) = some now1 := fI_stay hu.1 hu.2 hf (fun j hj1 hj2 => by simp only [mBurF]; rw [if_neg (hli.2 (by omega) j ⟨hj1, hj2⟩)])
          refine v_ald0 (pc := 256) dX5_buries_256 ?_
          refine v_ild1 (pc := 257) dX5_buries_257 ?_
          refine v_cv0 (pc := 258) (v_runV1 okX5_resets rfl (sp_X5_resets hM (by omega)) dX5_buries_258 (lw_all_tbl q2312) (lw_all_tbl q2314) (lw_all_tbl qs83) rfl (mw_obj hM) (Nat.le_of_ble_eq_true rfl) ⟨Nat.zero_le _, Nat.zero_le _⟩ (Nat.le_of_ble_eq_true rfl)) (fun h hM => ?_)
          refine v_iconst (pc := 261) dX5_buries_261 ?_
          refine v_ret_z1 (pc := 262) dX5_buries_262 rfl ?_
          exact qi_ok (Or.inl ⟨rfl, _, by unfold mBuries; rw [hend], hM⟩)
        · have hwt := hR1.uWt u ⟨by omega, by omega⟩
          have hwr := hR1.uWr u ⟨by omega, by omega⟩
          have hsz := hR1.uSz u ⟨by omega, by omega⟩
          have hmv := hR1.uMv u ⟨by omega, by omega⟩
          refine v_ald0 (pc := 43) dX5_buries_43 ?_
          refine v_ild4 (pc := 44) dX5_buries_44 ?_
          refine v_cb0 (pc := 46) (v_runV1 okX5_lives rfl (sp_X5_lives hM (by omega) (by omega)) dX5_buries_46 (lw_all_tbl q2100) (lw_all_tbl q2102) (lw_all_tbl qs50) rfl (mw_obj hM) (Nat.le_of_ble_eq_true rfl) ⟨Nat.zero_le _, Nat.zero_le _⟩ (Nat.le_of_ble_eq_true rfl)) (fun c46 => ?_) (fun c46 => ?_)
          · refine v_if_eq1 (pc := 49) (tgt := 250) dX5_buries_49 rfl ?_
            refine v_ald0 (pc := 52) dX5_buries_52 ?_
            refine v_ild4 (pc := 53) dX5_buries_53 ?_
            refine v_iconst (pc := 55) dX5_buries_55 ?_
            refine v_ce0 (pc := 56) (v_runV2 okX5_ofUnit rfl (sp_X5_ofUnit hM (by omega) (by omega)) dX5_buries_56 (lw_all_tbl q2104) (lw_all_tbl q2106) (lw_all_tbl qs51) rfl (mw_obj hM) (Nat.le_of_ble_eq_true rfl) ⟨Nat.zero_le _, Nat.zero_le _⟩ (Nat.le_of_ble_eq_true rfl)) ?_
            refine v_ild1 (pc := 59) dX5_buries_59 ?_
            refine v_icmp_eq (pc := 60) (tgt := 66) dX5_buries_60 rfl (by omega) (by omega) (fun c60 => ?_) (fun c60 => ?_)
            · refine v_iinc2 (pc := 66) dX5_buries_66 rfl ?_
              refine v_ild4 (pc := 69) dX5_buries_69 ?_
              refine v_ce0 (pc := 71) (v_runS1 okX5_unitAt rfl (sp_X5_unitAt) dX5_buries_71 (lw_all_tbl q2108) (lw_all_tbl q2109) (Nat.le_of_ble_eq_true rfl) ⟨Nat.zero_le _, Nat.zero_le _⟩ (Nat.le_of_ble_eq_true rfl)) ?_
              refine v_ist5 (pc := 74) dX5_buries_74 rfl ?_
              refine v_ald0 (pc := 76) dX5_buries_76 ?_
              refine v_getf KX5 1 (pc := 77) dX5_buries_77 (lw_all_tbl q1995) (Or.inl rfl) (Nat.le_of_ble_eq_true rfl) (mw_obj hM) rfl ?_
              refine v_ild5 (pc := 80) dX5_buries_80 ?_
              refine v_iconst (pc := 82) dX5_buries_82 ?_
              refine v_iadd (pc := 83) dX5_buries_83 ?_
              refine v_ldM_now hM (pc := 84) dX5_buries_84 (by omega) ?_
              refine v_ald0 (pc := 85) dX5_buries_85 ?_
              refine v_ild3 (pc := 86) dX5_buries_86 ?_
              refine v_ald0 (pc := 87) dX5_buries_87 ?_
              refine v_getf KX5 1 (pc := 88) dX5_buries_88 (lw_all_tbl q1995) (Or.inl rfl) (Nat.le_of_ble_eq_true rfl) (mw_obj hM) rfl ?_
              refine v_ild5 (pc := 91) dX5_buries_91 ?_
              refine v_iconst (pc := 93) dX5_buries_93 ?_
              refine v_iadd (pc := 94) dX5_buries_94 ?_
              refine v_ldM_now hM (pc := 95) dX5_buries_95 (by omega) ?_
              refine v_ald0 (pc := 96) dX5_buries_96 ?_
              refine v_getf KX5 1 (pc := 97) dX5_buries_97 (lw_all_tbl q1995) (Or.inl rfl) (Nat.le_of_ble_eq_true rfl) (mw_obj hM) rfl ?_
              refine v_ild5 (pc := 100) dX5_buries_100 ?_
              refine v_iconst (pc := 102) dX5_buries_102 ?_
              refine v_iadd (pc := 103) dX5_buries_103 ?_
              refine v_ldM_now hM (pc := 104) dX5_buries_104 (by omega) ?_
              refine v_ald0 (pc := 105) dX5_buries_105 ?_
              refine v_getf KX5 1 (pc := 106) dX5_buries_106 (lw_all_tbl q1995) (Or.inl rfl) (Nat.le_of_ble_eq_true rfl) (mw_obj hM) rfl ?_
              refine v_ild5 (pc := 109) dX5_buries_109 ?_
              refine v_bipush (pc := 111) dX5_buries_111 ⟨by decide, by decide⟩ ?_
              refine v_iadd (pc := 113) dX5_buries_113 ?_
              refine v_ldM_now hM (pc := 114) dX5_buries_114 (by omega) ?_
              refine v_ce0 (pc := 115) (v_runV4 okX5_ledBy rfl (sp_X5_ledBy hM hR1 (fun q => by obtain ⟨k1, k2⟩ := hka (mLeader_6 q); have k3 := k2 u (by omega); have k4 := hfr (23 + 17 * u + 16) (Or.inl ⟨by omega, by omega, fun x hx => by omega⟩); exact ⟨k1, by omega⟩) (by omega) (by omega) (by omega)) dX5_buries_115 (lw_all_tbl q2264) (lw_all_tbl q2266) (lw_all_tbl qs71) rfl (mw_obj hM) (Nat.le_of_ble_eq_true rfl) ⟨Nat.zero_le _, Nat.zero_le _⟩ (Nat.le_of_ble_eq_true rfl)) ?_
              have hled := mLed_r now1 aside (mLeader now way) (now1 (23 + 17 * u + 0)) (now1 (23 + 17 * u + 1)) (now1 (23 + 17 * u + 16))
              obtain ⟨led, hledE⟩ : ∃ led, led = mLed now1 aside (mLeader now way) (now1 (23 + 17 * u + 0)) (now1 (23 + 17 * u + 1)) (now1 (23 + 17 * u + 16)) := ⟨_, rfl⟩
              rw [← hledE] at hled ⊢
              refine v_iadd (pc := 118) dX5_buries_118 ?_
              refine v_ist6 (pc := 119) dX5_buries_119 rfl ?_
              refine v_ald0 (pc := 121) dX5_buries_121 ?_
              refine v_getf KX5 1 (pc := 122) dX5_buries_122 (lw_all_tbl q1995) (Or.inl rfl) (Nat.le_of_ble_eq_true rfl) (mw_obj hM) rfl ?_
              refine v_ild5 (pc := 125) dX5_buries_125 ?_
              refine v_bipush (pc := 127) dX5_buries_127 ⟨by decide, by decide⟩ ?_
              refine v_iadd (pc := 129) dX5_buries_129 ?_
              refine v_ild6 (pc := 130) dX5_buries_130 ?_
              refine v_ald0 (pc := 132) dX5_buries_132 ?_
              refine v_getf KX5 1 (pc := 133) dX5_buries_133 (lw_all_tbl q1995) (Or.inl rfl) (Nat.le_of_ble_eq_true rfl) (mw_obj hM) rfl ?_
              refine v_bipush (pc := 136) dX5_buries_136 ⟨by decide, by decide⟩ ?_
              refine v_ldM_now hM (pc := 138) dX5_buries_138 (by omega) ?_
              refine v_icmp_le (pc := 139) (tgt := 147) dX5_buries_139 rfl (by omega) (by omega) (fun c139 => ?_) (fun c139 => ?_)
              · refine v_ald0 (pc := 147) dX5_buries_147 ?_
                refine v_getf KX5 1 (pc := 148) dX5_buries_148 (lw_all_tbl q1995) (Or.inl rfl) (Nat.le_of_ble_eq_true rfl) (mw_obj hM) rfl ?_
                refine v_bipush (pc := 151) dX5_buries_151 ⟨by decide, by decide⟩ ?_
                refine v_ldM_now hM (pc := 153) dX5_buries_153 (by omega) ?_
                refine v_iconst (pc := 154) dX5_buries_154 ?_
                refine v_iadd (pc := 155) dX5_buries_155 ?_
                refine v_stM_now hM (pc := 156) dX5_buries_156 (by omega) (fun h hM => ?_)
                obtain ⟨w1, hw1⟩ : ∃ w1, w1 = upi now1 (23 + 17 * u + 6) (if now1 6 < now1 (23 + 17 * u + 3) + led then now1 (23 + 17 * u + 3) + led else now1 6 + 1) := ⟨_, rfl⟩
                replace hM : MW t α h0 h thrown w1 aside ((cpy now 0 tried 0)) undos undoMany saved isSaved accounts way leftOut here text length atp frm token number error errorAt commands command out outLong := by rw [hw1]; first | (rw [if_pos (by omega)]; exact hM) | (rw [if_neg (by omega)]; exact hM)
                have hG : 0 ≤ (if now1 6 < now1 (23 + 17 * u + 3) + led then now1 (23 + 17 * u + 3) + led else now1 6 + 1) ∧ (if now1 6 < now1 (23 + 17 * u + 3) + led then now1 (23 + 17 * u + 3) + led else now1 6 + 1) ≤ c + u + 1 + 200 := by split <;> omega
                have hg1 : ROK w1 (c + u + 1) := hw1 ▸ guess_ok hR1 (by omega) hG (by omega) (by omega)
                have v6 : w1 (23 + 17 * u + 6) = (if now1 6 < now1 (23 + 17 * u + 3) + led then now1 (23 + 17 * u + 3) + led else now1 6 + 1) := by rw [hw1]; exact upi_s _ _ _
                rw [← v6] at hG
                have v2 : w1 2 = now1 2 := by rw [hw1]; exact upi_n (by omega)
                have v1 : w1 (23 + 17 * u + 1) = now1 (23 + 17 * u + 1) := by rw [hw1]; exact upi_n (by omega)
                have v0 : w1 0 = now1 0 := by rw [hw1]; exact upi_n (by omega)
                have hq := tdiv_rng (a := w1 (23 + 17 * u + 6)) (b := w1 2) (by omega) (by omega)
                have hzr := mZoneFor_r (w := w1) (win := (w1 (23 + 17 * u + 6)).tdiv (w1 2)) (size := w1 (23 + 17 * u + 1)) (but := z) (by omega)
                have hg11 := hg1.s1
                refine v_ald0 (pc := 157) dX5_buries_157 ?_
                refine v_getf KX5 1 (pc := 158) dX5_buries_158 (lw_all_tbl q1995) (Or.inl rfl) (Nat.le_of_ble_eq_true rfl) (mw_obj hM) rfl ?_
                refine v_ild5 (pc := 161) dX5_buries_161 ?_
                refine v_bipush (pc := 163) dX5_buries_163 ⟨by decide, by decide⟩ ?_
                refine v_iadd (pc := 165) dX5_buries_165 ?_
                refine v_ldM_now hM (pc := 166) dX5_buries_166 (by omega) ?_
                refine v_ald0 (pc := 167) dX5_buries_167 ?_
                refine v_getf KX5 1 (pc := 168) dX5_buries_168 (lw_all_tbl q1995) (Or.inl rfl) (Nat.le_of_ble_eq_true rfl) (mw_obj hM) rfl ?_
                refine v_iconst (pc := 171) dX5_buries_171 ?_
                refine v_ldM_now hM (pc := 172) dX5_buries_172 (by omega) ?_
                refine v_idiv (pc := 173) dX5_buries_173 (by omega) (by omega) (by omega) ?_
                refine v_ist7 (pc := 174) dX5_buries_174 rfl ?_
                refine v_ald0 (pc := 176) dX5_buries_176 ?_
                refine v_ild7 (pc := 177) dX5_buries_177 ?_
                refine v_ald0 (pc := 179) dX5_buries_179 ?_
                refine v_getf KX5 1 (pc := 180) dX5_buries_180 (lw_all_tbl q1995) (Or.inl rfl) (Nat.le_of_ble_eq_true rfl) (mw_obj hM) rfl ?_
                refine v_ild5 (pc := 183) dX5_buries_183 ?_
                refine v_iconst (pc := 185) dX5_buries_185 ?_
                refine v_iadd (pc := 186) dX5_buries_186 ?_
                refine v_ldM_now hM (pc := 187) dX5_buries_187 (by omega) ?_
                refine v_ild1 (pc := 188) dX5_buries_188 ?_
                refine v_ce0 (pc := 189) (v_runV3 okX5_zoneFor rfl (sp_X5_zoneFor hM hg1 (by omega) (by omega) (by omega)) dX5_buries_189 (lw_all_tbl q2272) (lw_all_tbl q2274) (lw_all_tbl qs73) rfl (mw_obj hM) (Nat.le_of_ble_eq_true rfl) ⟨Nat.zero_le _, Nat.zero_le _⟩ (Nat.le_of_ble_eq_true rfl)) ?_
                refine v_ist8 (pc := 192) dX5_buries_192 rfl ?_
                refine v_ild8 (pc := 194) dX5_buries_194 ?_
                refine v_iconst (pc := 196) dX5_buries_196 ?_
                refine v_icmp_ne (pc := 197) (tgt := 215) dX5_buries_197 rfl (by omega) (by omega) (fun c197 => ?_) (fun c197 => ?_)
                · obtain ⟨hel1, hel2⟩ := mZoneFor_el (w := w1) (win := (w1 (23 + 17 * u + 6)).tdiv (w1 2)) (size := w1 (23 + 17 * u + 1)) (but := z) (by omega) c197
                  have hst := mBurStep_some (congrArg (fun x => now1 (23 + 17 * u + 3) + x) hledE) hw1 c197
                  obtain ⟨-, b2, -⟩ := mBurStep_ok hR1 (by omega) (by omega) (by omega) hst
                  have hsm := liv_same (w := now1) (z := z) (a := u + 1) (n := now 7) (by omega) (by omega) (fun j hj => ⟨b2 (23 + 17 * j + 4) (by omega), b2 (23 + 17 * j + 5) (by omega)⟩)
                  have hs1 := mLivIn_s (w := now1) (z := z) hu.1
                  rw [if_pos (by omega)] at hs1
                  have hzw := hg1.zW _ (show 0 ≤ mZoneFor w1 ((w1 (23 + 17 * u + 6)).tdiv (w1 2)) (w1 (23 + 17 * u + 1)) z ∧ mZoneFor w1 ((w1 (23 + 17 * u + 6)).tdiv (w1 2)) (w1 (23 + 17 * u + 1)) z ≤ 11 by omega)
                  have hzm := hg1.zM _ (show 0 ≤ mZoneFor w1 ((w1 (23 + 17 * u + 6)).tdiv (w1 2)) (w1 (23 + 17 * u + 1)) z ∧ mZoneFor w1 ((w1 (23 + 17 * u + 6)).tdiv (w1 2)) (w1 (23 + 17 * u + 1)) z ≤ 11 by omega)
                  refine v_ald0 (pc := 215) dX5_buries_215 ?_
                  refine v_ild4 (pc := 216) dX5_buries_216 ?_
                  refine v_ild8 (pc := 218) dX5_buries_218 ?_
                  refine v_ild7 (pc := 220) dX5_buries_220 ?_
                  refine v_cv0 (pc := 222) (v_runV3 okX5_puts rfl (sp_X5_puts hM (by omega) (by omega) (by omega) (by omega)) dX5_buries_222 (lw_all_tbl q2288) (lw_all_tbl q2290) (lw_all_tbl qs77) rfl (mw_obj hM) (Nat.le_of_ble_eq_true rfl) ⟨Nat.zero_le _, Nat.zero_le _⟩ (Nat.le_of_ble_eq_true rfl)) (fun h hM => ?_)
                  refine v_ald0 (pc := 225) dX5_buries_225 ?_
                  refine v_getf KX5 1 (pc := 226) dX5_buries_226 (lw_all_tbl q1995) (Or.inl rfl) (Nat.le_of_ble_eq_true rfl) (mw_obj hM) rfl ?_
                  refine v_ild5 (pc := 229) dX5_buries_229 ?_
                  refine v_bipush (pc := 231) dX5_buries_231 ⟨by decide, by decide⟩ ?_
                  refine v_iadd (pc := 233) dX5_buries_233 ?_
                  refine v_dup2 (pc := 234) dX5_buries_234 rfl rfl ?_
                  refine v_ldM_now hM (pc := 235) dX5_buries_235 (by omega) ?_
                  refine v_iconst (pc := 236) dX5_buries_236 ?_
                  refine v_iadd (pc := 237) dX5_buries_237 ?_
                  refine v_stM_now hM (pc := 238) dX5_buries_238 (by omega) (fun h hM => ?_)
                  refine v_ald0 (pc := 239) dX5_buries_239 ?_
                  refine v_getf KX5 1 (pc := 240) dX5_buries_240 (lw_all_tbl q1995) (Or.inl rfl) (Nat.le_of_ble_eq_true rfl) (mw_obj hM) rfl ?_
                  refine v_bipush (pc := 243) dX5_buries_243 ⟨by decide, by decide⟩ ?_
                  refine v_dup2 (pc := 245) dX5_buries_245 rfl rfl ?_
                  refine v_ldM_now hM (pc := 246) dX5_buries_246 (by omega) ?_
                  refine v_iconst (pc := 247) dX5_buries_247 ?_
                  refine v_iadd (pc := 248) dX5_buries_248 ?_
                  refine v_stM_now hM (pc := 249) dX5_buries_249 (by omega) (fun h hM => ?_)
                  refine v_iinc4 (pc := 250) dX5_buries_250 rfl ?_
                  refine v_goto (pc := 253) (tgt := 27) dX5_buries_253 rfl ?_
                  refine v_forget 5 ?_
                  refine v_forget 6 ?_
                  refine v_forget 7 ?_
                  refine v_forget 8 ?_
                  exact ih _ (by omega) _ _ _ _ rfl hM (by omega) (by rw [mBurL_s (by omega), hf]; simp only [mBurF]; first | rw [if_neg (by omega)] | (rw [if_pos (by omega)]; exact hst)) (by first | (rw [mLivIn_s (by omega), if_neg (by omega)]; exact hl) | omega)
                · refine v_ald0 (pc := 200) dX5_buries_200 ?_
                  refine v_getf KX5 3 (pc := 201) dX5_buries_201 (lw_all_tbl q1997) (Or.inl rfl) (Nat.le_of_ble_eq_true rfl) (mw_obj hM) rfl ?_
                  refine v_iconst (pc := 204) dX5_buries_204 ?_
                  refine v_ald0 (pc := 205) dX5_buries_205 ?_
                  refine v_getf KX5 1 (pc := 206) dX5_buries_206 (lw_all_tbl q1995) (Or.inl rfl) (Nat.le_of_ble_eq_true rfl) (mw_obj hM) rfl ?_
                  refine v_iconst (pc := 209) dX5_buries_209 ?_
                  refine v_cv0 (pc := 210) (v_runS4 okX5_copies rfl (sp_cp_tried_now hM) dX5_buries_210 (lw_all_tbl q2253) (lw_all_tbl q2254) (Nat.le_of_ble_eq_true rfl) ⟨Nat.zero_le _, Nat.zero_le _⟩ (Nat.le_of_ble_eq_true rfl)) (fun h hM => ?_)
                  refine v_iconst (pc := 213) dX5_buries_213 ?_
                  refine v_ret_z0 (pc := 214) dX5_buries_214 rfl ?_
                  rw [cpy_back hR.sup hg1.sup] at hM
                  have hno : mBurL now aside (mLeader now way) z (u + 1) = none := by rw [mBurL_s hu.1, hf]; simp only [mBurF]; rw [if_pos (by omega)]; exact mBurStep_none (congrArg (fun x => now1 (23 + 17 * u + 3) + x) hledE) hw1 c197
                  have hno2 : mBurL now aside (mLeader now way) z (now 7) = none := fI_stay (by omega) (by omega) hno (fun _ _ _ => rfl)
                  exact qi_ok (Or.inr ⟨rfl, by unfold mBuries; rw [hno2], hM⟩)
              · refine v_ild6 (pc := 142) dX5_buries_142 ?_
                refine v_goto (pc := 144) (tgt := 156) dX5_buries_144 rfl ?_
                refine v_stM_now hM (pc := 156) dX5_buries_156 (by omega) (fun h hM => ?_)
                obtain ⟨w1, hw1⟩ : ∃ w1, w1 = upi now1 (23 + 17 * u + 6) (if now1 6 < now1 (23 + 17 * u + 3) + led then now1 (23 + 17 * u + 3) + led else now1 6 + 1) := ⟨_, rfl⟩
                replace hM : MW t α h0 h thrown w1 aside ((cpy now 0 tried 0)) undos undoMany saved isSaved accounts way leftOut here text length atp frm token number error errorAt commands command out outLong := by rw [hw1]; first | (rw [if_pos (by omega)]; exact hM) | (rw [if_neg (by omega)]; exact hM)
                have hG : 0 ≤ (if now1 6 < now1 (23 + 17 * u + 3) + led then now1 (23 + 17 * u + 3) + led else now1 6 + 1) ∧ (if now1 6 < now1 (23 + 17 * u + 3) + led then now1 (23 + 17 * u + 3) + led else now1 6 + 1) ≤ c + u + 1 + 200 := by split <;> omega
                have hg1 : ROK w1 (c + u + 1) := hw1 ▸ guess_ok hR1 (by omega) hG (by omega) (by omega)
                have v6 : w1 (23 + 17 * u + 6) = (if now1 6 < now1 (23 + 17 * u + 3) + led then now1 (23 + 17 * u + 3) + led else now1 6 + 1) := by rw [hw1]; exact upi_s _ _ _
                rw [← v6] at hG
                have v2 : w1 2 = now1 2 := by rw [hw1]; exact upi_n (by omega)
                have v1 : w1 (23 + 17 * u + 1) = now1 (23 + 17 * u + 1) := by rw [hw1]; exact upi_n (by omega)
                have v0 : w1 0 = now1 0 := by rw [hw1]; exact upi_n (by omega)
                have hq := tdiv_rng (a := w1 (23 + 17 * u + 6)) (b := w1 2) (by omega) (by omega)
                have hzr := mZoneFor_r (w := w1) (win := (w1 (23 + 17 * u + 6)).tdiv (w1 2)) (size := w1 (23 + 17 * u + 1)) (but := z) (by omega)
                have hg11 := hg1.s1
                refine v_ald0 (pc := 157) dX5_buries_157 ?_
                refine v_getf KX5 1 (pc := 158) dX5_buries_158 (lw_all_tbl q1995) (Or.inl rfl) (Nat.le_of_ble_eq_true rfl) (mw_obj hM) rfl ?_
                refine v_ild5 (pc := 161) dX5_buries_161 ?_
                refine v_bipush (pc := 163) dX5_buries_163 ⟨by decide, by decide⟩ ?_
                refine v_iadd (pc := 165) dX5_buries_165 ?_
                refine v_ldM_now hM (pc := 166) dX5_buries_166 (by omega) ?_
                refine v_ald0 (pc := 167) dX5_buries_167 ?_
                refine v_getf KX5 1 (pc := 168) dX5_buries_168 (lw_all_tbl q1995) (Or.inl rfl) (Nat.le_of_ble_eq_true rfl) (mw_obj hM) rfl ?_
                refine v_iconst (pc := 171) dX5_buries_171 ?_
                refine v_ldM_now hM (pc := 172) dX5_buries_172 (by omega) ?_
                refine v_idiv (pc := 173) dX5_buries_173 (by omega) (by omega) (by omega) ?_
                refine v_ist7 (pc := 174) dX5_buries_174 rfl ?_
                refine v_ald0 (pc := 176) dX5_buries_176 ?_
                refine v_ild7 (pc := 177) dX5_buries_177 ?_
                refine v_ald0 (pc := 179) dX5_buries_179 ?_
                refine v_getf KX5 1 (pc := 180) dX5_buries_180 (lw_all_tbl q1995) (Or.inl rfl) (Nat.le_of_ble_eq_true rfl) (mw_obj hM) rfl ?_
                refine v_ild5 (pc := 183) dX5_buries_183 ?_
                refine v_iconst (pc := 185) dX5_buries_185 ?_
                refine v_iadd (pc := 186) dX5_buries_186 ?_
                refine v_ldM_now hM (pc := 187) dX5_buries_187 (by omega) ?_
                refine v_ild1 (pc := 188) dX5_buries_188 ?_
                refine v_ce0 (pc := 189) (v_runV3 okX5_zoneFor rfl (sp_X5_zoneFor hM hg1 (by omega) (by omega) (by omega)) dX5_buries_189 (lw_all_tbl q2272) (lw_all_tbl q2274) (lw_all_tbl qs73) rfl (mw_obj hM) (Nat.le_of_ble_eq_true rfl) ⟨Nat.zero_le _, Nat.zero_le _⟩ (Nat.le_of_ble_eq_true rfl)) ?_
                refine v_ist8 (pc := 192) dX5_buries_192 rfl ?_
                refine v_ild8 (pc := 194) dX5_buries_194 ?_
                refine v_iconst (pc := 196) dX5_buries_196 ?_
                refine v_icmp_ne (pc := 197) (tgt := 215) dX5_buries_197 rfl (by omega) (by omega) (fun c197 => ?_) (fun c197 => ?_)
                · obtain ⟨hel1, hel2⟩ := mZoneFor_el (w := w1) (win := (w1 (23 + 17 * u + 6)).tdiv (w1 2)) (size := w1 (23 + 17 * u + 1)) (but := z) (by omega) c197
                  have hst := mBurStep_some (congrArg (fun x => now1 (23 + 17 * u + 3) + x) hledE) hw1 c197
                  obtain ⟨-, b2, -⟩ := mBurStep_ok hR1 (by omega) (by omega) (by omega) hst
                  have hsm := liv_same (w := now1) (z := z) (a := u + 1) (n := now 7) (by omega) (by omega) (fun j hj => ⟨b2 (23 + 17 * j + 4) (by omega), b2 (23 + 17 * j + 5) (by omega)⟩)
                  have hs1 := mLivIn_s (w := now1) (z := z) hu.1
                  rw [if_pos (by omega)] at hs1
                  have hzw := hg1.zW _ (show 0 ≤ mZoneFor w1 ((w1 (23 + 17 * u + 6)).tdiv (w1 2)) (w1 (23 + 17 * u + 1)) z ∧ mZoneFor w1 ((w1 (23 + 17 * u + 6)).tdiv (w1 2)) (w1 (23 + 17 * u + 1)) z ≤ 11 by omega)
                  have hzm := hg1.zM _ (show 0 ≤ mZoneFor w1 ((w1 (23 + 17 * u + 6)).tdiv (w1 2)) (w1 (23 + 17 * u + 1)) z ∧ mZoneFor w1 ((w1 (23 + 17 * u + 6)).tdiv (w1 2)) (w1 (23 + 17 * u + 1)) z ≤ 11 by omega)
                  refine v_ald0 (pc := 215) dX5_buries_215 ?_
                  refine v_ild4 (pc := 216) dX5_buries_216 ?_
                  refine v_ild8 (pc := 218) dX5_buries_218 ?_
                  refine v_ild7 (pc := 220) dX5_buries_220 ?_
                  refine v_cv0 (pc := 222) (v_runV3 okX5_puts rfl (sp_X5_puts hM (by omega) (by omega) (by omega) (by omega)) dX5_buries_222 (lw_all_tbl q2288) (lw_all_tbl q2290) (lw_all_tbl qs77) rfl (mw_obj hM) (Nat.le_of_ble_eq_true rfl) ⟨Nat.zero_le _, Nat.zero_le _⟩ (Nat.le_of_ble_eq_true rfl)) (fun h hM => ?_)
                  refine v_ald0 (pc := 225) dX5_buries_225 ?_
                  refine v_getf KX5 1 (pc := 226) dX5_buries_226 (lw_all_tbl q1995) (Or.inl rfl) (Nat.le_of_ble_eq_true rfl) (mw_obj hM) rfl ?_
                  refine v_ild5 (pc := 229) dX5_buries_229 ?_
                  refine v_bipush (pc := 231) dX5_buries_231 ⟨by decide, by decide⟩ ?_
                  refine v_iadd (pc := 233) dX5_buries_233 ?_
                  refine v_dup2 (pc := 234) dX5_buries_234 rfl rfl ?_
                  refine v_ldM_now hM (pc := 235) dX5_buries_235 (by omega) ?_
                  refine v_iconst (pc := 236) dX5_buries_236 ?_
                  refine v_iadd (pc := 237) dX5_buries_237 ?_
                  refine v_stM_now hM (pc := 238) dX5_buries_238 (by omega) (fun h hM => ?_)
                  refine v_ald0 (pc := 239) dX5_buries_239 ?_
                  refine v_getf KX5 1 (pc := 240) dX5_buries_240 (lw_all_tbl q1995) (Or.inl rfl) (Nat.le_of_ble_eq_true rfl) (mw_obj hM) rfl ?_
                  refine v_bipush (pc := 243) dX5_buries_243 ⟨by decide, by decide⟩ ?_
                  refine v_dup2 (pc := 245) dX5_buries_245 rfl rfl ?_
                  refine v_ldM_now hM (pc := 246) dX5_buries_246 (by omega) ?_
                  refine v_iconst (pc := 247) dX5_buries_247 ?_
                  refine v_iadd (pc := 248) dX5_buries_248 ?_
                  refine v_stM_now hM (pc := 249) dX5_buries_249 (by omega) (fun h hM => ?_)
                  refine v_iinc4 (pc := 250) dX5_buries_250 rfl ?_
                  refine v_goto (pc := 253) (tgt := 27) dX5_buries_253 rfl ?_
                  refine v_forget 5 ?_
                  refine v_forget 6 ?_
                  refine v_forget 7 ?_
                  refine v_forget 8 ?_
                  exact ih _ (by omega) _ _ _ _ rfl hM (by omega) (by rw [mBurL_s (by omega), hf]; simp only [mBurF]; first | rw [if_neg (by omega)] | (rw [if_pos (by omega)]; exact hst)) (by first | (rw [mLivIn_s (by omega), if_neg (by omega)]; exact hl) | omega)
                · refine v_ald0 (pc := 200) dX5_buries_200 ?_
                  refine v_getf KX5 3 (pc := 201) dX5_buries_201 (lw_all_tbl q1997) (Or.inl rfl) (Nat.le_of_ble_eq_true rfl) (mw_obj hM) rfl ?_
                  refine v_iconst (pc := 204) dX5_buries_204 ?_
                  refine v_ald0 (pc := 205) dX5_buries_205 ?_
                  refine v_getf KX5 1 (pc := 206) dX5_buries_206 (lw_all_tbl q1995) (Or.inl rfl) (Nat.le_of_ble_eq_true rfl) (mw_obj hM) rfl ?_
                  refine v_iconst (pc := 209) dX5_buries_209 ?_
                  refine v_cv0 (pc := 210) (v_runS4 okX5_copies rfl (sp_cp_tried_now hM) dX5_buries_210 (lw_all_tbl q2253) (lw_all_tbl q2254) (Nat.le_of_ble_eq_true rfl) ⟨Nat.zero_le _, Nat.zero_le _⟩ (Nat.le_of_ble_eq_true rfl)) (fun h hM => ?_)
                  refine v_iconst (pc := 213) dX5_buries_213 ?_
                  refine v_ret_z0 (pc := 214) dX5_buries_214 rfl ?_
                  rw [cpy_back hR.sup hg1.sup] at hM
                  have hno : mBurL now aside (mLeader now way) z (u + 1) = none := by rw [mBurL_s hu.1, hf]; simp only [mBurF]; rw [if_pos (by omega)]; exact mBurStep_none (congrArg (fun x => now1 (23 + 17 * u + 3) + x) hledE) hw1 c197
                  have hno2 : mBurL now aside (mLeader now way) z (now 7) = none := fI_stay (by omega) (by omega) hno (fun _ _ _ => rfl)
                  exact qi_ok (Or.inr ⟨rfl, by unfold mBuries; rw [hno2], hM⟩)
            · refine v_goto (pc := 63) (tgt := 250) dX5_buries_63 rfl ?_
              refine v_iinc4 (pc := 250) dX5_buries_250 rfl ?_
              refine v_goto (pc := 253) (tgt := 27) dX5_buries_253 rfl ?_
              exact ih _ (by omega) _ _ _ _ rfl hM (by omega) (by rw [mBurL_s (by omega), hf]; simp only [mBurF]; first | rw [if_neg (by omega)] | (rw [if_pos (by omega)]; exact hst)) (by first | (rw [mLivIn_s (by omega), if_neg (by omega)]; exact hl) | omega)
          · refine v_if_eq0 (pc := 49) (tgt := 250) dX5_buries_49 rfl ?_
            refine v_iinc4 (pc := 250) dX5_buries_250 rfl ?_
            refine v_goto (pc := 253) (tgt := 27) dX5_buries_253 rfl ?_
            exact ih _ (by omega) _ _ _ _ rfl hM (by omega) (by rw [mBurL_s (by omega), hf]; simp only [mBurF]; first | rw [if_neg (by omega)] | (rw [if_pos (by omega)]; exact hst)) (by first | (rw [mLivIn_s (by omega), if_neg (by omega)]; exact hl) | omega)
  refine v_ald0 (pc := 0) dX5_buries_0 ?_
  refine v_getf KX5 1 (pc := 1) dX5_buries_1 (lw_all_tbl q1995) (Or.inl rfl) (Nat.le_of_ble_eq_true rfl) (mw_obj hM) rfl ?_
  refine v_iconst (pc := 4) dX5_buries_4 ?_
  refine v_ald0 (pc := 5) dX5_buries_5 ?_
  refine v_getf KX5 3 (pc := 6) dX5_buries_6 (lw_all_tbl q1997) (Or.inl rfl) (Nat.le_of_ble_eq_true rfl) (mw_obj hM) rfl ?_
  refine v_iconst (pc := 9) dX5_buries_9 ?_
  refine v_cv0 (pc := 10) (v_runS4 okX5_copies rfl (sp_cp_now_tried hM) dX5_buries_10 (lw_all_tbl q2253) (lw_all_tbl q2254) (Nat.le_of_ble_eq_true rfl) ⟨Nat.zero_le _, Nat.zero_le _⟩ (Nat.le_of_ble_eq_true rfl)) (fun h hM => ?_)
  refine v_ald0 (pc := 13) dX5_buries_13 ?_
  refine v_ild1 (pc := 14) dX5_buries_14 ?_
  refine v_ce0 (pc := 15) (v_runV1 okX5_livingIn rfl (sp_X5_livingIn hM (by omega) (by omega)) dX5_buries_15 (lw_all_tbl q2143) (lw_all_tbl q2145) (lw_all_tbl qs59) rfl (mw_obj hM) (Nat.le_of_ble_eq_true rfl) ⟨Nat.zero_le _, Nat.zero_le _⟩ (Nat.le_of_ble_eq_true rfl)) ?_
  refine v_ist2 (pc := 18) dX5_buries_18 rfl ?_
  refine v_ald0 (pc := 19) dX5_buries_19 ?_
  refine v_ce0 (pc := 20) (v_runV0 okX5_leader rfl (sp_X5_leader hM (by omega) (by omega)) dX5_buries_20 (lw_all_tbl q2123) (lw_all_tbl q2125) (lw_all_tbl qs55) rfl (mw_obj hM) (Nat.le_of_ble_eq_true rfl) ⟨Nat.zero_le _, Nat.zero_le _⟩ (Nat.le_of_ble_eq_true rfl)) ?_
  refine v_ist3 (pc := 23) dX5_buries_23 rfl ?_
  refine v_iconst (pc := 24) dX5_buries_24 ?_
  refine v_ist4 (pc := 25) dX5_buries_25 rfl ?_
  exact L27 _ _ _ _ _ rfl hM (by omega) rfl (by have : mLivIn now z 0 = 0 := rfl; omega)
