/-! THE JDK: ArrayList (printed by gen) -/
set_option maxRecDepth 100000
theorem sp_J0_init {Γ : Cx} {h : AH} {a : Nat}  : Sp Γ yJ0_init mJ0_init 2 0 0 [.ref a] h (Qv (fun h9 => h9 = h)) NoX := by
  refine sp_of okJ0_init (cat_all rfl) (Nat.le_of_ble_eq_true rfl) rfl ?_
  refine v_ald0 (pc := 0) dJ0_init_0 ?_
  refine v_objInit (pc := 1) dJ0_init_1 (lw_all_tbl q187) (lw_all_tbl q156) (lw_all_tbl q157) (Nat.le_of_ble_eq_true rfl) (Nat.le_of_ble_eq_true rfl) ?_
  refine v_ret_v (pc := 4) dJ0_init_4 rfl ?_
  exact qv_ok rfl
theorem sp_J2_size {Γ : Cx} {h : AH} {a t dd : Nat} {m n : Int}  (ha : h a = some (t, oF 11 [vi m, .ref dd, vi n])) : Sp Γ yJ2_size mJ2_size 1 0 0 [.ref a] h (Qe n h) NoX := by
  refine sp_of okJ2_size (cat_all rfl) (Nat.le_of_ble_eq_true rfl) rfl ?_
  refine v_ald0 (pc := 0) dJ2_size_0 ?_
  refine v_getf KJ2 2 (pc := 1) dJ2_size_1 (lw_all_tbl q193) (Or.inl rfl) (Nat.le_of_ble_eq_true rfl) ha rfl ?_
  refine v_ret_n (pc := 4) dJ2_size_4 rfl ?_
  exact qe_ok (by first | rfl | omega)
theorem sp_J2_isEmpty {Γ : Cx} {h : AH} {a t dd : Nat} {m n : Int}  (ha : h a = some (t, oF 11 [vi m, .ref dd, vi n])) (hn : 0 ≤ n ∧ n ≤ 100000) : Sp Γ yJ2_isEmpty mJ2_isEmpty 1 0 0 [.ref a] h (Qb (n = 0) h) NoX := by
  refine sp_of okJ2_isEmpty (cat_all rfl) (Nat.le_of_ble_eq_true rfl) rfl ?_
  refine v_ald0 (pc := 0) dJ2_isEmpty_0 ?_
  refine v_getf KJ2 2 (pc := 1) dJ2_isEmpty_1 (lw_all_tbl q193) (Or.inl rfl) (Nat.le_of_ble_eq_true rfl) ha rfl ?_
  refine v_if_ne (pc := 4) (tgt := 11) dJ2_isEmpty_4 rfl (by omega) (fun c4 => ?_) (fun c4 => ?_)
  · refine v_iconst (pc := 11) dJ2_isEmpty_11 ?_
    refine v_ret_z0 (pc := 12) dJ2_isEmpty_12 rfl ?_
    exact qb_0 (by omega)
  · refine v_iconst (pc := 7) dJ2_isEmpty_7 ?_
    refine v_goto (pc := 8) (tgt := 12) dJ2_isEmpty_8 rfl ?_
    refine v_ret_z1 (pc := 12) dJ2_isEmpty_12 rfl ?_
    exact qb_1 (by omega)
theorem sp_J14_checkIndex {Γ : Cx} {h : AH} {i n : Int} (hi : 0 ≤ i ∧ i < n ∧ n ≤ 100000) : Sp Γ yJ14_checkIndex mJ14_checkIndex 1 0 0 [vi i, vi n, .null] h (Qe i h) NoX := by
  refine sp_of okJ14_checkIndex (cat_all rfl) (Nat.le_of_ble_eq_true rfl) rfl ?_
  refine v_ild0 (pc := 0) dJ14_checkIndex_0 ?_
  refine v_if_lt (pc := 1) (tgt := 9) dJ14_checkIndex_1 rfl (by omega) (fun c1 => absurd c1 (by omega)) (fun c1 => ?_)
  refine v_ild0 (pc := 4) dJ14_checkIndex_4 ?_
  refine v_ild1 (pc := 5) dJ14_checkIndex_5 ?_
  refine v_icmp_lt (pc := 6) (tgt := 16) dJ14_checkIndex_6 rfl (by omega) (by omega) (fun c6 => ?_) (fun c6 => absurd c6 (by omega))
  refine v_ild0 (pc := 16) dJ14_checkIndex_16 ?_
  refine v_ret_n (pc := 17) dJ14_checkIndex_17 rfl ?_
  exact qe_ok (by first | rfl | omega)
theorem sp_J19_checkIndex {Γ : Cx} {h : AH} {i n : Int} (hi : 0 ≤ i ∧ i < n ∧ n ≤ 100000) : Sp Γ yJ19_checkIndex mJ19_checkIndex 2 0 0 [vi i, vi n] h (Qe i h) NoX := by
  refine sp_of okJ19_checkIndex (cat_all rfl) (Nat.le_of_ble_eq_true rfl) rfl ?_
  refine v_ild0 (pc := 0) dJ19_checkIndex_0 ?_
  refine v_ild1 (pc := 1) dJ19_checkIndex_1 ?_
  refine v_null (pc := 2) dJ19_checkIndex_2 ?_
  refine v_ce0 (pc := 3) (v_runS3 okJ14_checkIndex rfl (sp_J14_checkIndex (by omega)) dJ19_checkIndex_3 (lw_all_tbl q791) (lw_all_tbl q792) (Nat.le_of_ble_eq_true rfl) ⟨Nat.zero_le _, Nat.zero_le _⟩ (Nat.le_of_ble_eq_true rfl)) ?_
  refine v_ret_n (pc := 6) dJ19_checkIndex_6 rfl ?_
  exact qe_ok (by first | rfl | omega)
theorem sp_J2_elementData {Γ : Cx} {h : AH} {a t dd : Nat} {m n : Int} {td cap : Nat} {f : Nat → Value} {i : Int} {q : Nat} (ha : h a = some (t, oF 11 [vi m, .ref dd, vi n])) (hd : h dd = some (td, oA 5 cap f)) (hi : 0 ≤ i ∧ i < cap ∧ i ≤ 100000) (hv : f i.toNat = .ref q) : Sp Γ yJ2_elementData mJ2_elementData 1 0 0 [.ref a, vi i] h (Qw (.ref q) h) NoX := by
  refine sp_of okJ2_elementData (cat_all rfl) (Nat.le_of_ble_eq_true rfl) rfl ?_
  refine v_ald0 (pc := 0) dJ2_elementData_0 ?_
  refine v_getf KJ2 1 (pc := 1) dJ2_elementData_1 (lw_all_tbl q190) (Or.inl rfl) (Nat.le_of_ble_eq_true rfl) ha rfl ?_
  refine v_ild1 (pc := 4) dJ2_elementData_4 ?_
  refine v_aald (pc := 5) dJ2_elementData_5 rfl hd ⟨by omega, by omega, by omega⟩ hv ?_
  refine v_ret_r (pc := 6) dJ2_elementData_6 rfl ?_
  exact qw_ok
theorem sp_J2_get {Γ : Cx} {h : AH} {a t dd : Nat} {m n : Int} {td cap : Nat} {f : Nat → Value} {i : Int} {q : Nat} (ha : h a = some (t, oF 11 [vi m, .ref dd, vi n])) (hd : h dd = some (td, oA 5 cap f)) (hi : 0 ≤ i ∧ i < n ∧ n ≤ cap ∧ n ≤ 100000) (hv : f i.toNat = .ref q) : Sp Γ yJ2_get mJ2_get 3 0 0 [.ref a, vi i] h (Qw (.ref q) h) NoX := by
  refine sp_of okJ2_get (cat_all rfl) (Nat.le_of_ble_eq_true rfl) rfl ?_
  refine v_ild1 (pc := 0) dJ2_get_0 ?_
  refine v_ald0 (pc := 1) dJ2_get_1 ?_
  refine v_getf KJ2 2 (pc := 2) dJ2_get_2 (lw_all_tbl q193) (Or.inl rfl) (Nat.le_of_ble_eq_true rfl) ha rfl ?_
  refine v_ce0 (pc := 5) (v_runS2 okJ19_checkIndex rfl (sp_J19_checkIndex (by omega)) dJ2_get_5 (lw_all_tbl q788) (lw_all_tbl q789) (Nat.le_of_ble_eq_true rfl) ⟨Nat.zero_le _, Nat.zero_le _⟩ (Nat.le_of_ble_eq_true rfl)) ?_
  refine v_pop (pc := 8) dJ2_get_8 rfl ?_
  refine v_ald0 (pc := 9) dJ2_get_9 ?_
  refine v_ild1 (pc := 10) dJ2_get_10 ?_
  refine v_cw0 (pc := 11) (v_runV1 okJ2_elementData rfl (sp_J2_elementData ha hd (by omega) hv) dJ2_get_11 (lw_all_tbl q794) (lw_all_tbl q795) (lw_all_tbl q796) rfl ha (Nat.le_of_ble_eq_true rfl) ⟨Nat.zero_le _, Nat.zero_le _⟩ (Nat.le_of_ble_eq_true rfl)) ?_
  refine v_ret_r (pc := 14) dJ2_get_14 rfl ?_
  exact qw_ok
theorem sp_J2_add_2 {Γ : Cx} {h : AH} {a t dd : Nat} {m n : Int} {td cap : Nat} {f : Nat → Value} {q tq ci : Nat} {l : List Value} {C : String} {T : u_T} {N : Nat}  (ha : h a = some (t, oF 11 [vi m, .ref dd, vi n])) (ht : t ≠ 1) (hd : h dd = some (td, oA 5 cap f)) (htd : td ≠ 1) (hq : h q = some (tq, oF ci l)) (hc : clz[ci]? = some (C, T, N)) (hs : C = "java/lang/Object" ∨ Cond.castable C "java/lang/Object" ∈ lw_tbl) (h11 : ci ≠ 11) (hn : 0 ≤ n ∧ n < cap ∧ cap ≤ 100000) : Sp Γ yJ2_add_2 mJ2_add_2 1 0 0 [.ref a, .ref q, .ref dd, vi n] h (Qv (fun h9 => Up2 h h9 a dd (t, oF 11 [vi m, .ref dd, vi (n + 1)]) (td, oA 5 cap (ups f n.toNat (.ref q))))) NoX := by
  refine sp_of okJ2_add_2 (cat_all rfl) (Nat.le_of_ble_eq_true rfl) rfl ?_
  refine v_ild3 (pc := 0) dJ2_add_2_0 ?_
  refine v_ald2 (pc := 1) dJ2_add_2_1 ?_
  refine v_alen (pc := 2) dJ2_add_2_2 rfl hd ?_
  refine v_icmp_ne (pc := 3) (tgt := 11) dJ2_add_2_3 rfl ⟨by omega, by omega⟩ ⟨by omega, by omega⟩ (fun c3 => ?_) (fun c3 => absurd c3 (by omega))
  refine v_ald2 (pc := 11) dJ2_add_2_11 ?_
  refine v_ild3 (pc := 12) dJ2_add_2_12 ?_
  refine v_ald1 (pc := 13) dJ2_add_2_13 ?_
  refine v_aast (pc := 14) dJ2_add_2_14 rfl hd htd ⟨by omega, by omega, by omega⟩ hq hc hs ?_
  refine vH (fun h1_ e1_ => ?_)
  have ha_1 := hs_o e1_ (ne_FA ha hd) ha
  have hq_1 := hs_o e1_ (ne_FA hq hd) hq
  have hd_1 := hs_s e1_
  refine v_ald0 (pc := 15) dJ2_add_2_15 ?_
  refine v_ild3 (pc := 16) dJ2_add_2_16 ?_
  refine v_iconst (pc := 17) dJ2_add_2_17 ?_
  refine v_iadd (pc := 18) dJ2_add_2_18 ?_
  refine v_putf KJ2 2 (pc := 19) dJ2_add_2_19 (lw_all_tbl q193) (Or.inl rfl) (Nat.le_of_ble_eq_true rfl) rfl ha_1 ht (Nat.le_of_ble_eq_true rfl) rfl rfl rfl ?_
  refine vH (fun h2_ e2_ => ?_)
  have hd_2 := hs_o e2_ (ne_AF hd_1 ha_1) hd_1
  have hq_2 := hs_o e2_ (ne_FF hq_1 ha_1 h11) hq_1
  have ha_2 := hs_s e2_
  refine v_ret_v (pc := 22) dJ2_add_2_22 rfl ?_
  exact qv_ok ⟨ha_2, hd_2, fun b n1 n2 => (hs_f e2_ n1).trans (hs_f e1_ n2)⟩
theorem sp_J2_add {Γ : Cx} {h : AH} {a t dd : Nat} {m n : Int} {td cap : Nat} {f : Nat → Value} {q tq ci : Nat} {l : List Value} {C : String} {T : u_T} {N : Nat}  (ha : h a = some (t, oF 11 [vi m, .ref dd, vi n])) (ht : t ≠ 1) (hd : h dd = some (td, oA 5 cap f)) (htd : td ≠ 1) (hq : h q = some (tq, oF ci l)) (hc : clz[ci]? = some (C, T, N)) (hs : C = "java/lang/Object" ∨ Cond.castable C "java/lang/Object" ∈ lw_tbl) (h11 : ci ≠ 11) (hn : 0 ≤ n ∧ n < cap ∧ cap ≤ 100000) : Sp Γ yJ2_add mJ2_add 2 0 0 [.ref a, .ref q] h (Qi (fun x h9 => x = 1 ∧ Up2 h h9 a dd (t, oF 11 [vi (m + 1), .ref dd, vi (n + 1)]) (td, oA 5 cap (ups f n.toNat (.ref q))))) NoX := by
  refine sp_of okJ2_add (cat_all rfl) (Nat.le_of_ble_eq_true rfl) rfl ?_
  refine v_ald0 (pc := 0) dJ2_add_0 ?_
  refine v_dup (pc := 1) dJ2_add_1 rfl ?_
  refine v_getf KJ2 0 (pc := 2) dJ2_add_2 (lw_all_tbl q197) (Or.inr (lw_all_tbl q196)) (Nat.le_of_ble_eq_true rfl) ha rfl ?_
  refine v_iconst (pc := 5) dJ2_add_5 ?_
  refine v_iadd (pc := 6) dJ2_add_6 ?_
  refine v_putf KJ2 0 (pc := 7) dJ2_add_7 (lw_all_tbl q197) (Or.inr (lw_all_tbl q196)) (Nat.le_of_ble_eq_true rfl) rfl ha ht (Nat.le_of_ble_eq_true rfl) rfl rfl rfl ?_
  refine vH (fun h1_ e1_ => ?_)
  have hd_1 := hs_o e1_ (ne_AF hd ha) hd
  have hq_1 := hs_o e1_ (ne_FF hq ha h11) hq
  have ha_1 := hs_s e1_
  refine v_ald0 (pc := 10) dJ2_add_10 ?_
  refine v_ald1 (pc := 11) dJ2_add_11 ?_
  refine v_ald0 (pc := 12) dJ2_add_12 ?_
  refine v_getf KJ2 1 (pc := 13) dJ2_add_13 (lw_all_tbl q190) (Or.inl rfl) (Nat.le_of_ble_eq_true rfl) ha_1 rfl ?_
  refine v_ald0 (pc := 16) dJ2_add_16 ?_
  refine v_getf KJ2 2 (pc := 17) dJ2_add_17 (lw_all_tbl q193) (Or.inl rfl) (Nat.le_of_ble_eq_true rfl) ha_1 rfl ?_
  refine v_cv0 (pc := 20) (v_runV3 okJ2_add_2 rfl (sp_J2_add_2 ha_1 ht hd_1 htd hq_1 hc hs h11 hn) dJ2_add_20 (lw_all_tbl q940) (lw_all_tbl q942) (lw_all_tbl qs15) rfl ha_1 (Nat.le_of_ble_eq_true rfl) ⟨Nat.zero_le _, Nat.zero_le _⟩ (Nat.le_of_ble_eq_true rfl)) (fun h2_ u2_ => ?_)
  have ha_2 := u2_.1
  have hd_2 := u2_.2.1
  refine v_iconst (pc := 23) dJ2_add_23 ?_
  refine v_ret_z1 (pc := 24) dJ2_add_24 rfl ?_
  exact qi_ok ⟨rfl, u2_.1, u2_.2.1, fun b n1 n2 => (u2_.2.2 b n1 n2).trans (hs_f e1_ n1)⟩
theorem sp_J1_init {Γ : Cx} {h : AH} {a t : Nat}  (ha : h a = some (t, oF 11 [vi 0, .null, vi 0])) (ht : t ≠ 1) : Sp Γ yJ1_init mJ1_init 3 0 0 [.ref a] h (Qv (fun h9 => h9 = h)) NoX := by
  refine sp_of okJ1_init (cat_all rfl) (Nat.le_of_ble_eq_true rfl) rfl ?_
  refine v_ald0 (pc := 0) dJ1_init_0 ?_
  refine v_cv0 (pc := 1) (v_runI0 okJ0_init rfl rfl rfl (sp_J0_init) dJ1_init_1 (lw_all_tbl q184) (lw_all_tbl q185) (Nat.le_of_ble_eq_true rfl) ⟨Nat.zero_le _, Nat.zero_le _⟩ (Nat.le_of_ble_eq_true rfl)) (fun h19 e19 => ?_)
  subst e19
  refine v_ald0 (pc := 4) dJ1_init_4 ?_
  refine v_iconst (pc := 5) dJ1_init_5 ?_
  refine v_putf KJ2 0 (pc := 6) dJ1_init_6 (lw_all_tbl q194) (Or.inl rfl) (Nat.le_of_ble_eq_true rfl) rfl ha ht (Nat.le_of_ble_eq_true rfl) rfl rfl rfl ?_
  refine vH (fun h1_ e1_ => ?_)
  have ha_1 := hs_s e1_
  refine v_ret_v (pc := 9) dJ1_init_9 rfl ?_
  exact qv_ok (by rw [e1_]; exact hset_id ha)
theorem sp_J2_init {Γ : Cx} {h : AH} {a t : Nat}  (ha : h a = some (t, oF 11 [vi 0, .null, vi 0])) (ht : t ≠ 1) : Sp Γ yJ2_init mJ2_init 4 0 0 [.ref a] h (Qv (fun h9 => h9 = hset h a (t, oF 11 [vi 0, .ref (Γ.2.2.2.2.2 3), vi 0]))) NoX := by
  refine sp_of okJ2_init (cat_all rfl) (Nat.le_of_ble_eq_true rfl) rfl ?_
  refine v_ald0 (pc := 0) dJ2_init_0 ?_
  refine v_cv0 (pc := 1) (v_runI0 okJ1_init rfl rfl rfl (sp_J1_init (by omega) (by omega)) dJ2_init_1 (lw_all_tbl q181) (lw_all_tbl q182) (Nat.le_of_ble_eq_true rfl) ⟨Nat.zero_le _, Nat.zero_le _⟩ (Nat.le_of_ble_eq_true rfl)) (fun h19 e19 => ?_)
  subst e19
  refine v_ald0 (pc := 4) dJ2_init_4 ?_
  refine v_gets 3 (pc := 5) dJ2_init_5 (lw_all_tbl q188) (Or.inl rfl) rfl ?_
  refine v_putf KJ2 1 (pc := 8) dJ2_init_8 (lw_all_tbl q190) (Or.inl rfl) (Nat.le_of_ble_eq_true rfl) rfl ha ht (Nat.le_of_ble_eq_true rfl) rfl rfl rfl ?_
  refine vH (fun h1_ e1_ => ?_)
  have ha_1 := hs_s e1_
  refine v_ret_v (pc := 11) dJ2_init_11 rfl ?_
  exact qv_ok e1_
theorem sp_J2_init_2 {Γ : Cx} {h : AH} {a t : Nat} {n : Int}  (ha : h a = some (t, oF 11 [vi 0, .null, vi 0])) (ht : t ≠ 1) (hn : 1 ≤ n ∧ n ≤ 1000) : Sp Γ yJ2_init_2 mJ2_init_2 4 1 1000 [.ref a, vi n] h (Qv (fun h9 => ∃ dd, h dd = none ∧ h9 = hset (hset h dd (t, oA 5 n.toNat (fun _ => .null))) a (t, oF 11 [vi 0, .ref dd, vi 0]))) NoX := by
  refine sp_of okJ2_init_2 (cat_all rfl) (Nat.le_of_ble_eq_true rfl) rfl ?_
  refine v_ald0 (pc := 0) dJ2_init_2_0 ?_
  refine v_cv0 (pc := 1) (v_runI0 okJ1_init rfl rfl rfl (sp_J1_init (by omega) (by omega)) dJ2_init_2_1 (lw_all_tbl q181) (lw_all_tbl q182) (Nat.le_of_ble_eq_true rfl) ⟨Nat.zero_le _, Nat.zero_le _⟩ (Nat.le_of_ble_eq_true rfl)) (fun h19 e19 => ?_)
  subst e19
  refine v_ild1 (pc := 4) dJ2_init_2_4 ?_
  refine v_if_le (pc := 5) (tgt := 19) dJ2_init_2_5 rfl (by omega) (fun c5 => absurd c5 (by omega)) (fun c5 => ?_)
  refine v_ald0 (pc := 8) dJ2_init_2_8 ?_
  refine v_ild1 (pc := 9) dJ2_init_2_9 ?_
  refine v_anew (k := 5) t (pc := 10) dJ2_init_2_10 rfl (lw_all_tbl q256) q257 ⟨by omega, by omega⟩ (by omega) (by omega) (fun dd n10 => ?_)
  refine vH (fun h1_ e1_ => ?_)
  have ha_1 := hs_o e1_ (ne_new ha n10) ha
  have f10_1 := hs_s e1_
  refine v_putf KJ2 1 (pc := 13) dJ2_init_2_13 (lw_all_tbl q190) (Or.inl rfl) (Nat.le_of_ble_eq_true rfl) rfl ha_1 ht (Nat.le_of_ble_eq_true rfl) rfl rfl rfl ?_
  refine vH (fun h2_ e2_ => ?_)
  have f10_2 := hs_o e2_ (ne_AF f10_1 ha_1) f10_1
  have ha_2 := hs_s e2_
  refine v_goto (pc := 16) (tgt := 60) dJ2_init_2_16 rfl ?_
  refine v_ret_v (pc := 60) dJ2_init_2_60 rfl ?_
  exact qv_ok ⟨dd, n10, by rw [e2_, e1_]; rfl⟩
theorem sp_J2_clear {Γ : Cx} {h : AH} {a t dd : Nat} {m n : Int} {td cap : Nat} {f : Nat → Value}  (ha : h a = some (t, oF 11 [vi m, .ref dd, vi n])) (ht : t ≠ 1) (hd : h dd = some (td, oA 5 cap f)) (htd : td ≠ 1) (hn : 0 ≤ n ∧ n ≤ cap ∧ n ≤ 100000) : Sp Γ yJ2_clear mJ2_clear 1 0 0 [.ref a] h (Qv (fun h9 => ∃ f9, Up2 h h9 a dd (t, oF 11 [vi (m + 1), .ref dd, vi 0]) (td, oA 5 cap f9))) NoX := by
  refine sp_of okJ2_clear (cat_all rfl) (Nat.le_of_ble_eq_true rfl) rfl ?_
  have L27 : ∀ (n9 : Nat) (h1 : AH) (f1 : Nat → Value) (i : Int), (n - i).toNat = n9 → (Up2 h h1 a dd (t, oF 11 [vi (m + 1), .ref dd, vi 0]) (td, oA 5 cap f1)) → (0 ≤ i ∧ i ≤ n) → V Γ mJ2_clear 1 0 0 (Qv (fun h9 => ∃ f9, Up2 h h9 a dd (t, oF 11 [vi (m + 1), .ref dd, vi 0]) (td, oA 5 cap f9))) (NoX) h1 0 0 27 [some (.ref a), some (.ref dd), some (vi n), some (vi i)] [] := by
    intro n9
    induction n9 using Nat.strongRecOn with
    | _ n9 ih =>
      intro h1 f1 i hn9 hu hi
      have ha := hu.1
      have hd := hu.2.1
      refine v_ild3 (pc := 27) dJ2_clear_27 ?_
      refine v_ild2 (pc := 28) dJ2_clear_28 ?_
      refine v_icmp_ge (pc := 29) (tgt := 42) dJ2_clear_29 rfl (by omega) (by omega) (fun c29 => ?_) (fun c29 => ?_)
      · refine v_ret_v (pc := 42) dJ2_clear_42 rfl ?_
        exact qv_ok ⟨f1, hu⟩
      · refine v_ald1 (pc := 32) dJ2_clear_32 ?_
        refine v_ild3 (pc := 33) dJ2_clear_33 ?_
        refine v_null (pc := 34) dJ2_clear_34 ?_
        refine v_aastN (pc := 35) dJ2_clear_35 rfl hd htd ⟨by omega, by omega, by omega⟩ ?_
        refine vH (fun h1_ e1_ => ?_)
        have ha_1 := hs_o e1_ (ne_FA ha hd) ha
        have hd_1 := hs_s e1_
        refine v_iinc3 (pc := 36) dJ2_clear_36 rfl ?_
        refine v_goto (pc := 39) (tgt := 27) dJ2_clear_39 rfl ?_
        exact ih _ (by omega) _ _ _ rfl ⟨hs_o e1_ (ne_FA hu.1 hu.2.1) hu.1, hs_s e1_, fun b n1 n2 => (hs_f e1_ n2).trans (hu.2.2 b n1 n2)⟩ (by omega)
  refine v_ald0 (pc := 0) dJ2_clear_0 ?_
  refine v_dup (pc := 1) dJ2_clear_1 rfl ?_
  refine v_getf KJ2 0 (pc := 2) dJ2_clear_2 (lw_all_tbl q197) (Or.inr (lw_all_tbl q196)) (Nat.le_of_ble_eq_true rfl) ha rfl ?_
  refine v_iconst (pc := 5) dJ2_clear_5 ?_
  refine v_iadd (pc := 6) dJ2_clear_6 ?_
  refine v_putf KJ2 0 (pc := 7) dJ2_clear_7 (lw_all_tbl q197) (Or.inr (lw_all_tbl q196)) (Nat.le_of_ble_eq_true rfl) rfl ha ht (Nat.le_of_ble_eq_true rfl) rfl rfl rfl ?_
  refine vH (fun h2_ e2_ => ?_)
  have hd_2 := hs_o e2_ (ne_AF hd ha) hd
  have ha_2 := hs_s e2_
  refine v_ald0 (pc := 10) dJ2_clear_10 ?_
  refine v_getf KJ2 1 (pc := 11) dJ2_clear_11 (lw_all_tbl q190) (Or.inl rfl) (Nat.le_of_ble_eq_true rfl) ha_2 rfl ?_
  refine v_ast1 (pc := 14) dJ2_clear_14 rfl ?_
  refine v_ald0 (pc := 15) dJ2_clear_15 ?_
  refine v_getf KJ2 2 (pc := 16) dJ2_clear_16 (lw_all_tbl q193) (Or.inl rfl) (Nat.le_of_ble_eq_true rfl) ha_2 rfl ?_
  refine v_ist2 (pc := 19) dJ2_clear_19 rfl ?_
  refine v_ald0 (pc := 20) dJ2_clear_20 ?_
  refine v_iconst (pc := 21) dJ2_clear_21 ?_
  refine v_dup_x1 (pc := 22) dJ2_clear_22 rfl rfl ?_
  refine v_putf KJ2 2 (pc := 23) dJ2_clear_23 (lw_all_tbl q193) (Or.inl rfl) (Nat.le_of_ble_eq_true rfl) rfl ha_2 ht (Nat.le_of_ble_eq_true rfl) rfl rfl rfl ?_
  refine vH (fun h3_ e3_ => ?_)
  have hd_3 := hs_o e3_ (ne_AF hd_2 ha_2) hd_2
  have ha_3 := hs_s e3_
  refine v_ist3 (pc := 26) dJ2_clear_26 rfl ?_
  exact L27 _ _ _ _ rfl ⟨ha_3, hd_3, fun b n1 n2 => (hs_f e3_ n1).trans (hs_f e2_ n1)⟩ (by omega)
theorem sp_J22_init {Γ : Cx} {h : AH} {it tI : Nat} {a t dd : Nat} {m n : Int}  (hi : h it = some (tI, oF 14 [vi 0, vi 0, vi 0, .null])) (htI : tI ≠ 1) (ha : h a = some (t, oF 11 [vi m, .ref dd, vi n])) : Sp Γ yJ22_init mJ22_init 2 0 0 [.ref it, .ref a] h (Qv (fun h9 => h9 = hset h it (tI, oF 14 [vi 0, vi (-1), vi m, .ref a]))) NoX := by
  refine sp_of okJ22_init (cat_all rfl) (Nat.le_of_ble_eq_true rfl) rfl ?_
  refine v_ald0 (pc := 0) dJ22_init_0 ?_
  refine v_ald1 (pc := 1) dJ22_init_1 ?_
  refine v_putfF KJ22 3 (pc := 2) dJ22_init_2 (lw_all_tbl q1150) (Or.inl rfl) (Nat.le_of_ble_eq_true rfl) rfl rfl rfl hi htI (Nat.le_of_ble_eq_true rfl) rfl rfl rfl ?_
  refine vH (fun h1_ e1_ => ?_)
  have ha_1 := hs_o e1_ (ne_FF ha hi (by decide)) ha
  have hi_1 := hs_s e1_
  refine v_ald0 (pc := 5) dJ22_init_5 ?_
  refine v_objInit (pc := 6) dJ22_init_6 (lw_all_tbl q1146) (lw_all_tbl q156) (lw_all_tbl q157) (Nat.le_of_ble_eq_true rfl) (Nat.le_of_ble_eq_true rfl) ?_
  refine v_ald0 (pc := 9) dJ22_init_9 ?_
  refine v_iconst (pc := 10) dJ22_init_10 ?_
  refine v_putf KJ22 1 (pc := 11) dJ22_init_11 (lw_all_tbl q1148) (Or.inl rfl) (Nat.le_of_ble_eq_true rfl) rfl hi_1 htI (Nat.le_of_ble_eq_true rfl) rfl rfl rfl ?_
  refine vH (fun h2_ e2_ => ?_)
  have ha_2 := hs_o e2_ (ne_FF ha_1 hi_1 (by decide)) ha_1
  have hi_2 := hs_s e2_
  refine v_ald0 (pc := 14) dJ22_init_14 ?_
  refine v_ald0 (pc := 15) dJ22_init_15 ?_
  refine v_getf KJ22 3 (pc := 16) dJ22_init_16 (lw_all_tbl q1150) (Or.inl rfl) (Nat.le_of_ble_eq_true rfl) hi_2 rfl ?_
  refine v_getf KJ2 0 (pc := 19) dJ22_init_19 (lw_all_tbl q195) (Or.inr (lw_all_tbl q196)) (Nat.le_of_ble_eq_true rfl) ha_2 rfl ?_
  refine v_putf KJ22 2 (pc := 22) dJ22_init_22 (lw_all_tbl q1149) (Or.inl rfl) (Nat.le_of_ble_eq_true rfl) rfl hi_2 htI (Nat.le_of_ble_eq_true rfl) rfl rfl rfl ?_
  refine vH (fun h3_ e3_ => ?_)
  have ha_3 := hs_o e3_ (ne_FF ha_2 hi_2 (by decide)) ha_2
  have hi_3 := hs_s e3_
  refine v_ret_v (pc := 25) dJ22_init_25 rfl ?_
  exact qv_ok (by rw [e3_, e2_, e1_]; first | rfl | (simp only [hset_hset]; done) | (simp only [hset_hset]; rfl))
theorem sp_J2_iterator {Γ : Cx} {h : AH} {tI : Nat} {a t dd : Nat} {m n : Int}  (ha : h a = some (t, oF 11 [vi m, .ref dd, vi n])) (htI : tI ≠ 1) : Sp Γ yJ2_iterator mJ2_iterator 3 1 4 [.ref a] h (Qr (fun it h9 => h it = none ∧ h9 = hset h it (tI, oF 14 [vi 0, vi (-1), vi m, .ref a]))) NoX := by
  refine sp_of okJ2_iterator (cat_all rfl) (Nat.le_of_ble_eq_true rfl) rfl ?_
  refine v_new KJ22 tI (pc := 0) dJ2_iterator_0 (lw_all_tbl q1141) (lw_all_tbl q1142) (lw_all_tbl q146) rfl (by omega) (by omega) (fun it n0 => ?_)
  refine vH (fun h1_ e1_ => ?_)
  have ha_1 := hs_o e1_ (ne_new ha n0) ha
  have f0_1 := hs_s e1_
  refine v_dup (pc := 3) dJ2_iterator_3 rfl ?_
  refine v_ald0 (pc := 4) dJ2_iterator_4 ?_
  refine v_cv0 (pc := 5) (v_runI1 okJ22_init rfl rfl rfl (sp_J22_init f0_1 htI ha_1) dJ2_iterator_5 (lw_all_tbl q1143) (lw_all_tbl q1144) (Nat.le_of_ble_eq_true rfl) ⟨Nat.zero_le _, Nat.zero_le _⟩ (Nat.le_of_ble_eq_true rfl)) (fun h2_ e2_ => ?_)
  have ha_2 := hs_o e2_ (ne_FF ha_1 f0_1 (by decide)) ha_1
  have f0_2 := hs_s e2_
  refine v_ret_r (pc := 8) dJ2_iterator_8 rfl ?_
  exact qr_ok ⟨n0, by rw [e2_, e1_]; first | rfl | (simp only [hset_hset]; done) | (simp only [hset_hset]; rfl)⟩
theorem sp_J22_hasNext {Γ : Cx} {h : AH} {it tI : Nat} {c r : Int} {a t dd : Nat} {m n : Int} {m2 : Int}  (hi : h it = some (tI, oF 14 [vi c, vi r, vi m2, .ref a])) (ha : h a = some (t, oF 11 [vi m, .ref dd, vi n])) (hn : 0 ≤ n ∧ n ≤ 100000 ∧ 0 ≤ c ∧ c ≤ 100000) : Sp Γ yJ22_hasNext mJ22_hasNext 1 0 0 [.ref it] h (Qb (c ≠ n) h) NoX := by
  refine sp_of okJ22_hasNext (cat_all rfl) (Nat.le_of_ble_eq_true rfl) rfl ?_
  refine v_ald0 (pc := 0) dJ22_hasNext_0 ?_
  refine v_getf KJ22 0 (pc := 1) dJ22_hasNext_1 (lw_all_tbl q1147) (Or.inl rfl) (Nat.le_of_ble_eq_true rfl) hi rfl ?_
  refine v_ald0 (pc := 4) dJ22_hasNext_4 ?_
  refine v_getf KJ22 3 (pc := 5) dJ22_hasNext_5 (lw_all_tbl q1150) (Or.inl rfl) (Nat.le_of_ble_eq_true rfl) hi rfl ?_
  refine v_getfN KJ2 2 (pc := 8) dJ22_hasNext_8 q192 (Or.inl rfl) (Nat.le_of_ble_eq_true rfl) ha rfl ?_
  refine v_icmp_eq (pc := 11) (tgt := 18) dJ22_hasNext_11 rfl (by omega) (by omega) (fun c11 => ?_) (fun c11 => ?_)
  · refine v_iconst (pc := 18) dJ22_hasNext_18 ?_
    refine v_ret_z0 (pc := 19) dJ22_hasNext_19 rfl ?_
    exact qb_0 (by omega)
  · refine v_iconst (pc := 14) dJ22_hasNext_14 ?_
    refine v_goto (pc := 15) (tgt := 19) dJ22_hasNext_15 rfl ?_
    refine v_ret_z1 (pc := 19) dJ22_hasNext_19 rfl ?_
    exact qb_1 (by omega)
theorem sp_J22_checkForComodification {Γ : Cx} {h : AH} {it tI : Nat} {c r : Int} {a t dd : Nat} {m n : Int}  (hi : h it = some (tI, oF 14 [vi c, vi r, vi m, .ref a])) (ha : h a = some (t, oF 11 [vi m, .ref dd, vi n])) (hm : -2147483648 ≤ m ∧ m ≤ 2147483647) : Sp Γ yJ22_checkForComodification mJ22_checkForComodification 1 0 0 [.ref it] h (Qv (fun h9 => h9 = h)) NoX := by
  refine sp_of okJ22_checkForComodification (cat_all rfl) (Nat.le_of_ble_eq_true rfl) rfl ?_
  refine v_ald0 (pc := 0) dJ22_checkForComodification_0 ?_
  refine v_getf KJ22 3 (pc := 1) dJ22_checkForComodification_1 (lw_all_tbl q1150) (Or.inl rfl) (Nat.le_of_ble_eq_true rfl) hi rfl ?_
  refine v_getf KJ2 0 (pc := 4) dJ22_checkForComodification_4 (lw_all_tbl q195) (Or.inr (lw_all_tbl q196)) (Nat.le_of_ble_eq_true rfl) ha rfl ?_
  refine v_ald0 (pc := 7) dJ22_checkForComodification_7 ?_
  refine v_getf KJ22 2 (pc := 8) dJ22_checkForComodification_8 (lw_all_tbl q1149) (Or.inl rfl) (Nat.le_of_ble_eq_true rfl) hi rfl ?_
  refine v_icmp_eq (pc := 11) (tgt := 22) dJ22_checkForComodification_11 rfl (by omega) (by omega) (fun c11 => ?_) (fun c11 => absurd c11 (by omega))
  refine v_ret_v (pc := 22) dJ22_checkForComodification_22 rfl ?_
  exact qv_ok rfl
theorem sp_J22_next {Γ : Cx} {h : AH} {it tI q : Nat} {c r : Int} {a t dd : Nat} {m n : Int} {td cap : Nat} {f : Nat → Value}  (hi : h it = some (tI, oF 14 [vi c, vi r, vi m, .ref a])) (htI : tI ≠ 1) (ha : h a = some (t, oF 11 [vi m, .ref dd, vi n])) (hd : h dd = some (td, oA 5 cap f)) (hm : -2147483648 ≤ m ∧ m ≤ 2147483647) (hn : 0 ≤ c ∧ c < n ∧ n ≤ cap ∧ cap ≤ 100000) (hv : f c.toNat = .ref q) : Sp Γ yJ22_next mJ22_next 2 0 0 [.ref it] h (Qr (fun y h9 => y = q ∧ h9 = hset h it (tI, oF 14 [vi (c + 1), vi c, vi m, .ref a]))) NoX := by
  refine sp_of okJ22_next (cat_all rfl) (Nat.le_of_ble_eq_true rfl) rfl ?_
  refine v_ald0 (pc := 0) dJ22_next_0 ?_
  refine v_cv0 (pc := 1) (v_runV0 okJ22_checkForComodification rfl (sp_J22_checkForComodification hi ha hm) dJ22_next_1 (lw_all_tbl q1179) (lw_all_tbl q1180) (lw_all_tbl q1181) rfl hi (Nat.le_of_ble_eq_true rfl) ⟨Nat.zero_le _, Nat.zero_le _⟩ (Nat.le_of_ble_eq_true rfl)) (fun h19 e19 => ?_)
  subst e19
  refine v_ald0 (pc := 4) dJ22_next_4 ?_
  refine v_getf KJ22 0 (pc := 5) dJ22_next_5 (lw_all_tbl q1147) (Or.inl rfl) (Nat.le_of_ble_eq_true rfl) hi rfl ?_
  refine v_ist1 (pc := 8) dJ22_next_8 rfl ?_
  refine v_ild1 (pc := 9) dJ22_next_9 ?_
  refine v_ald0 (pc := 10) dJ22_next_10 ?_
  refine v_getf KJ22 3 (pc := 11) dJ22_next_11 (lw_all_tbl q1150) (Or.inl rfl) (Nat.le_of_ble_eq_true rfl) hi rfl ?_
  refine v_getfN KJ2 2 (pc := 14) dJ22_next_14 q192 (Or.inl rfl) (Nat.le_of_ble_eq_true rfl) ha rfl ?_
  refine v_icmp_lt (pc := 17) (tgt := 28) dJ22_next_17 rfl (by omega) (by omega) (fun c17 => ?_) (fun c17 => absurd c17 (by omega))
  refine v_ald0 (pc := 28) dJ22_next_28 ?_
  refine v_getf KJ22 3 (pc := 29) dJ22_next_29 (lw_all_tbl q1150) (Or.inl rfl) (Nat.le_of_ble_eq_true rfl) hi rfl ?_
  refine v_getf KJ2 1 (pc := 32) dJ22_next_32 (lw_all_tbl q191) (Or.inl rfl) (Nat.le_of_ble_eq_true rfl) ha rfl ?_
  refine v_ast2 (pc := 35) dJ22_next_35 rfl ?_
  refine v_ild1 (pc := 36) dJ22_next_36 ?_
  refine v_ald2 (pc := 37) dJ22_next_37 ?_
  refine v_alen (pc := 38) dJ22_next_38 rfl hd ?_
  refine v_icmp_lt (pc := 39) (tgt := 50) dJ22_next_39 rfl (by omega) (by omega) (fun c39 => ?_) (fun c39 => absurd c39 (by omega))
  refine v_ald0 (pc := 50) dJ22_next_50 ?_
  refine v_ild1 (pc := 51) dJ22_next_51 ?_
  refine v_iconst (pc := 52) dJ22_next_52 ?_
  refine v_iadd (pc := 53) dJ22_next_53 ?_
  refine v_putf KJ22 0 (pc := 54) dJ22_next_54 (lw_all_tbl q1147) (Or.inl rfl) (Nat.le_of_ble_eq_true rfl) rfl hi htI (Nat.le_of_ble_eq_true rfl) rfl rfl rfl ?_
  refine vH (fun h1_ e1_ => ?_)
  have ha_1 := hs_o e1_ (ne_FF ha hi (by decide)) ha
  have hd_1 := hs_o e1_ (ne_AF hd hi) hd
  have hi_1 := hs_s e1_
  refine v_ald2 (pc := 57) dJ22_next_57 ?_
  refine v_ald0 (pc := 58) dJ22_next_58 ?_
  refine v_ild1 (pc := 59) dJ22_next_59 ?_
  refine v_dup_x1 (pc := 60) dJ22_next_60 rfl rfl ?_
  refine v_putf KJ22 1 (pc := 61) dJ22_next_61 (lw_all_tbl q1148) (Or.inl rfl) (Nat.le_of_ble_eq_true rfl) rfl hi_1 htI (Nat.le_of_ble_eq_true rfl) rfl rfl rfl ?_
  refine vH (fun h2_ e2_ => ?_)
  have ha_2 := hs_o e2_ (ne_FF ha_1 hi_1 (by decide)) ha_1
  have hd_2 := hs_o e2_ (ne_AF hd_1 hi_1) hd_1
  have hi_2 := hs_s e2_
  refine v_aald (pc := 64) dJ22_next_64 rfl hd_2 ⟨by omega, by omega, by omega⟩ hv ?_
  refine v_ret_r (pc := 65) dJ22_next_65 rfl ?_
  exact qr_ok ⟨rfl, by rw [e2_, e1_]; first | rfl | (simp only [hset_hset]; done) | (simp only [hset_hset]; rfl)⟩
