/-! ROWS OF LAYER V (printed by gen/mkrows.py) -/
set_option maxRecDepth 100000
section VR
variable {Γ : Cx} {M : MI} {d mc ms : Nat} {Q : PQ} {X : PX} {h : AH} {bc bs pc : Nat} {ls : Lcs} {st : List Value}
theorem v_iconst {n : Int} (hd : decode M.2.1 pc = .ok (.iconst n, 1))  (k : V Γ M d mc ms Q X h bc bs (pc + 1) ls (vi n :: st)) : V Γ M d mc ms Q X h bc bs pc ls st := by
  intro p e R s m args below meth c H locs cells slots arr C S L
  exact lv_iconst C.1 C.2.1 hd rfl (k p e R s m args below meth c H locs cells slots arr C S L)
theorem v_bipush {n : Int} (hd : decode M.2.1 pc = .ok (.bipush n, 2)) (hn : -128 ≤ n ∧ n ≤ 127) (k : V Γ M d mc ms Q X h bc bs (pc + 2) ls (vi n :: st)) : V Γ M d mc ms Q X h bc bs pc ls st := by
  intro p e R s m args below meth c H locs cells slots arr C S L
  exact lv_bipush C.1 C.2.1 hd (Int8.toInt32_ofInt hn.1 hn.2) (k p e R s m args below meth c H locs cells slots arr C S L)
theorem v_sipush {n : Int} (hd : decode M.2.1 pc = .ok (.sipush n, 3)) (hn : -32768 ≤ n ∧ n ≤ 32767) (k : V Γ M d mc ms Q X h bc bs (pc + 3) ls (vi n :: st)) : V Γ M d mc ms Q X h bc bs pc ls st := by
  intro p e R s m args below meth c H locs cells slots arr C S L
  exact lv_sipush C.1 C.2.1 hd (Int16.toInt32_ofInt hn.1 hn.2) (k p e R s m args below meth c H locs cells slots arr C S L)
theorem v_ldci {idx : Nat} {n : Int} (hd : decode M.2.1 pc = .ok (.ldc idx, 2)) (hw : Cond.constant M.1 idx (Int32.ofInt n) ∈ lw_tbl) (k : V Γ M d mc ms Q X h bc bs (pc + 2) ls (vi n :: st)) : V Γ M d mc ms Q X h bc bs pc ls st := by
  intro p e R s m args below meth c H locs cells slots arr C S L
  exact lv_ldc C.1 C.2.1 C.2.2.2.2.1 (C.2.2.2.2.2.1 _ hw rfl) hd (k p e R s m args below meth c H locs cells slots arr C S L)
theorem v_null  (hd : decode M.2.1 pc = .ok (.aconst_null, 1))  (k : V Γ M d mc ms Q X h bc bs (pc + 1) ls (.null :: st)) : V Γ M d mc ms Q X h bc bs pc ls st := by
  intro p e R s m args below meth c H locs cells slots arr C S L
  exact lv_null C.1 C.2.1 hd (k p e R s m args below meth c H locs cells slots arr C S L)
theorem v_ldc2 {idx : Nat} {n : Int64} (hd : decode M.2.1 pc = .ok (.ldc2_w idx, 3)) (hw : Cond.constantLong M.1 idx n ∈ lw_tbl) (k : V Γ M d mc ms Q X h bc bs (pc + 3) ls (.long n :: st)) : V Γ M d mc ms Q X h bc bs pc ls st := by
  intro p e R s m args below meth c H locs cells slots arr C S L
  exact lv_ldc2 C.1 C.2.1 C.2.2.2.2.1 (C.2.2.2.2.2.1 _ hw rfl) hd (k p e R s m args below meth c H locs cells slots arr C S L)
theorem v_ldcf {idx : Nat} {n : UInt32} (hd : decode M.2.1 pc = .ok (.ldc idx, 2)) (hw : Cond.constantFloat M.1 idx n ∈ lw_tbl) (k : V Γ M d mc ms Q X h bc bs (pc + 2) ls (.float n :: st)) : V Γ M d mc ms Q X h bc bs pc ls st := by
  intro p e R s m args below meth c H locs cells slots arr C S L
  exact lv_ldcf C.1 C.2.1 C.2.2.2.2.1 (C.2.2.2.2.2.1 _ hw rfl) hd (k p e R s m args below meth c H locs cells slots arr C S L)
theorem v_dconst0  (hd : decode M.2.1 pc = .ok (.dconst 0, 1))  (k : V Γ M d mc ms Q X h bc bs (pc + 1) ls (.double FP.dconst0 :: st)) : V Γ M d mc ms Q X h bc bs pc ls st := by
  intro p e R s m args below meth c H locs cells slots arr C S L
  exact lv_dconst0 C.1 C.2.1 hd (k p e R s m args below meth c H locs cells slots arr C S L)
theorem v_ild0  {x : Int} (hd : decode M.2.1 pc = .ok (.iload_n 0, 1))  (k : V Γ M d mc ms Q X h bc bs (pc + 1) ((some (vi x)) :: ls) (vi x :: st)) : V Γ M d mc ms Q X h bc bs pc ((some (vi x)) :: ls) st := by
  intro p e R s m args below meth c H locs cells slots arr C S L
  exact lv_iload_n C.1 C.2.1 hd rfl (L.2.2.2 0 _ rfl) (k p e R s m args below meth c H locs cells slots arr C S L)
theorem v_ald0  {a : Nat} (hd : decode M.2.1 pc = .ok (.aload_n 0, 1))  (k : V Γ M d mc ms Q X h bc bs (pc + 1) ((some (.ref a)) :: ls) (.ref a :: st)) : V Γ M d mc ms Q X h bc bs pc ((some (.ref a)) :: ls) st := by
  intro p e R s m args below meth c H locs cells slots arr C S L
  exact lv_aload_n C.1 C.2.1 hd rfl (L.2.2.2 0 _ rfl) (k p e R s m args below meth c H locs cells slots arr C S L)
theorem v_aldn0   (hd : decode M.2.1 pc = .ok (.aload_n 0, 1))  (k : V Γ M d mc ms Q X h bc bs (pc + 1) ((some .null) :: ls) (.null :: st)) : V Γ M d mc ms Q X h bc bs pc ((some .null) :: ls) st := by
  intro p e R s m args below meth c H locs cells slots arr C S L
  exact lv_aload_nN C.1 C.2.1 hd rfl (L.2.2.2 0 _ rfl) (k p e R s m args below meth c H locs cells slots arr C S L)
theorem v_dld0  {x : UInt64} (hd : decode M.2.1 pc = .ok (.dload_n 0, 1))  (k : V Γ M d mc ms Q X h bc bs (pc + 1) ((some (.double x)) :: ls) (.double x :: st)) : V Γ M d mc ms Q X h bc bs pc ((some (.double x)) :: ls) st := by
  intro p e R s m args below meth c H locs cells slots arr C S L
  exact lv_dload_n C.1 C.2.1 hd rfl (L.2.2.2 0 _ rfl) (k p e R s m args below meth c H locs cells slots arr C S L)
theorem v_ild1 {o0 : Option Value} {x : Int} (hd : decode M.2.1 pc = .ok (.iload_n 1, 1))  (k : V Γ M d mc ms Q X h bc bs (pc + 1) (o0 :: (some (vi x)) :: ls) (vi x :: st)) : V Γ M d mc ms Q X h bc bs pc (o0 :: (some (vi x)) :: ls) st := by
  intro p e R s m args below meth c H locs cells slots arr C S L
  exact lv_iload_n C.1 C.2.1 hd rfl (L.2.2.2 1 _ rfl) (k p e R s m args below meth c H locs cells slots arr C S L)
theorem v_ald1 {o0 : Option Value} {a : Nat} (hd : decode M.2.1 pc = .ok (.aload_n 1, 1))  (k : V Γ M d mc ms Q X h bc bs (pc + 1) (o0 :: (some (.ref a)) :: ls) (.ref a :: st)) : V Γ M d mc ms Q X h bc bs pc (o0 :: (some (.ref a)) :: ls) st := by
  intro p e R s m args below meth c H locs cells slots arr C S L
  exact lv_aload_n C.1 C.2.1 hd rfl (L.2.2.2 1 _ rfl) (k p e R s m args below meth c H locs cells slots arr C S L)
theorem v_aldn1 {o0 : Option Value}  (hd : decode M.2.1 pc = .ok (.aload_n 1, 1))  (k : V Γ M d mc ms Q X h bc bs (pc + 1) (o0 :: (some .null) :: ls) (.null :: st)) : V Γ M d mc ms Q X h bc bs pc (o0 :: (some .null) :: ls) st := by
  intro p e R s m args below meth c H locs cells slots arr C S L
  exact lv_aload_nN C.1 C.2.1 hd rfl (L.2.2.2 1 _ rfl) (k p e R s m args below meth c H locs cells slots arr C S L)
theorem v_dld1 {o0 : Option Value} {x : UInt64} (hd : decode M.2.1 pc = .ok (.dload_n 1, 1))  (k : V Γ M d mc ms Q X h bc bs (pc + 1) (o0 :: (some (.double x)) :: ls) (.double x :: st)) : V Γ M d mc ms Q X h bc bs pc (o0 :: (some (.double x)) :: ls) st := by
  intro p e R s m args below meth c H locs cells slots arr C S L
  exact lv_dload_n C.1 C.2.1 hd rfl (L.2.2.2 1 _ rfl) (k p e R s m args below meth c H locs cells slots arr C S L)
theorem v_ild2 {o0 o1 : Option Value} {x : Int} (hd : decode M.2.1 pc = .ok (.iload_n 2, 1))  (k : V Γ M d mc ms Q X h bc bs (pc + 1) (o0 :: o1 :: (some (vi x)) :: ls) (vi x :: st)) : V Γ M d mc ms Q X h bc bs pc (o0 :: o1 :: (some (vi x)) :: ls) st := by
  intro p e R s m args below meth c H locs cells slots arr C S L
  exact lv_iload_n C.1 C.2.1 hd rfl (L.2.2.2 2 _ rfl) (k p e R s m args below meth c H locs cells slots arr C S L)
theorem v_ald2 {o0 o1 : Option Value} {a : Nat} (hd : decode M.2.1 pc = .ok (.aload_n 2, 1))  (k : V Γ M d mc ms Q X h bc bs (pc + 1) (o0 :: o1 :: (some (.ref a)) :: ls) (.ref a :: st)) : V Γ M d mc ms Q X h bc bs pc (o0 :: o1 :: (some (.ref a)) :: ls) st := by
  intro p e R s m args below meth c H locs cells slots arr C S L
  exact lv_aload_n C.1 C.2.1 hd rfl (L.2.2.2 2 _ rfl) (k p e R s m args below meth c H locs cells slots arr C S L)
theorem v_aldn2 {o0 o1 : Option Value}  (hd : decode M.2.1 pc = .ok (.aload_n 2, 1))  (k : V Γ M d mc ms Q X h bc bs (pc + 1) (o0 :: o1 :: (some .null) :: ls) (.null :: st)) : V Γ M d mc ms Q X h bc bs pc (o0 :: o1 :: (some .null) :: ls) st := by
  intro p e R s m args below meth c H locs cells slots arr C S L
  exact lv_aload_nN C.1 C.2.1 hd rfl (L.2.2.2 2 _ rfl) (k p e R s m args below meth c H locs cells slots arr C S L)
theorem v_dld2 {o0 o1 : Option Value} {x : UInt64} (hd : decode M.2.1 pc = .ok (.dload_n 2, 1))  (k : V Γ M d mc ms Q X h bc bs (pc + 1) (o0 :: o1 :: (some (.double x)) :: ls) (.double x :: st)) : V Γ M d mc ms Q X h bc bs pc (o0 :: o1 :: (some (.double x)) :: ls) st := by
  intro p e R s m args below meth c H locs cells slots arr C S L
  exact lv_dload_n C.1 C.2.1 hd rfl (L.2.2.2 2 _ rfl) (k p e R s m args below meth c H locs cells slots arr C S L)
theorem v_ild3 {o0 o1 o2 : Option Value} {x : Int} (hd : decode M.2.1 pc = .ok (.iload_n 3, 1))  (k : V Γ M d mc ms Q X h bc bs (pc + 1) (o0 :: o1 :: o2 :: (some (vi x)) :: ls) (vi x :: st)) : V Γ M d mc ms Q X h bc bs pc (o0 :: o1 :: o2 :: (some (vi x)) :: ls) st := by
  intro p e R s m args below meth c H locs cells slots arr C S L
  exact lv_iload_n C.1 C.2.1 hd rfl (L.2.2.2 3 _ rfl) (k p e R s m args below meth c H locs cells slots arr C S L)
theorem v_ald3 {o0 o1 o2 : Option Value} {a : Nat} (hd : decode M.2.1 pc = .ok (.aload_n 3, 1))  (k : V Γ M d mc ms Q X h bc bs (pc + 1) (o0 :: o1 :: o2 :: (some (.ref a)) :: ls) (.ref a :: st)) : V Γ M d mc ms Q X h bc bs pc (o0 :: o1 :: o2 :: (some (.ref a)) :: ls) st := by
  intro p e R s m args below meth c H locs cells slots arr C S L
  exact lv_aload_n C.1 C.2.1 hd rfl (L.2.2.2 3 _ rfl) (k p e R s m args below meth c H locs cells slots arr C S L)
theorem v_aldn3 {o0 o1 o2 : Option Value}  (hd : decode M.2.1 pc = .ok (.aload_n 3, 1))  (k : V Γ M d mc ms Q X h bc bs (pc + 1) (o0 :: o1 :: o2 :: (some .null) :: ls) (.null :: st)) : V Γ M d mc ms Q X h bc bs pc (o0 :: o1 :: o2 :: (some .null) :: ls) st := by
  intro p e R s m args below meth c H locs cells slots arr C S L
  exact lv_aload_nN C.1 C.2.1 hd rfl (L.2.2.2 3 _ rfl) (k p e R s m args below meth c H locs cells slots arr C S L)
theorem v_dld3 {o0 o1 o2 : Option Value} {x : UInt64} (hd : decode M.2.1 pc = .ok (.dload_n 3, 1))  (k : V Γ M d mc ms Q X h bc bs (pc + 1) (o0 :: o1 :: o2 :: (some (.double x)) :: ls) (.double x :: st)) : V Γ M d mc ms Q X h bc bs pc (o0 :: o1 :: o2 :: (some (.double x)) :: ls) st := by
  intro p e R s m args below meth c H locs cells slots arr C S L
  exact lv_dload_n C.1 C.2.1 hd rfl (L.2.2.2 3 _ rfl) (k p e R s m args below meth c H locs cells slots arr C S L)
theorem v_ild4 {o0 o1 o2 o3 : Option Value} {x : Int} (hd : decode M.2.1 pc = .ok (.iload 4, 2))  (k : V Γ M d mc ms Q X h bc bs (pc + 2) (o0 :: o1 :: o2 :: o3 :: (some (vi x)) :: ls) (vi x :: st)) : V Γ M d mc ms Q X h bc bs pc (o0 :: o1 :: o2 :: o3 :: (some (vi x)) :: ls) st := by
  intro p e R s m args below meth c H locs cells slots arr C S L
  exact lv_iload C.1 C.2.1 hd (L.2.2.2 4 _ rfl) (k p e R s m args below meth c H locs cells slots arr C S L)
theorem v_ald4 {o0 o1 o2 o3 : Option Value} {a : Nat} (hd : decode M.2.1 pc = .ok (.aload 4, 2))  (k : V Γ M d mc ms Q X h bc bs (pc + 2) (o0 :: o1 :: o2 :: o3 :: (some (.ref a)) :: ls) (.ref a :: st)) : V Γ M d mc ms Q X h bc bs pc (o0 :: o1 :: o2 :: o3 :: (some (.ref a)) :: ls) st := by
  intro p e R s m args below meth c H locs cells slots arr C S L
  exact lv_aload C.1 C.2.1 hd (L.2.2.2 4 _ rfl) (k p e R s m args below meth c H locs cells slots arr C S L)
theorem v_aldn4 {o0 o1 o2 o3 : Option Value}  (hd : decode M.2.1 pc = .ok (.aload 4, 2))  (k : V Γ M d mc ms Q X h bc bs (pc + 2) (o0 :: o1 :: o2 :: o3 :: (some .null) :: ls) (.null :: st)) : V Γ M d mc ms Q X h bc bs pc (o0 :: o1 :: o2 :: o3 :: (some .null) :: ls) st := by
  intro p e R s m args below meth c H locs cells slots arr C S L
  exact lv_aloadN C.1 C.2.1 hd (L.2.2.2 4 _ rfl) (k p e R s m args below meth c H locs cells slots arr C S L)
theorem v_dld4 {o0 o1 o2 o3 : Option Value} {x : UInt64} (hd : decode M.2.1 pc = .ok (.dload 4, 2))  (k : V Γ M d mc ms Q X h bc bs (pc + 2) (o0 :: o1 :: o2 :: o3 :: (some (.double x)) :: ls) (.double x :: st)) : V Γ M d mc ms Q X h bc bs pc (o0 :: o1 :: o2 :: o3 :: (some (.double x)) :: ls) st := by
  intro p e R s m args below meth c H locs cells slots arr C S L
  exact lv_dload C.1 C.2.1 hd (L.2.2.2 4 _ rfl) (k p e R s m args below meth c H locs cells slots arr C S L)
theorem v_ild5 {o0 o1 o2 o3 o4 : Option Value} {x : Int} (hd : decode M.2.1 pc = .ok (.iload 5, 2))  (k : V Γ M d mc ms Q X h bc bs (pc + 2) (o0 :: o1 :: o2 :: o3 :: o4 :: (some (vi x)) :: ls) (vi x :: st)) : V Γ M d mc ms Q X h bc bs pc (o0 :: o1 :: o2 :: o3 :: o4 :: (some (vi x)) :: ls) st := by
  intro p e R s m args below meth c H locs cells slots arr C S L
  exact lv_iload C.1 C.2.1 hd (L.2.2.2 5 _ rfl) (k p e R s m args below meth c H locs cells slots arr C S L)
theorem v_ald5 {o0 o1 o2 o3 o4 : Option Value} {a : Nat} (hd : decode M.2.1 pc = .ok (.aload 5, 2))  (k : V Γ M d mc ms Q X h bc bs (pc + 2) (o0 :: o1 :: o2 :: o3 :: o4 :: (some (.ref a)) :: ls) (.ref a :: st)) : V Γ M d mc ms Q X h bc bs pc (o0 :: o1 :: o2 :: o3 :: o4 :: (some (.ref a)) :: ls) st := by
  intro p e R s m args below meth c H locs cells slots arr C S L
  exact lv_aload C.1 C.2.1 hd (L.2.2.2 5 _ rfl) (k p e R s m args below meth c H locs cells slots arr C S L)
theorem v_aldn5 {o0 o1 o2 o3 o4 : Option Value}  (hd : decode M.2.1 pc = .ok (.aload 5, 2))  (k : V Γ M d mc ms Q X h bc bs (pc + 2) (o0 :: o1 :: o2 :: o3 :: o4 :: (some .null) :: ls) (.null :: st)) : V Γ M d mc ms Q X h bc bs pc (o0 :: o1 :: o2 :: o3 :: o4 :: (some .null) :: ls) st := by
  intro p e R s m args below meth c H locs cells slots arr C S L
  exact lv_aloadN C.1 C.2.1 hd (L.2.2.2 5 _ rfl) (k p e R s m args below meth c H locs cells slots arr C S L)
theorem v_dld5 {o0 o1 o2 o3 o4 : Option Value} {x : UInt64} (hd : decode M.2.1 pc = .ok (.dload 5, 2))  (k : V Γ M d mc ms Q X h bc bs (pc + 2) (o0 :: o1 :: o2 :: o3 :: o4 :: (some (.double x)) :: ls) (.double x :: st)) : V Γ M d mc ms Q X h bc bs pc (o0 :: o1 :: o2 :: o3 :: o4 :: (some (.double x)) :: ls) st := by
  intro p e R s m args below meth c H locs cells slots arr C S L
  exact lv_dload C.1 C.2.1 hd (L.2.2.2 5 _ rfl) (k p e R s m args below meth c H locs cells slots arr C S L)
theorem v_ild6 {o0 o1 o2 o3 o4 o5 : Option Value} {x : Int} (hd : decode M.2.1 pc = .ok (.iload 6, 2))  (k : V Γ M d mc ms Q X h bc bs (pc + 2) (o0 :: o1 :: o2 :: o3 :: o4 :: o5 :: (some (vi x)) :: ls) (vi x :: st)) : V Γ M d mc ms Q X h bc bs pc (o0 :: o1 :: o2 :: o3 :: o4 :: o5 :: (some (vi x)) :: ls) st := by
  intro p e R s m args below meth c H locs cells slots arr C S L
  exact lv_iload C.1 C.2.1 hd (L.2.2.2 6 _ rfl) (k p e R s m args below meth c H locs cells slots arr C S L)
theorem v_ald6 {o0 o1 o2 o3 o4 o5 : Option Value} {a : Nat} (hd : decode M.2.1 pc = .ok (.aload 6, 2))  (k : V Γ M d mc ms Q X h bc bs (pc + 2) (o0 :: o1 :: o2 :: o3 :: o4 :: o5 :: (some (.ref a)) :: ls) (.ref a :: st)) : V Γ M d mc ms Q X h bc bs pc (o0 :: o1 :: o2 :: o3 :: o4 :: o5 :: (some (.ref a)) :: ls) st := by
  intro p e R s m args below meth c H locs cells slots arr C S L
  exact lv_aload C.1 C.2.1 hd (L.2.2.2 6 _ rfl) (k p e R s m args below meth c H locs cells slots arr C S L)
theorem v_aldn6 {o0 o1 o2 o3 o4 o5 : Option Value}  (hd : decode M.2.1 pc = .ok (.aload 6, 2))  (k : V Γ M d mc ms Q X h bc bs (pc + 2) (o0 :: o1 :: o2 :: o3 :: o4 :: o5 :: (some .null) :: ls) (.null :: st)) : V Γ M d mc ms Q X h bc bs pc (o0 :: o1 :: o2 :: o3 :: o4 :: o5 :: (some .null) :: ls) st := by
  intro p e R s m args below meth c H locs cells slots arr C S L
  exact lv_aloadN C.1 C.2.1 hd (L.2.2.2 6 _ rfl) (k p e R s m args below meth c H locs cells slots arr C S L)
theorem v_dld6 {o0 o1 o2 o3 o4 o5 : Option Value} {x : UInt64} (hd : decode M.2.1 pc = .ok (.dload 6, 2))  (k : V Γ M d mc ms Q X h bc bs (pc + 2) (o0 :: o1 :: o2 :: o3 :: o4 :: o5 :: (some (.double x)) :: ls) (.double x :: st)) : V Γ M d mc ms Q X h bc bs pc (o0 :: o1 :: o2 :: o3 :: o4 :: o5 :: (some (.double x)) :: ls) st := by
  intro p e R s m args below meth c H locs cells slots arr C S L
  exact lv_dload C.1 C.2.1 hd (L.2.2.2 6 _ rfl) (k p e R s m args below meth c H locs cells slots arr C S L)
theorem v_ild7 {o0 o1 o2 o3 o4 o5 o6 : Option Value} {x : Int} (hd : decode M.2.1 pc = .ok (.iload 7, 2))  (k : V Γ M d mc ms Q X h bc bs (pc + 2) (o0 :: o1 :: o2 :: o3 :: o4 :: o5 :: o6 :: (some (vi x)) :: ls) (vi x :: st)) : V Γ M d mc ms Q X h bc bs pc (o0 :: o1 :: o2 :: o3 :: o4 :: o5 :: o6 :: (some (vi x)) :: ls) st := by
  intro p e R s m args below meth c H locs cells slots arr C S L
  exact lv_iload C.1 C.2.1 hd (L.2.2.2 7 _ rfl) (k p e R s m args below meth c H locs cells slots arr C S L)
theorem v_ald7 {o0 o1 o2 o3 o4 o5 o6 : Option Value} {a : Nat} (hd : decode M.2.1 pc = .ok (.aload 7, 2))  (k : V Γ M d mc ms Q X h bc bs (pc + 2) (o0 :: o1 :: o2 :: o3 :: o4 :: o5 :: o6 :: (some (.ref a)) :: ls) (.ref a :: st)) : V Γ M d mc ms Q X h bc bs pc (o0 :: o1 :: o2 :: o3 :: o4 :: o5 :: o6 :: (some (.ref a)) :: ls) st := by
  intro p e R s m args below meth c H locs cells slots arr C S L
  exact lv_aload C.1 C.2.1 hd (L.2.2.2 7 _ rfl) (k p e R s m args below meth c H locs cells slots arr C S L)
theorem v_aldn7 {o0 o1 o2 o3 o4 o5 o6 : Option Value}  (hd : decode M.2.1 pc = .ok (.aload 7, 2))  (k : V Γ M d mc ms Q X h bc bs (pc + 2) (o0 :: o1 :: o2 :: o3 :: o4 :: o5 :: o6 :: (some .null) :: ls) (.null :: st)) : V Γ M d mc ms Q X h bc bs pc (o0 :: o1 :: o2 :: o3 :: o4 :: o5 :: o6 :: (some .null) :: ls) st := by
  intro p e R s m args below meth c H locs cells slots arr C S L
  exact lv_aloadN C.1 C.2.1 hd (L.2.2.2 7 _ rfl) (k p e R s m args below meth c H locs cells slots arr C S L)
theorem v_dld7 {o0 o1 o2 o3 o4 o5 o6 : Option Value} {x : UInt64} (hd : decode M.2.1 pc = .ok (.dload 7, 2))  (k : V Γ M d mc ms Q X h bc bs (pc + 2) (o0 :: o1 :: o2 :: o3 :: o4 :: o5 :: o6 :: (some (.double x)) :: ls) (.double x :: st)) : V Γ M d mc ms Q X h bc bs pc (o0 :: o1 :: o2 :: o3 :: o4 :: o5 :: o6 :: (some (.double x)) :: ls) st := by
  intro p e R s m args below meth c H locs cells slots arr C S L
  exact lv_dload C.1 C.2.1 hd (L.2.2.2 7 _ rfl) (k p e R s m args below meth c H locs cells slots arr C S L)
theorem v_ild8 {o0 o1 o2 o3 o4 o5 o6 o7 : Option Value} {x : Int} (hd : decode M.2.1 pc = .ok (.iload 8, 2))  (k : V Γ M d mc ms Q X h bc bs (pc + 2) (o0 :: o1 :: o2 :: o3 :: o4 :: o5 :: o6 :: o7 :: (some (vi x)) :: ls) (vi x :: st)) : V Γ M d mc ms Q X h bc bs pc (o0 :: o1 :: o2 :: o3 :: o4 :: o5 :: o6 :: o7 :: (some (vi x)) :: ls) st := by
  intro p e R s m args below meth c H locs cells slots arr C S L
  exact lv_iload C.1 C.2.1 hd (L.2.2.2 8 _ rfl) (k p e R s m args below meth c H locs cells slots arr C S L)
theorem v_ald8 {o0 o1 o2 o3 o4 o5 o6 o7 : Option Value} {a : Nat} (hd : decode M.2.1 pc = .ok (.aload 8, 2))  (k : V Γ M d mc ms Q X h bc bs (pc + 2) (o0 :: o1 :: o2 :: o3 :: o4 :: o5 :: o6 :: o7 :: (some (.ref a)) :: ls) (.ref a :: st)) : V Γ M d mc ms Q X h bc bs pc (o0 :: o1 :: o2 :: o3 :: o4 :: o5 :: o6 :: o7 :: (some (.ref a)) :: ls) st := by
  intro p e R s m args below meth c H locs cells slots arr C S L
  exact lv_aload C.1 C.2.1 hd (L.2.2.2 8 _ rfl) (k p e R s m args below meth c H locs cells slots arr C S L)
theorem v_aldn8 {o0 o1 o2 o3 o4 o5 o6 o7 : Option Value}  (hd : decode M.2.1 pc = .ok (.aload 8, 2))  (k : V Γ M d mc ms Q X h bc bs (pc + 2) (o0 :: o1 :: o2 :: o3 :: o4 :: o5 :: o6 :: o7 :: (some .null) :: ls) (.null :: st)) : V Γ M d mc ms Q X h bc bs pc (o0 :: o1 :: o2 :: o3 :: o4 :: o5 :: o6 :: o7 :: (some .null) :: ls) st := by
  intro p e R s m args below meth c H locs cells slots arr C S L
  exact lv_aloadN C.1 C.2.1 hd (L.2.2.2 8 _ rfl) (k p e R s m args below meth c H locs cells slots arr C S L)
theorem v_dld8 {o0 o1 o2 o3 o4 o5 o6 o7 : Option Value} {x : UInt64} (hd : decode M.2.1 pc = .ok (.dload 8, 2))  (k : V Γ M d mc ms Q X h bc bs (pc + 2) (o0 :: o1 :: o2 :: o3 :: o4 :: o5 :: o6 :: o7 :: (some (.double x)) :: ls) (.double x :: st)) : V Γ M d mc ms Q X h bc bs pc (o0 :: o1 :: o2 :: o3 :: o4 :: o5 :: o6 :: o7 :: (some (.double x)) :: ls) st := by
  intro p e R s m args below meth c H locs cells slots arr C S L
  exact lv_dload C.1 C.2.1 hd (L.2.2.2 8 _ rfl) (k p e R s m args below meth c H locs cells slots arr C S L)
theorem v_ild9 {o0 o1 o2 o3 o4 o5 o6 o7 o8 : Option Value} {x : Int} (hd : decode M.2.1 pc = .ok (.iload 9, 2))  (k : V Γ M d mc ms Q X h bc bs (pc + 2) (o0 :: o1 :: o2 :: o3 :: o4 :: o5 :: o6 :: o7 :: o8 :: (some (vi x)) :: ls) (vi x :: st)) : V Γ M d mc ms Q X h bc bs pc (o0 :: o1 :: o2 :: o3 :: o4 :: o5 :: o6 :: o7 :: o8 :: (some (vi x)) :: ls) st := by
  intro p e R s m args below meth c H locs cells slots arr C S L
  exact lv_iload C.1 C.2.1 hd (L.2.2.2 9 _ rfl) (k p e R s m args below meth c H locs cells slots arr C S L)
theorem v_ald9 {o0 o1 o2 o3 o4 o5 o6 o7 o8 : Option Value} {a : Nat} (hd : decode M.2.1 pc = .ok (.aload 9, 2))  (k : V Γ M d mc ms Q X h bc bs (pc + 2) (o0 :: o1 :: o2 :: o3 :: o4 :: o5 :: o6 :: o7 :: o8 :: (some (.ref a)) :: ls) (.ref a :: st)) : V Γ M d mc ms Q X h bc bs pc (o0 :: o1 :: o2 :: o3 :: o4 :: o5 :: o6 :: o7 :: o8 :: (some (.ref a)) :: ls) st := by
  intro p e R s m args below meth c H locs cells slots arr C S L
  exact lv_aload C.1 C.2.1 hd (L.2.2.2 9 _ rfl) (k p e R s m args below meth c H locs cells slots arr C S L)
theorem v_aldn9 {o0 o1 o2 o3 o4 o5 o6 o7 o8 : Option Value}  (hd : decode M.2.1 pc = .ok (.aload 9, 2))  (k : V Γ M d mc ms Q X h bc bs (pc + 2) (o0 :: o1 :: o2 :: o3 :: o4 :: o5 :: o6 :: o7 :: o8 :: (some .null) :: ls) (.null :: st)) : V Γ M d mc ms Q X h bc bs pc (o0 :: o1 :: o2 :: o3 :: o4 :: o5 :: o6 :: o7 :: o8 :: (some .null) :: ls) st := by
  intro p e R s m args below meth c H locs cells slots arr C S L
  exact lv_aloadN C.1 C.2.1 hd (L.2.2.2 9 _ rfl) (k p e R s m args below meth c H locs cells slots arr C S L)
theorem v_dld9 {o0 o1 o2 o3 o4 o5 o6 o7 o8 : Option Value} {x : UInt64} (hd : decode M.2.1 pc = .ok (.dload 9, 2))  (k : V Γ M d mc ms Q X h bc bs (pc + 2) (o0 :: o1 :: o2 :: o3 :: o4 :: o5 :: o6 :: o7 :: o8 :: (some (.double x)) :: ls) (.double x :: st)) : V Γ M d mc ms Q X h bc bs pc (o0 :: o1 :: o2 :: o3 :: o4 :: o5 :: o6 :: o7 :: o8 :: (some (.double x)) :: ls) st := by
  intro p e R s m args below meth c H locs cells slots arr C S L
  exact lv_dload C.1 C.2.1 hd (L.2.2.2 9 _ rfl) (k p e R s m args below meth c H locs cells slots arr C S L)
theorem v_ild10 {o0 o1 o2 o3 o4 o5 o6 o7 o8 o9 : Option Value} {x : Int} (hd : decode M.2.1 pc = .ok (.iload 10, 2))  (k : V Γ M d mc ms Q X h bc bs (pc + 2) (o0 :: o1 :: o2 :: o3 :: o4 :: o5 :: o6 :: o7 :: o8 :: o9 :: (some (vi x)) :: ls) (vi x :: st)) : V Γ M d mc ms Q X h bc bs pc (o0 :: o1 :: o2 :: o3 :: o4 :: o5 :: o6 :: o7 :: o8 :: o9 :: (some (vi x)) :: ls) st := by
  intro p e R s m args below meth c H locs cells slots arr C S L
  exact lv_iload C.1 C.2.1 hd (L.2.2.2 10 _ rfl) (k p e R s m args below meth c H locs cells slots arr C S L)
theorem v_ald10 {o0 o1 o2 o3 o4 o5 o6 o7 o8 o9 : Option Value} {a : Nat} (hd : decode M.2.1 pc = .ok (.aload 10, 2))  (k : V Γ M d mc ms Q X h bc bs (pc + 2) (o0 :: o1 :: o2 :: o3 :: o4 :: o5 :: o6 :: o7 :: o8 :: o9 :: (some (.ref a)) :: ls) (.ref a :: st)) : V Γ M d mc ms Q X h bc bs pc (o0 :: o1 :: o2 :: o3 :: o4 :: o5 :: o6 :: o7 :: o8 :: o9 :: (some (.ref a)) :: ls) st := by
  intro p e R s m args below meth c H locs cells slots arr C S L
  exact lv_aload C.1 C.2.1 hd (L.2.2.2 10 _ rfl) (k p e R s m args below meth c H locs cells slots arr C S L)
theorem v_aldn10 {o0 o1 o2 o3 o4 o5 o6 o7 o8 o9 : Option Value}  (hd : decode M.2.1 pc = .ok (.aload 10, 2))  (k : V Γ M d mc ms Q X h bc bs (pc + 2) (o0 :: o1 :: o2 :: o3 :: o4 :: o5 :: o6 :: o7 :: o8 :: o9 :: (some .null) :: ls) (.null :: st)) : V Γ M d mc ms Q X h bc bs pc (o0 :: o1 :: o2 :: o3 :: o4 :: o5 :: o6 :: o7 :: o8 :: o9 :: (some .null) :: ls) st := by
  intro p e R s m args below meth c H locs cells slots arr C S L
  exact lv_aloadN C.1 C.2.1 hd (L.2.2.2 10 _ rfl) (k p e R s m args below meth c H locs cells slots arr C S L)
theorem v_ild11 {o0 o1 o2 o3 o4 o5 o6 o7 o8 o9 o10 : Option Value} {x : Int} (hd : decode M.2.1 pc = .ok (.iload 11, 2))  (k : V Γ M d mc ms Q X h bc bs (pc + 2) (o0 :: o1 :: o2 :: o3 :: o4 :: o5 :: o6 :: o7 :: o8 :: o9 :: o10 :: (some (vi x)) :: ls) (vi x :: st)) : V Γ M d mc ms Q X h bc bs pc (o0 :: o1 :: o2 :: o3 :: o4 :: o5 :: o6 :: o7 :: o8 :: o9 :: o10 :: (some (vi x)) :: ls) st := by
  intro p e R s m args below meth c H locs cells slots arr C S L
  exact lv_iload C.1 C.2.1 hd (L.2.2.2 11 _ rfl) (k p e R s m args below meth c H locs cells slots arr C S L)
theorem v_ald11 {o0 o1 o2 o3 o4 o5 o6 o7 o8 o9 o10 : Option Value} {a : Nat} (hd : decode M.2.1 pc = .ok (.aload 11, 2))  (k : V Γ M d mc ms Q X h bc bs (pc + 2) (o0 :: o1 :: o2 :: o3 :: o4 :: o5 :: o6 :: o7 :: o8 :: o9 :: o10 :: (some (.ref a)) :: ls) (.ref a :: st)) : V Γ M d mc ms Q X h bc bs pc (o0 :: o1 :: o2 :: o3 :: o4 :: o5 :: o6 :: o7 :: o8 :: o9 :: o10 :: (some (.ref a)) :: ls) st := by
  intro p e R s m args below meth c H locs cells slots arr C S L
  exact lv_aload C.1 C.2.1 hd (L.2.2.2 11 _ rfl) (k p e R s m args below meth c H locs cells slots arr C S L)
theorem v_aldn11 {o0 o1 o2 o3 o4 o5 o6 o7 o8 o9 o10 : Option Value}  (hd : decode M.2.1 pc = .ok (.aload 11, 2))  (k : V Γ M d mc ms Q X h bc bs (pc + 2) (o0 :: o1 :: o2 :: o3 :: o4 :: o5 :: o6 :: o7 :: o8 :: o9 :: o10 :: (some .null) :: ls) (.null :: st)) : V Γ M d mc ms Q X h bc bs pc (o0 :: o1 :: o2 :: o3 :: o4 :: o5 :: o6 :: o7 :: o8 :: o9 :: o10 :: (some .null) :: ls) st := by
  intro p e R s m args below meth c H locs cells slots arr C S L
  exact lv_aloadN C.1 C.2.1 hd (L.2.2.2 11 _ rfl) (k p e R s m args below meth c H locs cells slots arr C S L)
theorem v_ild12 {o0 o1 o2 o3 o4 o5 o6 o7 o8 o9 o10 o11 : Option Value} {x : Int} (hd : decode M.2.1 pc = .ok (.iload 12, 2))  (k : V Γ M d mc ms Q X h bc bs (pc + 2) (o0 :: o1 :: o2 :: o3 :: o4 :: o5 :: o6 :: o7 :: o8 :: o9 :: o10 :: o11 :: (some (vi x)) :: ls) (vi x :: st)) : V Γ M d mc ms Q X h bc bs pc (o0 :: o1 :: o2 :: o3 :: o4 :: o5 :: o6 :: o7 :: o8 :: o9 :: o10 :: o11 :: (some (vi x)) :: ls) st := by
  intro p e R s m args below meth c H locs cells slots arr C S L
  exact lv_iload C.1 C.2.1 hd (L.2.2.2 12 _ rfl) (k p e R s m args below meth c H locs cells slots arr C S L)
theorem v_ald12 {o0 o1 o2 o3 o4 o5 o6 o7 o8 o9 o10 o11 : Option Value} {a : Nat} (hd : decode M.2.1 pc = .ok (.aload 12, 2))  (k : V Γ M d mc ms Q X h bc bs (pc + 2) (o0 :: o1 :: o2 :: o3 :: o4 :: o5 :: o6 :: o7 :: o8 :: o9 :: o10 :: o11 :: (some (.ref a)) :: ls) (.ref a :: st)) : V Γ M d mc ms Q X h bc bs pc (o0 :: o1 :: o2 :: o3 :: o4 :: o5 :: o6 :: o7 :: o8 :: o9 :: o10 :: o11 :: (some (.ref a)) :: ls) st := by
  intro p e R s m args below meth c H locs cells slots arr C S L
  exact lv_aload C.1 C.2.1 hd (L.2.2.2 12 _ rfl) (k p e R s m args below meth c H locs cells slots arr C S L)
theorem v_aldn12 {o0 o1 o2 o3 o4 o5 o6 o7 o8 o9 o10 o11 : Option Value}  (hd : decode M.2.1 pc = .ok (.aload 12, 2))  (k : V Γ M d mc ms Q X h bc bs (pc + 2) (o0 :: o1 :: o2 :: o3 :: o4 :: o5 :: o6 :: o7 :: o8 :: o9 :: o10 :: o11 :: (some .null) :: ls) (.null :: st)) : V Γ M d mc ms Q X h bc bs pc (o0 :: o1 :: o2 :: o3 :: o4 :: o5 :: o6 :: o7 :: o8 :: o9 :: o10 :: o11 :: (some .null) :: ls) st := by
  intro p e R s m args below meth c H locs cells slots arr C S L
  exact lv_aloadN C.1 C.2.1 hd (L.2.2.2 12 _ rfl) (k p e R s m args below meth c H locs cells slots arr C S L)
theorem v_ild13 {o0 o1 o2 o3 o4 o5 o6 o7 o8 o9 o10 o11 o12 : Option Value} {x : Int} (hd : decode M.2.1 pc = .ok (.iload 13, 2))  (k : V Γ M d mc ms Q X h bc bs (pc + 2) (o0 :: o1 :: o2 :: o3 :: o4 :: o5 :: o6 :: o7 :: o8 :: o9 :: o10 :: o11 :: o12 :: (some (vi x)) :: ls) (vi x :: st)) : V Γ M d mc ms Q X h bc bs pc (o0 :: o1 :: o2 :: o3 :: o4 :: o5 :: o6 :: o7 :: o8 :: o9 :: o10 :: o11 :: o12 :: (some (vi x)) :: ls) st := by
  intro p e R s m args below meth c H locs cells slots arr C S L
  exact lv_iload C.1 C.2.1 hd (L.2.2.2 13 _ rfl) (k p e R s m args below meth c H locs cells slots arr C S L)
theorem v_ald13 {o0 o1 o2 o3 o4 o5 o6 o7 o8 o9 o10 o11 o12 : Option Value} {a : Nat} (hd : decode M.2.1 pc = .ok (.aload 13, 2))  (k : V Γ M d mc ms Q X h bc bs (pc + 2) (o0 :: o1 :: o2 :: o3 :: o4 :: o5 :: o6 :: o7 :: o8 :: o9 :: o10 :: o11 :: o12 :: (some (.ref a)) :: ls) (.ref a :: st)) : V Γ M d mc ms Q X h bc bs pc (o0 :: o1 :: o2 :: o3 :: o4 :: o5 :: o6 :: o7 :: o8 :: o9 :: o10 :: o11 :: o12 :: (some (.ref a)) :: ls) st := by
  intro p e R s m args below meth c H locs cells slots arr C S L
  exact lv_aload C.1 C.2.1 hd (L.2.2.2 13 _ rfl) (k p e R s m args below meth c H locs cells slots arr C S L)
theorem v_aldn13 {o0 o1 o2 o3 o4 o5 o6 o7 o8 o9 o10 o11 o12 : Option Value}  (hd : decode M.2.1 pc = .ok (.aload 13, 2))  (k : V Γ M d mc ms Q X h bc bs (pc + 2) (o0 :: o1 :: o2 :: o3 :: o4 :: o5 :: o6 :: o7 :: o8 :: o9 :: o10 :: o11 :: o12 :: (some .null) :: ls) (.null :: st)) : V Γ M d mc ms Q X h bc bs pc (o0 :: o1 :: o2 :: o3 :: o4 :: o5 :: o6 :: o7 :: o8 :: o9 :: o10 :: o11 :: o12 :: (some .null) :: ls) st := by
  intro p e R s m args below meth c H locs cells slots arr C S L
  exact lv_aloadN C.1 C.2.1 hd (L.2.2.2 13 _ rfl) (k p e R s m args below meth c H locs cells slots arr C S L)
theorem v_ist0 {o0 : Option Value} {x : Int} (hd : decode M.2.1 pc = .ok (.istore_n 0, 1))  (k : V Γ M d mc ms Q X h bc bs (pc + 1) (some (vi x) :: ls) st) : V Γ M d mc ms Q X h bc bs pc (o0 :: ls) ((vi x) :: st) := by
  intro p e R s m args below meth c H locs cells slots arr C S L
  exact lv_istore_n C.1 C.2.1 hd rfl L.has (L.lt (i := 0) (Nat.le_of_ble_eq_true (by simp [Nat.ble_eq]))) rfl fun arr2 h2 => k p e R s m args below meth c H locs cells slots arr2 C S (VL.put1 (i := 0) (by simp) L.2.2.1 (fun j o e1 e2 => absurd e1 (Nat.succ_ne_zero j)) h2)
theorem v_ast0 {o0 : Option Value} {a : Nat} (hd : decode M.2.1 pc = .ok (.astore_n 0, 1))  (k : V Γ M d mc ms Q X h bc bs (pc + 1) (some (.ref a) :: ls) st) : V Γ M d mc ms Q X h bc bs pc (o0 :: ls) ((.ref a) :: st) := by
  intro p e R s m args below meth c H locs cells slots arr C S L
  exact lv_astore_n C.1 C.2.1 hd rfl L.has (L.lt (i := 0) (Nat.le_of_ble_eq_true (by simp [Nat.ble_eq]))) rfl fun arr2 h2 => k p e R s m args below meth c H locs cells slots arr2 C S (VL.put1 (i := 0) (by simp) L.2.2.1 (fun j o e1 e2 => absurd e1 (Nat.succ_ne_zero j)) h2)
theorem v_astn0 {o0 : Option Value}  (hd : decode M.2.1 pc = .ok (.astore_n 0, 1))  (k : V Γ M d mc ms Q X h bc bs (pc + 1) (some .null :: ls) st) : V Γ M d mc ms Q X h bc bs pc (o0 :: ls) (.null :: st) := by
  intro p e R s m args below meth c H locs cells slots arr C S L
  exact lv_astore_nN C.1 C.2.1 hd rfl L.has (L.lt (i := 0) (Nat.le_of_ble_eq_true (by simp [Nat.ble_eq]))) rfl fun arr2 h2 => k p e R s m args below meth c H locs cells slots arr2 C S (VL.put1 (i := 0) (by simp) L.2.2.1 (fun j o e1 e2 => absurd e1 (Nat.succ_ne_zero j)) h2)
theorem v_dst0 {o0 o1 : Option Value} {x : UInt64} (hd : decode M.2.1 pc = .ok (.dstore_n 0, 1))  (k : V Γ M d mc ms Q X h bc bs (pc + 1) (some (.double x) :: none :: ls) st) : V Γ M d mc ms Q X h bc bs pc (o0 :: o1 :: ls) (.double x :: st) := by
  intro p e R s m args below meth c H locs cells slots arr C S L
  exact lv_dstore_n C.1 C.2.1 hd rfl L.has (L.lt (i := 1) (Nat.le_of_ble_eq_true (by simp [Nat.ble_eq]))) rfl fun arr2 h2 => k p e R s m args below meth c H locs cells slots arr2 C S (VL.put2 (i := 0) (by simp) L.2.2.1 (fun j o e1 e2 => absurd e1 (Nat.succ_ne_zero j)) h2)
theorem v_ist1 {o0 o1 : Option Value} {x : Int} (hd : decode M.2.1 pc = .ok (.istore_n 1, 1)) (hp : c1b o0 = true) (k : V Γ M d mc ms Q X h bc bs (pc + 1) (o0 :: some (vi x) :: ls) st) : V Γ M d mc ms Q X h bc bs pc (o0 :: o1 :: ls) ((vi x) :: st) := by
  intro p e R s m args below meth c H locs cells slots arr C S L
  exact lv_istore_n C.1 C.2.1 hd rfl L.has (L.lt (i := 1) (Nat.le_of_ble_eq_true (by simp [Nat.ble_eq]))) rfl fun arr2 h2 => k p e R s m args below meth c H locs cells slots arr2 C S (VL.put1 (i := 1) (by simp) L.2.2.1 (fun j o e1 e2 => by cases Nat.succ.inj e1; cases e2; exact hp) h2)
theorem v_ast1 {o0 o1 : Option Value} {a : Nat} (hd : decode M.2.1 pc = .ok (.astore_n 1, 1)) (hp : c1b o0 = true) (k : V Γ M d mc ms Q X h bc bs (pc + 1) (o0 :: some (.ref a) :: ls) st) : V Γ M d mc ms Q X h bc bs pc (o0 :: o1 :: ls) ((.ref a) :: st) := by
  intro p e R s m args below meth c H locs cells slots arr C S L
  exact lv_astore_n C.1 C.2.1 hd rfl L.has (L.lt (i := 1) (Nat.le_of_ble_eq_true (by simp [Nat.ble_eq]))) rfl fun arr2 h2 => k p e R s m args below meth c H locs cells slots arr2 C S (VL.put1 (i := 1) (by simp) L.2.2.1 (fun j o e1 e2 => by cases Nat.succ.inj e1; cases e2; exact hp) h2)
theorem v_astn1 {o0 o1 : Option Value}  (hd : decode M.2.1 pc = .ok (.astore_n 1, 1)) (hp : c1b o0 = true) (k : V Γ M d mc ms Q X h bc bs (pc + 1) (o0 :: some .null :: ls) st) : V Γ M d mc ms Q X h bc bs pc (o0 :: o1 :: ls) (.null :: st) := by
  intro p e R s m args below meth c H locs cells slots arr C S L
  exact lv_astore_nN C.1 C.2.1 hd rfl L.has (L.lt (i := 1) (Nat.le_of_ble_eq_true (by simp [Nat.ble_eq]))) rfl fun arr2 h2 => k p e R s m args below meth c H locs cells slots arr2 C S (VL.put1 (i := 1) (by simp) L.2.2.1 (fun j o e1 e2 => by cases Nat.succ.inj e1; cases e2; exact hp) h2)
theorem v_dst1 {o0 o1 o2 : Option Value} {x : UInt64} (hd : decode M.2.1 pc = .ok (.dstore_n 1, 1)) (hp : c1b o0 = true) (k : V Γ M d mc ms Q X h bc bs (pc + 1) (o0 :: some (.double x) :: none :: ls) st) : V Γ M d mc ms Q X h bc bs pc (o0 :: o1 :: o2 :: ls) (.double x :: st) := by
  intro p e R s m args below meth c H locs cells slots arr C S L
  exact lv_dstore_n C.1 C.2.1 hd rfl L.has (L.lt (i := 2) (Nat.le_of_ble_eq_true (by simp [Nat.ble_eq]))) rfl fun arr2 h2 => k p e R s m args below meth c H locs cells slots arr2 C S (VL.put2 (i := 1) (by simp) L.2.2.1 (fun j o e1 e2 => by cases Nat.succ.inj e1; cases e2; exact hp) h2)
theorem v_ist2 {o0 o1 o2 : Option Value} {x : Int} (hd : decode M.2.1 pc = .ok (.istore_n 2, 1)) (hp : c1b o1 = true) (k : V Γ M d mc ms Q X h bc bs (pc + 1) (o0 :: o1 :: some (vi x) :: ls) st) : V Γ M d mc ms Q X h bc bs pc (o0 :: o1 :: o2 :: ls) ((vi x) :: st) := by
  intro p e R s m args below meth c H locs cells slots arr C S L
  exact lv_istore_n C.1 C.2.1 hd rfl L.has (L.lt (i := 2) (Nat.le_of_ble_eq_true (by simp [Nat.ble_eq]))) rfl fun arr2 h2 => k p e R s m args below meth c H locs cells slots arr2 C S (VL.put1 (i := 2) (by simp) L.2.2.1 (fun j o e1 e2 => by cases Nat.succ.inj e1; cases e2; exact hp) h2)
theorem v_ast2 {o0 o1 o2 : Option Value} {a : Nat} (hd : decode M.2.1 pc = .ok (.astore_n 2, 1)) (hp : c1b o1 = true) (k : V Γ M d mc ms Q X h bc bs (pc + 1) (o0 :: o1 :: some (.ref a) :: ls) st) : V Γ M d mc ms Q X h bc bs pc (o0 :: o1 :: o2 :: ls) ((.ref a) :: st) := by
  intro p e R s m args below meth c H locs cells slots arr C S L
  exact lv_astore_n C.1 C.2.1 hd rfl L.has (L.lt (i := 2) (Nat.le_of_ble_eq_true (by simp [Nat.ble_eq]))) rfl fun arr2 h2 => k p e R s m args below meth c H locs cells slots arr2 C S (VL.put1 (i := 2) (by simp) L.2.2.1 (fun j o e1 e2 => by cases Nat.succ.inj e1; cases e2; exact hp) h2)
theorem v_astn2 {o0 o1 o2 : Option Value}  (hd : decode M.2.1 pc = .ok (.astore_n 2, 1)) (hp : c1b o1 = true) (k : V Γ M d mc ms Q X h bc bs (pc + 1) (o0 :: o1 :: some .null :: ls) st) : V Γ M d mc ms Q X h bc bs pc (o0 :: o1 :: o2 :: ls) (.null :: st) := by
  intro p e R s m args below meth c H locs cells slots arr C S L
  exact lv_astore_nN C.1 C.2.1 hd rfl L.has (L.lt (i := 2) (Nat.le_of_ble_eq_true (by simp [Nat.ble_eq]))) rfl fun arr2 h2 => k p e R s m args below meth c H locs cells slots arr2 C S (VL.put1 (i := 2) (by simp) L.2.2.1 (fun j o e1 e2 => by cases Nat.succ.inj e1; cases e2; exact hp) h2)
theorem v_dst2 {o0 o1 o2 o3 : Option Value} {x : UInt64} (hd : decode M.2.1 pc = .ok (.dstore_n 2, 1)) (hp : c1b o1 = true) (k : V Γ M d mc ms Q X h bc bs (pc + 1) (o0 :: o1 :: some (.double x) :: none :: ls) st) : V Γ M d mc ms Q X h bc bs pc (o0 :: o1 :: o2 :: o3 :: ls) (.double x :: st) := by
  intro p e R s m args below meth c H locs cells slots arr C S L
  exact lv_dstore_n C.1 C.2.1 hd rfl L.has (L.lt (i := 3) (Nat.le_of_ble_eq_true (by simp [Nat.ble_eq]))) rfl fun arr2 h2 => k p e R s m args below meth c H locs cells slots arr2 C S (VL.put2 (i := 2) (by simp) L.2.2.1 (fun j o e1 e2 => by cases Nat.succ.inj e1; cases e2; exact hp) h2)
theorem v_ist3 {o0 o1 o2 o3 : Option Value} {x : Int} (hd : decode M.2.1 pc = .ok (.istore_n 3, 1)) (hp : c1b o2 = true) (k : V Γ M d mc ms Q X h bc bs (pc + 1) (o0 :: o1 :: o2 :: some (vi x) :: ls) st) : V Γ M d mc ms Q X h bc bs pc (o0 :: o1 :: o2 :: o3 :: ls) ((vi x) :: st) := by
  intro p e R s m args below meth c H locs cells slots arr C S L
  exact lv_istore_n C.1 C.2.1 hd rfl L.has (L.lt (i := 3) (Nat.le_of_ble_eq_true (by simp [Nat.ble_eq]))) rfl fun arr2 h2 => k p e R s m args below meth c H locs cells slots arr2 C S (VL.put1 (i := 3) (by simp) L.2.2.1 (fun j o e1 e2 => by cases Nat.succ.inj e1; cases e2; exact hp) h2)
theorem v_ast3 {o0 o1 o2 o3 : Option Value} {a : Nat} (hd : decode M.2.1 pc = .ok (.astore_n 3, 1)) (hp : c1b o2 = true) (k : V Γ M d mc ms Q X h bc bs (pc + 1) (o0 :: o1 :: o2 :: some (.ref a) :: ls) st) : V Γ M d mc ms Q X h bc bs pc (o0 :: o1 :: o2 :: o3 :: ls) ((.ref a) :: st) := by
  intro p e R s m args below meth c H locs cells slots arr C S L
  exact lv_astore_n C.1 C.2.1 hd rfl L.has (L.lt (i := 3) (Nat.le_of_ble_eq_true (by simp [Nat.ble_eq]))) rfl fun arr2 h2 => k p e R s m args below meth c H locs cells slots arr2 C S (VL.put1 (i := 3) (by simp) L.2.2.1 (fun j o e1 e2 => by cases Nat.succ.inj e1; cases e2; exact hp) h2)
theorem v_astn3 {o0 o1 o2 o3 : Option Value}  (hd : decode M.2.1 pc = .ok (.astore_n 3, 1)) (hp : c1b o2 = true) (k : V Γ M d mc ms Q X h bc bs (pc + 1) (o0 :: o1 :: o2 :: some .null :: ls) st) : V Γ M d mc ms Q X h bc bs pc (o0 :: o1 :: o2 :: o3 :: ls) (.null :: st) := by
  intro p e R s m args below meth c H locs cells slots arr C S L
  exact lv_astore_nN C.1 C.2.1 hd rfl L.has (L.lt (i := 3) (Nat.le_of_ble_eq_true (by simp [Nat.ble_eq]))) rfl fun arr2 h2 => k p e R s m args below meth c H locs cells slots arr2 C S (VL.put1 (i := 3) (by simp) L.2.2.1 (fun j o e1 e2 => by cases Nat.succ.inj e1; cases e2; exact hp) h2)
theorem v_dst3 {o0 o1 o2 o3 o4 : Option Value} {x : UInt64} (hd : decode M.2.1 pc = .ok (.dstore_n 3, 1)) (hp : c1b o2 = true) (k : V Γ M d mc ms Q X h bc bs (pc + 1) (o0 :: o1 :: o2 :: some (.double x) :: none :: ls) st) : V Γ M d mc ms Q X h bc bs pc (o0 :: o1 :: o2 :: o3 :: o4 :: ls) (.double x :: st) := by
  intro p e R s m args below meth c H locs cells slots arr C S L
  exact lv_dstore_n C.1 C.2.1 hd rfl L.has (L.lt (i := 4) (Nat.le_of_ble_eq_true (by simp [Nat.ble_eq]))) rfl fun arr2 h2 => k p e R s m args below meth c H locs cells slots arr2 C S (VL.put2 (i := 3) (by simp) L.2.2.1 (fun j o e1 e2 => by cases Nat.succ.inj e1; cases e2; exact hp) h2)
theorem v_ist4 {o0 o1 o2 o3 o4 : Option Value} {x : Int} (hd : decode M.2.1 pc = .ok (.istore 4, 2)) (hp : c1b o3 = true) (k : V Γ M d mc ms Q X h bc bs (pc + 2) (o0 :: o1 :: o2 :: o3 :: some (vi x) :: ls) st) : V Γ M d mc ms Q X h bc bs pc (o0 :: o1 :: o2 :: o3 :: o4 :: ls) ((vi x) :: st) := by
  intro p e R s m args below meth c H locs cells slots arr C S L
  exact lv_istore C.1 C.2.1 hd L.has (L.lt (i := 4) (Nat.le_of_ble_eq_true (by simp [Nat.ble_eq]))) rfl fun arr2 h2 => k p e R s m args below meth c H locs cells slots arr2 C S (VL.put1 (i := 4) (by simp) L.2.2.1 (fun j o e1 e2 => by cases Nat.succ.inj e1; cases e2; exact hp) h2)
theorem v_ast4 {o0 o1 o2 o3 o4 : Option Value} {a : Nat} (hd : decode M.2.1 pc = .ok (.astore 4, 2)) (hp : c1b o3 = true) (k : V Γ M d mc ms Q X h bc bs (pc + 2) (o0 :: o1 :: o2 :: o3 :: some (.ref a) :: ls) st) : V Γ M d mc ms Q X h bc bs pc (o0 :: o1 :: o2 :: o3 :: o4 :: ls) ((.ref a) :: st) := by
  intro p e R s m args below meth c H locs cells slots arr C S L
  exact lv_astore C.1 C.2.1 hd L.has (L.lt (i := 4) (Nat.le_of_ble_eq_true (by simp [Nat.ble_eq]))) rfl fun arr2 h2 => k p e R s m args below meth c H locs cells slots arr2 C S (VL.put1 (i := 4) (by simp) L.2.2.1 (fun j o e1 e2 => by cases Nat.succ.inj e1; cases e2; exact hp) h2)
theorem v_astn4 {o0 o1 o2 o3 o4 : Option Value}  (hd : decode M.2.1 pc = .ok (.astore 4, 2)) (hp : c1b o3 = true) (k : V Γ M d mc ms Q X h bc bs (pc + 2) (o0 :: o1 :: o2 :: o3 :: some .null :: ls) st) : V Γ M d mc ms Q X h bc bs pc (o0 :: o1 :: o2 :: o3 :: o4 :: ls) (.null :: st) := by
  intro p e R s m args below meth c H locs cells slots arr C S L
  exact lv_astoreN C.1 C.2.1 hd L.has (L.lt (i := 4) (Nat.le_of_ble_eq_true (by simp [Nat.ble_eq]))) rfl fun arr2 h2 => k p e R s m args below meth c H locs cells slots arr2 C S (VL.put1 (i := 4) (by simp) L.2.2.1 (fun j o e1 e2 => by cases Nat.succ.inj e1; cases e2; exact hp) h2)
theorem v_dst4 {o0 o1 o2 o3 o4 o5 : Option Value} {x : UInt64} (hd : decode M.2.1 pc = .ok (.dstore 4, 2)) (hp : c1b o3 = true) (k : V Γ M d mc ms Q X h bc bs (pc + 2) (o0 :: o1 :: o2 :: o3 :: some (.double x) :: none :: ls) st) : V Γ M d mc ms Q X h bc bs pc (o0 :: o1 :: o2 :: o3 :: o4 :: o5 :: ls) (.double x :: st) := by
  intro p e R s m args below meth c H locs cells slots arr C S L
  exact lv_dstore C.1 C.2.1 hd L.has (L.lt (i := 5) (Nat.le_of_ble_eq_true (by simp [Nat.ble_eq]))) rfl fun arr2 h2 => k p e R s m args below meth c H locs cells slots arr2 C S (VL.put2 (i := 4) (by simp) L.2.2.1 (fun j o e1 e2 => by cases Nat.succ.inj e1; cases e2; exact hp) h2)
theorem v_ist5 {o0 o1 o2 o3 o4 o5 : Option Value} {x : Int} (hd : decode M.2.1 pc = .ok (.istore 5, 2)) (hp : c1b o4 = true) (k : V Γ M d mc ms Q X h bc bs (pc + 2) (o0 :: o1 :: o2 :: o3 :: o4 :: some (vi x) :: ls) st) : V Γ M d mc ms Q X h bc bs pc (o0 :: o1 :: o2 :: o3 :: o4 :: o5 :: ls) ((vi x) :: st) := by
  intro p e R s m args below meth c H locs cells slots arr C S L
  exact lv_istore C.1 C.2.1 hd L.has (L.lt (i := 5) (Nat.le_of_ble_eq_true (by simp [Nat.ble_eq]))) rfl fun arr2 h2 => k p e R s m args below meth c H locs cells slots arr2 C S (VL.put1 (i := 5) (by simp) L.2.2.1 (fun j o e1 e2 => by cases Nat.succ.inj e1; cases e2; exact hp) h2)
theorem v_ast5 {o0 o1 o2 o3 o4 o5 : Option Value} {a : Nat} (hd : decode M.2.1 pc = .ok (.astore 5, 2)) (hp : c1b o4 = true) (k : V Γ M d mc ms Q X h bc bs (pc + 2) (o0 :: o1 :: o2 :: o3 :: o4 :: some (.ref a) :: ls) st) : V Γ M d mc ms Q X h bc bs pc (o0 :: o1 :: o2 :: o3 :: o4 :: o5 :: ls) ((.ref a) :: st) := by
  intro p e R s m args below meth c H locs cells slots arr C S L
  exact lv_astore C.1 C.2.1 hd L.has (L.lt (i := 5) (Nat.le_of_ble_eq_true (by simp [Nat.ble_eq]))) rfl fun arr2 h2 => k p e R s m args below meth c H locs cells slots arr2 C S (VL.put1 (i := 5) (by simp) L.2.2.1 (fun j o e1 e2 => by cases Nat.succ.inj e1; cases e2; exact hp) h2)
theorem v_astn5 {o0 o1 o2 o3 o4 o5 : Option Value}  (hd : decode M.2.1 pc = .ok (.astore 5, 2)) (hp : c1b o4 = true) (k : V Γ M d mc ms Q X h bc bs (pc + 2) (o0 :: o1 :: o2 :: o3 :: o4 :: some .null :: ls) st) : V Γ M d mc ms Q X h bc bs pc (o0 :: o1 :: o2 :: o3 :: o4 :: o5 :: ls) (.null :: st) := by
  intro p e R s m args below meth c H locs cells slots arr C S L
  exact lv_astoreN C.1 C.2.1 hd L.has (L.lt (i := 5) (Nat.le_of_ble_eq_true (by simp [Nat.ble_eq]))) rfl fun arr2 h2 => k p e R s m args below meth c H locs cells slots arr2 C S (VL.put1 (i := 5) (by simp) L.2.2.1 (fun j o e1 e2 => by cases Nat.succ.inj e1; cases e2; exact hp) h2)
theorem v_dst5 {o0 o1 o2 o3 o4 o5 o6 : Option Value} {x : UInt64} (hd : decode M.2.1 pc = .ok (.dstore 5, 2)) (hp : c1b o4 = true) (k : V Γ M d mc ms Q X h bc bs (pc + 2) (o0 :: o1 :: o2 :: o3 :: o4 :: some (.double x) :: none :: ls) st) : V Γ M d mc ms Q X h bc bs pc (o0 :: o1 :: o2 :: o3 :: o4 :: o5 :: o6 :: ls) (.double x :: st) := by
  intro p e R s m args below meth c H locs cells slots arr C S L
  exact lv_dstore C.1 C.2.1 hd L.has (L.lt (i := 6) (Nat.le_of_ble_eq_true (by simp [Nat.ble_eq]))) rfl fun arr2 h2 => k p e R s m args below meth c H locs cells slots arr2 C S (VL.put2 (i := 5) (by simp) L.2.2.1 (fun j o e1 e2 => by cases Nat.succ.inj e1; cases e2; exact hp) h2)
theorem v_ist6 {o0 o1 o2 o3 o4 o5 o6 : Option Value} {x : Int} (hd : decode M.2.1 pc = .ok (.istore 6, 2)) (hp : c1b o5 = true) (k : V Γ M d mc ms Q X h bc bs (pc + 2) (o0 :: o1 :: o2 :: o3 :: o4 :: o5 :: some (vi x) :: ls) st) : V Γ M d mc ms Q X h bc bs pc (o0 :: o1 :: o2 :: o3 :: o4 :: o5 :: o6 :: ls) ((vi x) :: st) := by
  intro p e R s m args below meth c H locs cells slots arr C S L
  exact lv_istore C.1 C.2.1 hd L.has (L.lt (i := 6) (Nat.le_of_ble_eq_true (by simp [Nat.ble_eq]))) rfl fun arr2 h2 => k p e R s m args below meth c H locs cells slots arr2 C S (VL.put1 (i := 6) (by simp) L.2.2.1 (fun j o e1 e2 => by cases Nat.succ.inj e1; cases e2; exact hp) h2)
theorem v_ast6 {o0 o1 o2 o3 o4 o5 o6 : Option Value} {a : Nat} (hd : decode M.2.1 pc = .ok (.astore 6, 2)) (hp : c1b o5 = true) (k : V Γ M d mc ms Q X h bc bs (pc + 2) (o0 :: o1 :: o2 :: o3 :: o4 :: o5 :: some (.ref a) :: ls) st) : V Γ M d mc ms Q X h bc bs pc (o0 :: o1 :: o2 :: o3 :: o4 :: o5 :: o6 :: ls) ((.ref a) :: st) := by
  intro p e R s m args below meth c H locs cells slots arr C S L
  exact lv_astore C.1 C.2.1 hd L.has (L.lt (i := 6) (Nat.le_of_ble_eq_true (by simp [Nat.ble_eq]))) rfl fun arr2 h2 => k p e R s m args below meth c H locs cells slots arr2 C S (VL.put1 (i := 6) (by simp) L.2.2.1 (fun j o e1 e2 => by cases Nat.succ.inj e1; cases e2; exact hp) h2)
theorem v_astn6 {o0 o1 o2 o3 o4 o5 o6 : Option Value}  (hd : decode M.2.1 pc = .ok (.astore 6, 2)) (hp : c1b o5 = true) (k : V Γ M d mc ms Q X h bc bs (pc + 2) (o0 :: o1 :: o2 :: o3 :: o4 :: o5 :: some .null :: ls) st) : V Γ M d mc ms Q X h bc bs pc (o0 :: o1 :: o2 :: o3 :: o4 :: o5 :: o6 :: ls) (.null :: st) := by
  intro p e R s m args below meth c H locs cells slots arr C S L
  exact lv_astoreN C.1 C.2.1 hd L.has (L.lt (i := 6) (Nat.le_of_ble_eq_true (by simp [Nat.ble_eq]))) rfl fun arr2 h2 => k p e R s m args below meth c H locs cells slots arr2 C S (VL.put1 (i := 6) (by simp) L.2.2.1 (fun j o e1 e2 => by cases Nat.succ.inj e1; cases e2; exact hp) h2)
theorem v_dst6 {o0 o1 o2 o3 o4 o5 o6 o7 : Option Value} {x : UInt64} (hd : decode M.2.1 pc = .ok (.dstore 6, 2)) (hp : c1b o5 = true) (k : V Γ M d mc ms Q X h bc bs (pc + 2) (o0 :: o1 :: o2 :: o3 :: o4 :: o5 :: some (.double x) :: none :: ls) st) : V Γ M d mc ms Q X h bc bs pc (o0 :: o1 :: o2 :: o3 :: o4 :: o5 :: o6 :: o7 :: ls) (.double x :: st) := by
  intro p e R s m args below meth c H locs cells slots arr C S L
  exact lv_dstore C.1 C.2.1 hd L.has (L.lt (i := 7) (Nat.le_of_ble_eq_true (by simp [Nat.ble_eq]))) rfl fun arr2 h2 => k p e R s m args below meth c H locs cells slots arr2 C S (VL.put2 (i := 6) (by simp) L.2.2.1 (fun j o e1 e2 => by cases Nat.succ.inj e1; cases e2; exact hp) h2)
theorem v_ist7 {o0 o1 o2 o3 o4 o5 o6 o7 : Option Value} {x : Int} (hd : decode M.2.1 pc = .ok (.istore 7, 2)) (hp : c1b o6 = true) (k : V Γ M d mc ms Q X h bc bs (pc + 2) (o0 :: o1 :: o2 :: o3 :: o4 :: o5 :: o6 :: some (vi x) :: ls) st) : V Γ M d mc ms Q X h bc bs pc (o0 :: o1 :: o2 :: o3 :: o4 :: o5 :: o6 :: o7 :: ls) ((vi x) :: st) := by
  intro p e R s m args below meth c H locs cells slots arr C S L
  exact lv_istore C.1 C.2.1 hd L.has (L.lt (i := 7) (Nat.le_of_ble_eq_true (by simp [Nat.ble_eq]))) rfl fun arr2 h2 => k p e R s m args below meth c H locs cells slots arr2 C S (VL.put1 (i := 7) (by simp) L.2.2.1 (fun j o e1 e2 => by cases Nat.succ.inj e1; cases e2; exact hp) h2)
theorem v_ast7 {o0 o1 o2 o3 o4 o5 o6 o7 : Option Value} {a : Nat} (hd : decode M.2.1 pc = .ok (.astore 7, 2)) (hp : c1b o6 = true) (k : V Γ M d mc ms Q X h bc bs (pc + 2) (o0 :: o1 :: o2 :: o3 :: o4 :: o5 :: o6 :: some (.ref a) :: ls) st) : V Γ M d mc ms Q X h bc bs pc (o0 :: o1 :: o2 :: o3 :: o4 :: o5 :: o6 :: o7 :: ls) ((.ref a) :: st) := by
  intro p e R s m args below meth c H locs cells slots arr C S L
  exact lv_astore C.1 C.2.1 hd L.has (L.lt (i := 7) (Nat.le_of_ble_eq_true (by simp [Nat.ble_eq]))) rfl fun arr2 h2 => k p e R s m args below meth c H locs cells slots arr2 C S (VL.put1 (i := 7) (by simp) L.2.2.1 (fun j o e1 e2 => by cases Nat.succ.inj e1; cases e2; exact hp) h2)
theorem v_astn7 {o0 o1 o2 o3 o4 o5 o6 o7 : Option Value}  (hd : decode M.2.1 pc = .ok (.astore 7, 2)) (hp : c1b o6 = true) (k : V Γ M d mc ms Q X h bc bs (pc + 2) (o0 :: o1 :: o2 :: o3 :: o4 :: o5 :: o6 :: some .null :: ls) st) : V Γ M d mc ms Q X h bc bs pc (o0 :: o1 :: o2 :: o3 :: o4 :: o5 :: o6 :: o7 :: ls) (.null :: st) := by
  intro p e R s m args below meth c H locs cells slots arr C S L
  exact lv_astoreN C.1 C.2.1 hd L.has (L.lt (i := 7) (Nat.le_of_ble_eq_true (by simp [Nat.ble_eq]))) rfl fun arr2 h2 => k p e R s m args below meth c H locs cells slots arr2 C S (VL.put1 (i := 7) (by simp) L.2.2.1 (fun j o e1 e2 => by cases Nat.succ.inj e1; cases e2; exact hp) h2)
theorem v_dst7 {o0 o1 o2 o3 o4 o5 o6 o7 o8 : Option Value} {x : UInt64} (hd : decode M.2.1 pc = .ok (.dstore 7, 2)) (hp : c1b o6 = true) (k : V Γ M d mc ms Q X h bc bs (pc + 2) (o0 :: o1 :: o2 :: o3 :: o4 :: o5 :: o6 :: some (.double x) :: none :: ls) st) : V Γ M d mc ms Q X h bc bs pc (o0 :: o1 :: o2 :: o3 :: o4 :: o5 :: o6 :: o7 :: o8 :: ls) (.double x :: st) := by
  intro p e R s m args below meth c H locs cells slots arr C S L
  exact lv_dstore C.1 C.2.1 hd L.has (L.lt (i := 8) (Nat.le_of_ble_eq_true (by simp [Nat.ble_eq]))) rfl fun arr2 h2 => k p e R s m args below meth c H locs cells slots arr2 C S (VL.put2 (i := 7) (by simp) L.2.2.1 (fun j o e1 e2 => by cases Nat.succ.inj e1; cases e2; exact hp) h2)
theorem v_ist8 {o0 o1 o2 o3 o4 o5 o6 o7 o8 : Option Value} {x : Int} (hd : decode M.2.1 pc = .ok (.istore 8, 2)) (hp : c1b o7 = true) (k : V Γ M d mc ms Q X h bc bs (pc + 2) (o0 :: o1 :: o2 :: o3 :: o4 :: o5 :: o6 :: o7 :: some (vi x) :: ls) st) : V Γ M d mc ms Q X h bc bs pc (o0 :: o1 :: o2 :: o3 :: o4 :: o5 :: o6 :: o7 :: o8 :: ls) ((vi x) :: st) := by
  intro p e R s m args below meth c H locs cells slots arr C S L
  exact lv_istore C.1 C.2.1 hd L.has (L.lt (i := 8) (Nat.le_of_ble_eq_true (by simp [Nat.ble_eq]))) rfl fun arr2 h2 => k p e R s m args below meth c H locs cells slots arr2 C S (VL.put1 (i := 8) (by simp) L.2.2.1 (fun j o e1 e2 => by cases Nat.succ.inj e1; cases e2; exact hp) h2)
theorem v_ast8 {o0 o1 o2 o3 o4 o5 o6 o7 o8 : Option Value} {a : Nat} (hd : decode M.2.1 pc = .ok (.astore 8, 2)) (hp : c1b o7 = true) (k : V Γ M d mc ms Q X h bc bs (pc + 2) (o0 :: o1 :: o2 :: o3 :: o4 :: o5 :: o6 :: o7 :: some (.ref a) :: ls) st) : V Γ M d mc ms Q X h bc bs pc (o0 :: o1 :: o2 :: o3 :: o4 :: o5 :: o6 :: o7 :: o8 :: ls) ((.ref a) :: st) := by
  intro p e R s m args below meth c H locs cells slots arr C S L
  exact lv_astore C.1 C.2.1 hd L.has (L.lt (i := 8) (Nat.le_of_ble_eq_true (by simp [Nat.ble_eq]))) rfl fun arr2 h2 => k p e R s m args below meth c H locs cells slots arr2 C S (VL.put1 (i := 8) (by simp) L.2.2.1 (fun j o e1 e2 => by cases Nat.succ.inj e1; cases e2; exact hp) h2)
theorem v_astn8 {o0 o1 o2 o3 o4 o5 o6 o7 o8 : Option Value}  (hd : decode M.2.1 pc = .ok (.astore 8, 2)) (hp : c1b o7 = true) (k : V Γ M d mc ms Q X h bc bs (pc + 2) (o0 :: o1 :: o2 :: o3 :: o4 :: o5 :: o6 :: o7 :: some .null :: ls) st) : V Γ M d mc ms Q X h bc bs pc (o0 :: o1 :: o2 :: o3 :: o4 :: o5 :: o6 :: o7 :: o8 :: ls) (.null :: st) := by
  intro p e R s m args below meth c H locs cells slots arr C S L
  exact lv_astoreN C.1 C.2.1 hd L.has (L.lt (i := 8) (Nat.le_of_ble_eq_true (by simp [Nat.ble_eq]))) rfl fun arr2 h2 => k p e R s m args below meth c H locs cells slots arr2 C S (VL.put1 (i := 8) (by simp) L.2.2.1 (fun j o e1 e2 => by cases Nat.succ.inj e1; cases e2; exact hp) h2)
theorem v_dst8 {o0 o1 o2 o3 o4 o5 o6 o7 o8 o9 : Option Value} {x : UInt64} (hd : decode M.2.1 pc = .ok (.dstore 8, 2)) (hp : c1b o7 = true) (k : V Γ M d mc ms Q X h bc bs (pc + 2) (o0 :: o1 :: o2 :: o3 :: o4 :: o5 :: o6 :: o7 :: some (.double x) :: none :: ls) st) : V Γ M d mc ms Q X h bc bs pc (o0 :: o1 :: o2 :: o3 :: o4 :: o5 :: o6 :: o7 :: o8 :: o9 :: ls) (.double x :: st) := by
  intro p e R s m args below meth c H locs cells slots arr C S L
  exact lv_dstore C.1 C.2.1 hd L.has (L.lt (i := 9) (Nat.le_of_ble_eq_true (by simp [Nat.ble_eq]))) rfl fun arr2 h2 => k p e R s m args below meth c H locs cells slots arr2 C S (VL.put2 (i := 8) (by simp) L.2.2.1 (fun j o e1 e2 => by cases Nat.succ.inj e1; cases e2; exact hp) h2)
theorem v_ist9 {o0 o1 o2 o3 o4 o5 o6 o7 o8 o9 : Option Value} {x : Int} (hd : decode M.2.1 pc = .ok (.istore 9, 2)) (hp : c1b o8 = true) (k : V Γ M d mc ms Q X h bc bs (pc + 2) (o0 :: o1 :: o2 :: o3 :: o4 :: o5 :: o6 :: o7 :: o8 :: some (vi x) :: ls) st) : V Γ M d mc ms Q X h bc bs pc (o0 :: o1 :: o2 :: o3 :: o4 :: o5 :: o6 :: o7 :: o8 :: o9 :: ls) ((vi x) :: st) := by
  intro p e R s m args below meth c H locs cells slots arr C S L
  exact lv_istore C.1 C.2.1 hd L.has (L.lt (i := 9) (Nat.le_of_ble_eq_true (by simp [Nat.ble_eq]))) rfl fun arr2 h2 => k p e R s m args below meth c H locs cells slots arr2 C S (VL.put1 (i := 9) (by simp) L.2.2.1 (fun j o e1 e2 => by cases Nat.succ.inj e1; cases e2; exact hp) h2)
theorem v_ast9 {o0 o1 o2 o3 o4 o5 o6 o7 o8 o9 : Option Value} {a : Nat} (hd : decode M.2.1 pc = .ok (.astore 9, 2)) (hp : c1b o8 = true) (k : V Γ M d mc ms Q X h bc bs (pc + 2) (o0 :: o1 :: o2 :: o3 :: o4 :: o5 :: o6 :: o7 :: o8 :: some (.ref a) :: ls) st) : V Γ M d mc ms Q X h bc bs pc (o0 :: o1 :: o2 :: o3 :: o4 :: o5 :: o6 :: o7 :: o8 :: o9 :: ls) ((.ref a) :: st) := by
  intro p e R s m args below meth c H locs cells slots arr C S L
  exact lv_astore C.1 C.2.1 hd L.has (L.lt (i := 9) (Nat.le_of_ble_eq_true (by simp [Nat.ble_eq]))) rfl fun arr2 h2 => k p e R s m args below meth c H locs cells slots arr2 C S (VL.put1 (i := 9) (by simp) L.2.2.1 (fun j o e1 e2 => by cases Nat.succ.inj e1; cases e2; exact hp) h2)
theorem v_astn9 {o0 o1 o2 o3 o4 o5 o6 o7 o8 o9 : Option Value}  (hd : decode M.2.1 pc = .ok (.astore 9, 2)) (hp : c1b o8 = true) (k : V Γ M d mc ms Q X h bc bs (pc + 2) (o0 :: o1 :: o2 :: o3 :: o4 :: o5 :: o6 :: o7 :: o8 :: some .null :: ls) st) : V Γ M d mc ms Q X h bc bs pc (o0 :: o1 :: o2 :: o3 :: o4 :: o5 :: o6 :: o7 :: o8 :: o9 :: ls) (.null :: st) := by
  intro p e R s m args below meth c H locs cells slots arr C S L
  exact lv_astoreN C.1 C.2.1 hd L.has (L.lt (i := 9) (Nat.le_of_ble_eq_true (by simp [Nat.ble_eq]))) rfl fun arr2 h2 => k p e R s m args below meth c H locs cells slots arr2 C S (VL.put1 (i := 9) (by simp) L.2.2.1 (fun j o e1 e2 => by cases Nat.succ.inj e1; cases e2; exact hp) h2)
theorem v_ist10 {o0 o1 o2 o3 o4 o5 o6 o7 o8 o9 o10 : Option Value} {x : Int} (hd : decode M.2.1 pc = .ok (.istore 10, 2)) (hp : c1b o9 = true) (k : V Γ M d mc ms Q X h bc bs (pc + 2) (o0 :: o1 :: o2 :: o3 :: o4 :: o5 :: o6 :: o7 :: o8 :: o9 :: some (vi x) :: ls) st) : V Γ M d mc ms Q X h bc bs pc (o0 :: o1 :: o2 :: o3 :: o4 :: o5 :: o6 :: o7 :: o8 :: o9 :: o10 :: ls) ((vi x) :: st) := by
  intro p e R s m args below meth c H locs cells slots arr C S L
  exact lv_istore C.1 C.2.1 hd L.has (L.lt (i := 10) (Nat.le_of_ble_eq_true (by simp [Nat.ble_eq]))) rfl fun arr2 h2 => k p e R s m args below meth c H locs cells slots arr2 C S (VL.put1 (i := 10) (by simp) L.2.2.1 (fun j o e1 e2 => by cases Nat.succ.inj e1; cases e2; exact hp) h2)
theorem v_ast10 {o0 o1 o2 o3 o4 o5 o6 o7 o8 o9 o10 : Option Value} {a : Nat} (hd : decode M.2.1 pc = .ok (.astore 10, 2)) (hp : c1b o9 = true) (k : V Γ M d mc ms Q X h bc bs (pc + 2) (o0 :: o1 :: o2 :: o3 :: o4 :: o5 :: o6 :: o7 :: o8 :: o9 :: some (.ref a) :: ls) st) : V Γ M d mc ms Q X h bc bs pc (o0 :: o1 :: o2 :: o3 :: o4 :: o5 :: o6 :: o7 :: o8 :: o9 :: o10 :: ls) ((.ref a) :: st) := by
  intro p e R s m args below meth c H locs cells slots arr C S L
  exact lv_astore C.1 C.2.1 hd L.has (L.lt (i := 10) (Nat.le_of_ble_eq_true (by simp [Nat.ble_eq]))) rfl fun arr2 h2 => k p e R s m args below meth c H locs cells slots arr2 C S (VL.put1 (i := 10) (by simp) L.2.2.1 (fun j o e1 e2 => by cases Nat.succ.inj e1; cases e2; exact hp) h2)
theorem v_astn10 {o0 o1 o2 o3 o4 o5 o6 o7 o8 o9 o10 : Option Value}  (hd : decode M.2.1 pc = .ok (.astore 10, 2)) (hp : c1b o9 = true) (k : V Γ M d mc ms Q X h bc bs (pc + 2) (o0 :: o1 :: o2 :: o3 :: o4 :: o5 :: o6 :: o7 :: o8 :: o9 :: some .null :: ls) st) : V Γ M d mc ms Q X h bc bs pc (o0 :: o1 :: o2 :: o3 :: o4 :: o5 :: o6 :: o7 :: o8 :: o9 :: o10 :: ls) (.null :: st) := by
  intro p e R s m args below meth c H locs cells slots arr C S L
  exact lv_astoreN C.1 C.2.1 hd L.has (L.lt (i := 10) (Nat.le_of_ble_eq_true (by simp [Nat.ble_eq]))) rfl fun arr2 h2 => k p e R s m args below meth c H locs cells slots arr2 C S (VL.put1 (i := 10) (by simp) L.2.2.1 (fun j o e1 e2 => by cases Nat.succ.inj e1; cases e2; exact hp) h2)
theorem v_ist11 {o0 o1 o2 o3 o4 o5 o6 o7 o8 o9 o10 o11 : Option Value} {x : Int} (hd : decode M.2.1 pc = .ok (.istore 11, 2)) (hp : c1b o10 = true) (k : V Γ M d mc ms Q X h bc bs (pc + 2) (o0 :: o1 :: o2 :: o3 :: o4 :: o5 :: o6 :: o7 :: o8 :: o9 :: o10 :: some (vi x) :: ls) st) : V Γ M d mc ms Q X h bc bs pc (o0 :: o1 :: o2 :: o3 :: o4 :: o5 :: o6 :: o7 :: o8 :: o9 :: o10 :: o11 :: ls) ((vi x) :: st) := by
  intro p e R s m args below meth c H locs cells slots arr C S L
  exact lv_istore C.1 C.2.1 hd L.has (L.lt (i := 11) (Nat.le_of_ble_eq_true (by simp [Nat.ble_eq]))) rfl fun arr2 h2 => k p e R s m args below meth c H locs cells slots arr2 C S (VL.put1 (i := 11) (by simp) L.2.2.1 (fun j o e1 e2 => by cases Nat.succ.inj e1; cases e2; exact hp) h2)
theorem v_ast11 {o0 o1 o2 o3 o4 o5 o6 o7 o8 o9 o10 o11 : Option Value} {a : Nat} (hd : decode M.2.1 pc = .ok (.astore 11, 2)) (hp : c1b o10 = true) (k : V Γ M d mc ms Q X h bc bs (pc + 2) (o0 :: o1 :: o2 :: o3 :: o4 :: o5 :: o6 :: o7 :: o8 :: o9 :: o10 :: some (.ref a) :: ls) st) : V Γ M d mc ms Q X h bc bs pc (o0 :: o1 :: o2 :: o3 :: o4 :: o5 :: o6 :: o7 :: o8 :: o9 :: o10 :: o11 :: ls) ((.ref a) :: st) := by
  intro p e R s m args below meth c H locs cells slots arr C S L
  exact lv_astore C.1 C.2.1 hd L.has (L.lt (i := 11) (Nat.le_of_ble_eq_true (by simp [Nat.ble_eq]))) rfl fun arr2 h2 => k p e R s m args below meth c H locs cells slots arr2 C S (VL.put1 (i := 11) (by simp) L.2.2.1 (fun j o e1 e2 => by cases Nat.succ.inj e1; cases e2; exact hp) h2)
theorem v_astn11 {o0 o1 o2 o3 o4 o5 o6 o7 o8 o9 o10 o11 : Option Value}  (hd : decode M.2.1 pc = .ok (.astore 11, 2)) (hp : c1b o10 = true) (k : V Γ M d mc ms Q X h bc bs (pc + 2) (o0 :: o1 :: o2 :: o3 :: o4 :: o5 :: o6 :: o7 :: o8 :: o9 :: o10 :: some .null :: ls) st) : V Γ M d mc ms Q X h bc bs pc (o0 :: o1 :: o2 :: o3 :: o4 :: o5 :: o6 :: o7 :: o8 :: o9 :: o10 :: o11 :: ls) (.null :: st) := by
  intro p e R s m args below meth c H locs cells slots arr C S L
  exact lv_astoreN C.1 C.2.1 hd L.has (L.lt (i := 11) (Nat.le_of_ble_eq_true (by simp [Nat.ble_eq]))) rfl fun arr2 h2 => k p e R s m args below meth c H locs cells slots arr2 C S (VL.put1 (i := 11) (by simp) L.2.2.1 (fun j o e1 e2 => by cases Nat.succ.inj e1; cases e2; exact hp) h2)
theorem v_ist12 {o0 o1 o2 o3 o4 o5 o6 o7 o8 o9 o10 o11 o12 : Option Value} {x : Int} (hd : decode M.2.1 pc = .ok (.istore 12, 2)) (hp : c1b o11 = true) (k : V Γ M d mc ms Q X h bc bs (pc + 2) (o0 :: o1 :: o2 :: o3 :: o4 :: o5 :: o6 :: o7 :: o8 :: o9 :: o10 :: o11 :: some (vi x) :: ls) st) : V Γ M d mc ms Q X h bc bs pc (o0 :: o1 :: o2 :: o3 :: o4 :: o5 :: o6 :: o7 :: o8 :: o9 :: o10 :: o11 :: o12 :: ls) ((vi x) :: st) := by
  intro p e R s m args below meth c H locs cells slots arr C S L
  exact lv_istore C.1 C.2.1 hd L.has (L.lt (i := 12) (Nat.le_of_ble_eq_true (by simp [Nat.ble_eq]))) rfl fun arr2 h2 => k p e R s m args below meth c H locs cells slots arr2 C S (VL.put1 (i := 12) (by simp) L.2.2.1 (fun j o e1 e2 => by cases Nat.succ.inj e1; cases e2; exact hp) h2)
theorem v_ast12 {o0 o1 o2 o3 o4 o5 o6 o7 o8 o9 o10 o11 o12 : Option Value} {a : Nat} (hd : decode M.2.1 pc = .ok (.astore 12, 2)) (hp : c1b o11 = true) (k : V Γ M d mc ms Q X h bc bs (pc + 2) (o0 :: o1 :: o2 :: o3 :: o4 :: o5 :: o6 :: o7 :: o8 :: o9 :: o10 :: o11 :: some (.ref a) :: ls) st) : V Γ M d mc ms Q X h bc bs pc (o0 :: o1 :: o2 :: o3 :: o4 :: o5 :: o6 :: o7 :: o8 :: o9 :: o10 :: o11 :: o12 :: ls) ((.ref a) :: st) := by
  intro p e R s m args below meth c H locs cells slots arr C S L
  exact lv_astore C.1 C.2.1 hd L.has (L.lt (i := 12) (Nat.le_of_ble_eq_true (by simp [Nat.ble_eq]))) rfl fun arr2 h2 => k p e R s m args below meth c H locs cells slots arr2 C S (VL.put1 (i := 12) (by simp) L.2.2.1 (fun j o e1 e2 => by cases Nat.succ.inj e1; cases e2; exact hp) h2)
theorem v_astn12 {o0 o1 o2 o3 o4 o5 o6 o7 o8 o9 o10 o11 o12 : Option Value}  (hd : decode M.2.1 pc = .ok (.astore 12, 2)) (hp : c1b o11 = true) (k : V Γ M d mc ms Q X h bc bs (pc + 2) (o0 :: o1 :: o2 :: o3 :: o4 :: o5 :: o6 :: o7 :: o8 :: o9 :: o10 :: o11 :: some .null :: ls) st) : V Γ M d mc ms Q X h bc bs pc (o0 :: o1 :: o2 :: o3 :: o4 :: o5 :: o6 :: o7 :: o8 :: o9 :: o10 :: o11 :: o12 :: ls) (.null :: st) := by
  intro p e R s m args below meth c H locs cells slots arr C S L
  exact lv_astoreN C.1 C.2.1 hd L.has (L.lt (i := 12) (Nat.le_of_ble_eq_true (by simp [Nat.ble_eq]))) rfl fun arr2 h2 => k p e R s m args below meth c H locs cells slots arr2 C S (VL.put1 (i := 12) (by simp) L.2.2.1 (fun j o e1 e2 => by cases Nat.succ.inj e1; cases e2; exact hp) h2)
theorem v_ist13 {o0 o1 o2 o3 o4 o5 o6 o7 o8 o9 o10 o11 o12 o13 : Option Value} {x : Int} (hd : decode M.2.1 pc = .ok (.istore 13, 2)) (hp : c1b o12 = true) (k : V Γ M d mc ms Q X h bc bs (pc + 2) (o0 :: o1 :: o2 :: o3 :: o4 :: o5 :: o6 :: o7 :: o8 :: o9 :: o10 :: o11 :: o12 :: some (vi x) :: ls) st) : V Γ M d mc ms Q X h bc bs pc (o0 :: o1 :: o2 :: o3 :: o4 :: o5 :: o6 :: o7 :: o8 :: o9 :: o10 :: o11 :: o12 :: o13 :: ls) ((vi x) :: st) := by
  intro p e R s m args below meth c H locs cells slots arr C S L
  exact lv_istore C.1 C.2.1 hd L.has (L.lt (i := 13) (Nat.le_of_ble_eq_true (by simp [Nat.ble_eq]))) rfl fun arr2 h2 => k p e R s m args below meth c H locs cells slots arr2 C S (VL.put1 (i := 13) (by simp) L.2.2.1 (fun j o e1 e2 => by cases Nat.succ.inj e1; cases e2; exact hp) h2)
theorem v_ast13 {o0 o1 o2 o3 o4 o5 o6 o7 o8 o9 o10 o11 o12 o13 : Option Value} {a : Nat} (hd : decode M.2.1 pc = .ok (.astore 13, 2)) (hp : c1b o12 = true) (k : V Γ M d mc ms Q X h bc bs (pc + 2) (o0 :: o1 :: o2 :: o3 :: o4 :: o5 :: o6 :: o7 :: o8 :: o9 :: o10 :: o11 :: o12 :: some (.ref a) :: ls) st) : V Γ M d mc ms Q X h bc bs pc (o0 :: o1 :: o2 :: o3 :: o4 :: o5 :: o6 :: o7 :: o8 :: o9 :: o10 :: o11 :: o12 :: o13 :: ls) ((.ref a) :: st) := by
  intro p e R s m args below meth c H locs cells slots arr C S L
  exact lv_astore C.1 C.2.1 hd L.has (L.lt (i := 13) (Nat.le_of_ble_eq_true (by simp [Nat.ble_eq]))) rfl fun arr2 h2 => k p e R s m args below meth c H locs cells slots arr2 C S (VL.put1 (i := 13) (by simp) L.2.2.1 (fun j o e1 e2 => by cases Nat.succ.inj e1; cases e2; exact hp) h2)
theorem v_astn13 {o0 o1 o2 o3 o4 o5 o6 o7 o8 o9 o10 o11 o12 o13 : Option Value}  (hd : decode M.2.1 pc = .ok (.astore 13, 2)) (hp : c1b o12 = true) (k : V Γ M d mc ms Q X h bc bs (pc + 2) (o0 :: o1 :: o2 :: o3 :: o4 :: o5 :: o6 :: o7 :: o8 :: o9 :: o10 :: o11 :: o12 :: some .null :: ls) st) : V Γ M d mc ms Q X h bc bs pc (o0 :: o1 :: o2 :: o3 :: o4 :: o5 :: o6 :: o7 :: o8 :: o9 :: o10 :: o11 :: o12 :: o13 :: ls) (.null :: st) := by
  intro p e R s m args below meth c H locs cells slots arr C S L
  exact lv_astoreN C.1 C.2.1 hd L.has (L.lt (i := 13) (Nat.le_of_ble_eq_true (by simp [Nat.ble_eq]))) rfl fun arr2 h2 => k p e R s m args below meth c H locs cells slots arr2 C S (VL.put1 (i := 13) (by simp) L.2.2.1 (fun j o e1 e2 => by cases Nat.succ.inj e1; cases e2; exact hp) h2)
theorem v_iinc {i : Nat} {n x : Int} {ls' : Lcs} (hd : decode M.2.1 pc = .ok (.iinc i n, 3)) (hl : ls[i]? = some (some (vi x))) (hp : ∀ j o, j + 1 = i → ls[j]? = some o → c1b o = true) (e : ls.set i (some (vi (x + n))) = ls') (k : V Γ M d mc ms Q X h bc bs (pc + 3) ls' st) : V Γ M d mc ms Q X h bc bs pc ls st := by
  subst e
  intro p e R s m args below meth c H locs cells slots arr C S L
  have hi : i < ls.length := (List.getElem?_eq_some_iff.mp hl).1
  obtain ⟨kk, hk⟩ := List.getElem?_of_mem (lvL_mem hl)
  exact lv_iinc C.1 C.2.1 hd L.has hk (v := Int32.ofInt (x + n)) (Int32.ofInt_add x n).symm (L.lt hi) rfl fun arr2 h2 => k p e R s m args below meth c H locs cells slots arr2 C S (VL.put1 hi L.2.2.1 hp h2)
theorem v_iinc0  {n x : Int} (hd : decode M.2.1 pc = .ok (.iinc 0 n, 3))  (k : V Γ M d mc ms Q X h bc bs (pc + 3) (some (vi (x + n)) :: ls) st) : V Γ M d mc ms Q X h bc bs pc (some (vi x) :: ls) st := v_iinc hd rfl (fun j o e1 e2 => absurd e1 (Nat.succ_ne_zero j)) rfl k
theorem v_iinc1 {o0 : Option Value} {n x : Int} (hd : decode M.2.1 pc = .ok (.iinc 1 n, 3)) (hp : c1b o0 = true) (k : V Γ M d mc ms Q X h bc bs (pc + 3) (o0 :: some (vi (x + n)) :: ls) st) : V Γ M d mc ms Q X h bc bs pc (o0 :: some (vi x) :: ls) st := v_iinc hd rfl (fun j o e1 e2 => by cases Nat.succ.inj e1; cases e2; exact hp) rfl k
theorem v_iinc2 {o0 o1 : Option Value} {n x : Int} (hd : decode M.2.1 pc = .ok (.iinc 2 n, 3)) (hp : c1b o1 = true) (k : V Γ M d mc ms Q X h bc bs (pc + 3) (o0 :: o1 :: some (vi (x + n)) :: ls) st) : V Γ M d mc ms Q X h bc bs pc (o0 :: o1 :: some (vi x) :: ls) st := v_iinc hd rfl (fun j o e1 e2 => by cases Nat.succ.inj e1; cases e2; exact hp) rfl k
theorem v_iinc3 {o0 o1 o2 : Option Value} {n x : Int} (hd : decode M.2.1 pc = .ok (.iinc 3 n, 3)) (hp : c1b o2 = true) (k : V Γ M d mc ms Q X h bc bs (pc + 3) (o0 :: o1 :: o2 :: some (vi (x + n)) :: ls) st) : V Γ M d mc ms Q X h bc bs pc (o0 :: o1 :: o2 :: some (vi x) :: ls) st := v_iinc hd rfl (fun j o e1 e2 => by cases Nat.succ.inj e1; cases e2; exact hp) rfl k
theorem v_iinc4 {o0 o1 o2 o3 : Option Value} {n x : Int} (hd : decode M.2.1 pc = .ok (.iinc 4 n, 3)) (hp : c1b o3 = true) (k : V Γ M d mc ms Q X h bc bs (pc + 3) (o0 :: o1 :: o2 :: o3 :: some (vi (x + n)) :: ls) st) : V Γ M d mc ms Q X h bc bs pc (o0 :: o1 :: o2 :: o3 :: some (vi x) :: ls) st := v_iinc hd rfl (fun j o e1 e2 => by cases Nat.succ.inj e1; cases e2; exact hp) rfl k
theorem v_iinc5 {o0 o1 o2 o3 o4 : Option Value} {n x : Int} (hd : decode M.2.1 pc = .ok (.iinc 5 n, 3)) (hp : c1b o4 = true) (k : V Γ M d mc ms Q X h bc bs (pc + 3) (o0 :: o1 :: o2 :: o3 :: o4 :: some (vi (x + n)) :: ls) st) : V Γ M d mc ms Q X h bc bs pc (o0 :: o1 :: o2 :: o3 :: o4 :: some (vi x) :: ls) st := v_iinc hd rfl (fun j o e1 e2 => by cases Nat.succ.inj e1; cases e2; exact hp) rfl k
theorem v_iinc6 {o0 o1 o2 o3 o4 o5 : Option Value} {n x : Int} (hd : decode M.2.1 pc = .ok (.iinc 6 n, 3)) (hp : c1b o5 = true) (k : V Γ M d mc ms Q X h bc bs (pc + 3) (o0 :: o1 :: o2 :: o3 :: o4 :: o5 :: some (vi (x + n)) :: ls) st) : V Γ M d mc ms Q X h bc bs pc (o0 :: o1 :: o2 :: o3 :: o4 :: o5 :: some (vi x) :: ls) st := v_iinc hd rfl (fun j o e1 e2 => by cases Nat.succ.inj e1; cases e2; exact hp) rfl k
theorem v_iinc7 {o0 o1 o2 o3 o4 o5 o6 : Option Value} {n x : Int} (hd : decode M.2.1 pc = .ok (.iinc 7 n, 3)) (hp : c1b o6 = true) (k : V Γ M d mc ms Q X h bc bs (pc + 3) (o0 :: o1 :: o2 :: o3 :: o4 :: o5 :: o6 :: some (vi (x + n)) :: ls) st) : V Γ M d mc ms Q X h bc bs pc (o0 :: o1 :: o2 :: o3 :: o4 :: o5 :: o6 :: some (vi x) :: ls) st := v_iinc hd rfl (fun j o e1 e2 => by cases Nat.succ.inj e1; cases e2; exact hp) rfl k
theorem v_iinc8 {o0 o1 o2 o3 o4 o5 o6 o7 : Option Value} {n x : Int} (hd : decode M.2.1 pc = .ok (.iinc 8 n, 3)) (hp : c1b o7 = true) (k : V Γ M d mc ms Q X h bc bs (pc + 3) (o0 :: o1 :: o2 :: o3 :: o4 :: o5 :: o6 :: o7 :: some (vi (x + n)) :: ls) st) : V Γ M d mc ms Q X h bc bs pc (o0 :: o1 :: o2 :: o3 :: o4 :: o5 :: o6 :: o7 :: some (vi x) :: ls) st := v_iinc hd rfl (fun j o e1 e2 => by cases Nat.succ.inj e1; cases e2; exact hp) rfl k
theorem v_iinc9 {o0 o1 o2 o3 o4 o5 o6 o7 o8 : Option Value} {n x : Int} (hd : decode M.2.1 pc = .ok (.iinc 9 n, 3)) (hp : c1b o8 = true) (k : V Γ M d mc ms Q X h bc bs (pc + 3) (o0 :: o1 :: o2 :: o3 :: o4 :: o5 :: o6 :: o7 :: o8 :: some (vi (x + n)) :: ls) st) : V Γ M d mc ms Q X h bc bs pc (o0 :: o1 :: o2 :: o3 :: o4 :: o5 :: o6 :: o7 :: o8 :: some (vi x) :: ls) st := v_iinc hd rfl (fun j o e1 e2 => by cases Nat.succ.inj e1; cases e2; exact hp) rfl k
theorem v_iinc10 {o0 o1 o2 o3 o4 o5 o6 o7 o8 o9 : Option Value} {n x : Int} (hd : decode M.2.1 pc = .ok (.iinc 10 n, 3)) (hp : c1b o9 = true) (k : V Γ M d mc ms Q X h bc bs (pc + 3) (o0 :: o1 :: o2 :: o3 :: o4 :: o5 :: o6 :: o7 :: o8 :: o9 :: some (vi (x + n)) :: ls) st) : V Γ M d mc ms Q X h bc bs pc (o0 :: o1 :: o2 :: o3 :: o4 :: o5 :: o6 :: o7 :: o8 :: o9 :: some (vi x) :: ls) st := v_iinc hd rfl (fun j o e1 e2 => by cases Nat.succ.inj e1; cases e2; exact hp) rfl k
theorem v_iinc11 {o0 o1 o2 o3 o4 o5 o6 o7 o8 o9 o10 : Option Value} {n x : Int} (hd : decode M.2.1 pc = .ok (.iinc 11 n, 3)) (hp : c1b o10 = true) (k : V Γ M d mc ms Q X h bc bs (pc + 3) (o0 :: o1 :: o2 :: o3 :: o4 :: o5 :: o6 :: o7 :: o8 :: o9 :: o10 :: some (vi (x + n)) :: ls) st) : V Γ M d mc ms Q X h bc bs pc (o0 :: o1 :: o2 :: o3 :: o4 :: o5 :: o6 :: o7 :: o8 :: o9 :: o10 :: some (vi x) :: ls) st := v_iinc hd rfl (fun j o e1 e2 => by cases Nat.succ.inj e1; cases e2; exact hp) rfl k
theorem v_iinc12 {o0 o1 o2 o3 o4 o5 o6 o7 o8 o9 o10 o11 : Option Value} {n x : Int} (hd : decode M.2.1 pc = .ok (.iinc 12 n, 3)) (hp : c1b o11 = true) (k : V Γ M d mc ms Q X h bc bs (pc + 3) (o0 :: o1 :: o2 :: o3 :: o4 :: o5 :: o6 :: o7 :: o8 :: o9 :: o10 :: o11 :: some (vi (x + n)) :: ls) st) : V Γ M d mc ms Q X h bc bs pc (o0 :: o1 :: o2 :: o3 :: o4 :: o5 :: o6 :: o7 :: o8 :: o9 :: o10 :: o11 :: some (vi x) :: ls) st := v_iinc hd rfl (fun j o e1 e2 => by cases Nat.succ.inj e1; cases e2; exact hp) rfl k
theorem v_iinc13 {o0 o1 o2 o3 o4 o5 o6 o7 o8 o9 o10 o11 o12 : Option Value} {n x : Int} (hd : decode M.2.1 pc = .ok (.iinc 13 n, 3)) (hp : c1b o12 = true) (k : V Γ M d mc ms Q X h bc bs (pc + 3) (o0 :: o1 :: o2 :: o3 :: o4 :: o5 :: o6 :: o7 :: o8 :: o9 :: o10 :: o11 :: o12 :: some (vi (x + n)) :: ls) st) : V Γ M d mc ms Q X h bc bs pc (o0 :: o1 :: o2 :: o3 :: o4 :: o5 :: o6 :: o7 :: o8 :: o9 :: o10 :: o11 :: o12 :: some (vi x) :: ls) st := v_iinc hd rfl (fun j o e1 e2 => by cases Nat.succ.inj e1; cases e2; exact hp) rfl k
theorem v_iadd {x y : Int} (hd : decode M.2.1 pc = .ok (.iadd, 1))  (k : V Γ M d mc ms Q X h bc bs (pc + 1) ls (vi (x + y) :: st)) : V Γ M d mc ms Q X h bc bs pc ls (vi y :: vi x :: st) := by
  intro p e R s m args below meth c H locs cells slots arr C S L
  refine lv_iadd C.1 C.2.1 hd ?_
  rw [← Int32.ofInt_add]
  exact k p e R s m args below meth c H locs cells slots arr C S L
theorem v_isub {x y : Int} (hd : decode M.2.1 pc = .ok (.isub, 1))  (k : V Γ M d mc ms Q X h bc bs (pc + 1) ls (vi (x - y) :: st)) : V Γ M d mc ms Q X h bc bs pc ls (vi y :: vi x :: st) := by
  intro p e R s m args below meth c H locs cells slots arr C S L
  refine lv_isub C.1 C.2.1 hd ?_
  rw [← Int32.ofInt_sub]
  exact k p e R s m args below meth c H locs cells slots arr C S L
theorem v_imul {x y : Int} (hd : decode M.2.1 pc = .ok (.imul, 1))  (k : V Γ M d mc ms Q X h bc bs (pc + 1) ls (vi (x * y) :: st)) : V Γ M d mc ms Q X h bc bs pc ls (vi y :: vi x :: st) := by
  intro p e R s m args below meth c H locs cells slots arr C S L
  refine lv_imul C.1 C.2.1 hd ?_
  rw [← Int32.ofInt_mul]
  exact k p e R s m args below meth c H locs cells slots arr C S L
theorem v_ineg {x : Int} (hd : decode M.2.1 pc = .ok (.ineg, 1))  (k : V Γ M d mc ms Q X h bc bs (pc + 1) ls (vi (-x) :: st)) : V Γ M d mc ms Q X h bc bs pc ls (vi x :: st) := by
  intro p e R s m args below meth c H locs cells slots arr C S L
  refine lv_ineg C.1 C.2.1 hd ?_
  rw [← Int32.ofInt_neg]
  exact k p e R s m args below meth c H locs cells slots arr C S L
theorem v_idiv {x y : Int} (hd : decode M.2.1 pc = .ok (.idiv, 1)) (hx : InR x) (hy : InR y) (h0 : y ≠ 0) (k : V Γ M d mc ms Q X h bc bs (pc + 1) ls (vi (x.tdiv y) :: st)) : V Γ M d mc ms Q X h bc bs pc ls (vi y :: vi x :: st) := by
  intro p e R s m args below meth c H locs cells slots arr C S L
  refine lv_idiv C.1 C.2.1 hd (fun z => h0 ((I_inj hy ⟨by decide, by decide⟩).mp (z.trans I_zero))) ?_
  rw [I_div hx hy]
  exact k p e R s m args below meth c H locs cells slots arr C S L
theorem v_irem {x y : Int} (hd : decode M.2.1 pc = .ok (.irem, 1)) (hx : InR x) (hy : InR y) (h0 : y ≠ 0) (k : V Γ M d mc ms Q X h bc bs (pc + 1) ls (vi (x.tmod y) :: st)) : V Γ M d mc ms Q X h bc bs pc ls (vi y :: vi x :: st) := by
  intro p e R s m args below meth c H locs cells slots arr C S L
  refine lv_irem C.1 C.2.1 hd (fun z => h0 ((I_inj hy ⟨by decide, by decide⟩).mp (z.trans I_zero))) ?_
  rw [I_mod hx hy]
  exact k p e R s m args below meth c H locs cells slots arr C S L
theorem v_iand {x y : Int32} (hd : decode M.2.1 pc = .ok (.iand, 1))  (k : V Γ M d mc ms Q X h bc bs (pc + 1) ls (.int (x &&& y) :: st)) : V Γ M d mc ms Q X h bc bs pc ls (.int y :: .int x :: st) := by
  intro p e R s m args below meth c H locs cells slots arr C S L
  exact lv_iand C.1 C.2.1 hd (k p e R s m args below meth c H locs cells slots arr C S L)
theorem v_ior {x y : Int32} (hd : decode M.2.1 pc = .ok (.ior, 1))  (k : V Γ M d mc ms Q X h bc bs (pc + 1) ls (.int (x ||| y) :: st)) : V Γ M d mc ms Q X h bc bs pc ls (.int y :: .int x :: st) := by
  intro p e R s m args below meth c H locs cells slots arr C S L
  exact lv_ior C.1 C.2.1 hd (k p e R s m args below meth c H locs cells slots arr C S L)
theorem v_ishl {x y : Int32} (hd : decode M.2.1 pc = .ok (.ishl, 1))  (k : V Γ M d mc ms Q X h bc bs (pc + 1) ls (.int (x <<< (y &&& 31)) :: st)) : V Γ M d mc ms Q X h bc bs pc ls (.int y :: .int x :: st) := by
  intro p e R s m args below meth c H locs cells slots arr C S L
  exact lv_ishl C.1 C.2.1 hd (k p e R s m args below meth c H locs cells slots arr C S L)
theorem v_ishr {x y : Int32} (hd : decode M.2.1 pc = .ok (.ishr, 1))  (k : V Γ M d mc ms Q X h bc bs (pc + 1) ls (.int (x >>> (y &&& 31)) :: st)) : V Γ M d mc ms Q X h bc bs pc ls (.int y :: .int x :: st) := by
  intro p e R s m args below meth c H locs cells slots arr C S L
  exact lv_ishr C.1 C.2.1 hd (k p e R s m args below meth c H locs cells slots arr C S L)
theorem v_i2b {x : Int32} (hd : decode M.2.1 pc = .ok (.i2b, 1))  (k : V Γ M d mc ms Q X h bc bs (pc + 1) ls (.int (x.toInt8.toInt32) :: st)) : V Γ M d mc ms Q X h bc bs pc ls (.int x :: st) := by
  intro p e R s m args below meth c H locs cells slots arr C S L
  exact lv_i2b C.1 C.2.1 hd rfl (k p e R s m args below meth c H locs cells slots arr C S L)
theorem v_i2c {x : Int32} (hd : decode M.2.1 pc = .ok (.i2c, 1))  (k : V Γ M d mc ms Q X h bc bs (pc + 1) ls (.int ((x.toUInt32 % 65536).toInt32) :: st)) : V Γ M d mc ms Q X h bc bs pc ls (.int x :: st) := by
  intro p e R s m args below meth c H locs cells slots arr C S L
  exact lv_i2c C.1 C.2.1 hd rfl (k p e R s m args below meth c H locs cells slots arr C S L)
theorem v_i2l {x : Int} (hd : decode M.2.1 pc = .ok (.i2l, 1)) (hx : InR x) (k : V Γ M d mc ms Q X h bc bs (pc + 1) ls (.long (Int64.ofInt x) :: st)) : V Γ M d mc ms Q X h bc bs pc ls (vi x :: st) := by
  intro p e R s m args below meth c H locs cells slots arr C S L
  exact lv_i2l C.1 C.2.1 hd (Int32.toInt64_ofInt hx.1 hx.2) (k p e R s m args below meth c H locs cells slots arr C S L)
theorem v_l2i {x : Int} (hd : decode M.2.1 pc = .ok (.l2i, 1))  (k : V Γ M d mc ms Q X h bc bs (pc + 1) ls (vi x :: st)) : V Γ M d mc ms Q X h bc bs pc ls (.long (Int64.ofInt x) :: st) := by
  intro p e R s m args below meth c H locs cells slots arr C S L
  exact lv_l2i C.1 C.2.1 hd Int64.toInt32_ofInt (k p e R s m args below meth c H locs cells slots arr C S L)
theorem v_lsub {x y : Int} (hd : decode M.2.1 pc = .ok (.lsub, 1))  (k : V Γ M d mc ms Q X h bc bs (pc + 1) ls (.long (Int64.ofInt (x - y)) :: st)) : V Γ M d mc ms Q X h bc bs pc ls (.long (Int64.ofInt y) :: .long (Int64.ofInt x) :: st) := by
  intro p e R s m args below meth c H locs cells slots arr C S L
  refine lv_lsub C.1 C.2.1 hd ?_
  rw [← Int64.ofInt_sub]
  exact k p e R s m args below meth c H locs cells slots arr C S L
theorem v_lmul {x y : Int} (hd : decode M.2.1 pc = .ok (.lmul, 1))  (k : V Γ M d mc ms Q X h bc bs (pc + 1) ls (.long (Int64.ofInt (x * y)) :: st)) : V Γ M d mc ms Q X h bc bs pc ls (.long (Int64.ofInt y) :: .long (Int64.ofInt x) :: st) := by
  intro p e R s m args below meth c H locs cells slots arr C S L
  refine lv_lmul C.1 C.2.1 hd ?_
  rw [← Int64.ofInt_mul]
  exact k p e R s m args below meth c H locs cells slots arr C S L
theorem v_ldiv {x y : Int} (hd : decode M.2.1 pc = .ok (.ldiv, 1)) (hx : -1000000000000 ≤ x ∧ x ≤ 1000000000000) (hy : 0 < y ∧ y ≤ 1000000000000) (k : V Γ M d mc ms Q X h bc bs (pc + 1) ls (.long (Int64.ofInt (x.tdiv y)) :: st)) : V Γ M d mc ms Q X h bc bs pc ls (.long (Int64.ofInt y) :: .long (Int64.ofInt x) :: st) := by
  intro p e R s m args below meth c H locs cells slots arr C S L
  have e0 : (Int64.ofInt y).toInt = y := Int64.toInt_ofInt_of_le (by omega) (by omega)
  refine lv_ldiv C.1 C.2.1 hd (fun z => by rw [z, Int64.toInt_zero] at e0; omega) ?_
  rw [← Int64.ofInt_tdiv (by show (-9223372036854775808 : Int) ≤ x; omega) (by show x ≤ (9223372036854775807 : Int); omega) (by show (-9223372036854775808 : Int) ≤ y; omega) (by show y ≤ (9223372036854775807 : Int); omega)]
  exact k p e R s m args below meth c H locs cells slots arr C S L
theorem v_i2d {x : Int} (hd : decode M.2.1 pc = .ok (.i2d, 1))  (k : V Γ M d mc ms Q X h bc bs (pc + 1) ls (.double (FP.i2d (Int32.ofInt x)) :: st)) : V Γ M d mc ms Q X h bc bs pc ls (vi x :: st) := by
  intro p e R s m args below meth c H locs cells slots arr C S L
  exact lv_i2d C.1 C.2.1 hd (k p e R s m args below meth c H locs cells slots arr C S L)
theorem v_i2f {x : Int} (hd : decode M.2.1 pc = .ok (.i2f, 1))  (k : V Γ M d mc ms Q X h bc bs (pc + 1) ls (.float (FP.i2f (Int32.ofInt x)) :: st)) : V Γ M d mc ms Q X h bc bs pc ls (vi x :: st) := by
  intro p e R s m args below meth c H locs cells slots arr C S L
  exact lv_i2f C.1 C.2.1 hd (k p e R s m args below meth c H locs cells slots arr C S L)
theorem v_ddiv {x y : UInt64} (hd : decode M.2.1 pc = .ok (.ddiv, 1)) (hn : vf_n64 (FP.ddiv x y)) (k : V Γ M d mc ms Q X h bc bs (pc + 1) ls (.double (FP.ddiv x y) :: st)) : V Γ M d mc ms Q X h bc bs pc ls (.double y :: .double x :: st) := by
  intro p e R s m args below meth c H locs cells slots arr C S L
  exact lv_ddiv C.1 C.2.1 hd hn (k p e R s m args below meth c H locs cells slots arr C S L)
theorem v_fdiv {x y : UInt32} (hd : decode M.2.1 pc = .ok (.fdiv, 1)) (hn : vf_n32 (FP.fdiv x y)) (k : V Γ M d mc ms Q X h bc bs (pc + 1) ls (.float (FP.fdiv x y) :: st)) : V Γ M d mc ms Q X h bc bs pc ls (.float y :: .float x :: st) := by
  intro p e R s m args below meth c H locs cells slots arr C S L
  exact lv_fdiv C.1 C.2.1 hd hn (k p e R s m args below meth c H locs cells slots arr C S L)
theorem v_f2d {x : UInt32} (hd : decode M.2.1 pc = .ok (.f2d, 1)) (hn : vf_n64 (FP.f2d x)) (k : V Γ M d mc ms Q X h bc bs (pc + 1) ls (.double (FP.f2d x) :: st)) : V Γ M d mc ms Q X h bc bs pc ls (.float x :: st) := by
  intro p e R s m args below meth c H locs cells slots arr C S L
  exact lv_f2d C.1 C.2.1 hd hn (k p e R s m args below meth c H locs cells slots arr C S L)
theorem v_dcmp {x y : UInt64} {op : CmpOp} (hd : decode M.2.1 pc = .ok (.dcmp op, 1))  (k : V Γ M d mc ms Q X h bc bs (pc + 1) ls (.int (Op.cmpValue (FP.dcmp x y) op) :: st)) : V Γ M d mc ms Q X h bc bs pc ls (.double y :: .double x :: st) := by
  intro p e R s m args below meth c H locs cells slots arr C S L
  exact lv_dcmp C.1 C.2.1 hd (k p e R s m args below meth c H locs cells slots arr C S L)
theorem v_dup {u : Value} (hd : decode M.2.1 pc = .ok (.dup, 1)) (hu : c1b (some u) = true) (k : V Γ M d mc ms Q X h bc bs (pc + 1) ls (u :: u :: st)) : V Γ M d mc ms Q X h bc bs pc ls (u :: st) := by
  intro p e R s m args below meth c H locs cells slots arr C S L
  exact lv_dup C.1 C.2.1 hd (c1b_cat hu) (k p e R s m args below meth c H locs cells slots arr C S L)
theorem v_pop {u : Value} (hd : decode M.2.1 pc = .ok (.pop, 1)) (hu : c1b (some u) = true) (k : V Γ M d mc ms Q X h bc bs (pc + 1) ls st) : V Γ M d mc ms Q X h bc bs pc ls (u :: st) := by
  intro p e R s m args below meth c H locs cells slots arr C S L
  exact lv_pop C.1 C.2.1 hd (c1b_cat hu) (k p e R s m args below meth c H locs cells slots arr C S L)
theorem v_dup_x1 {u w : Value} (hd : decode M.2.1 pc = .ok (.dup_x1, 1)) (hu : c1b (some u) = true) (hw : c1b (some w) = true) (k : V Γ M d mc ms Q X h bc bs (pc + 1) ls (u :: w :: u :: st)) : V Γ M d mc ms Q X h bc bs pc ls (u :: w :: st) := by
  intro p e R s m args below meth c H locs cells slots arr C S L
  exact lv_dup_x1 C.1 C.2.1 hd (c1b_cat hu) (c1b_cat hw) (k p e R s m args below meth c H locs cells slots arr C S L)
theorem v_dup2 {u w : Value} (hd : decode M.2.1 pc = .ok (.dup2, 1)) (hu : c1b (some u) = true) (hw : c1b (some w) = true) (k : V Γ M d mc ms Q X h bc bs (pc + 1) ls (u :: w :: u :: w :: st)) : V Γ M d mc ms Q X h bc bs pc ls (u :: w :: st) := by
  intro p e R s m args below meth c H locs cells slots arr C S L
  exact lv_dup2_11 C.1 C.2.1 hd (c1b_cat hu) (c1b_cat hw) (k p e R s m args below meth c H locs cells slots arr C S L)
theorem v_goto {off : Int} {tgt : Nat} (hd : decode M.2.1 pc = .ok (.goto off, 3)) (ht : (pc : Int) + off = (tgt : Int)) (k : V Γ M d mc ms Q X h bc bs tgt ls st) : V Γ M d mc ms Q X h bc bs pc ls st := by
  intro p e R s m args below meth c H locs cells slots arr C S L
  exact lv_goto C.1 C.2.1 hd ht (k p e R s m args below meth c H locs cells slots arr C S L)
theorem v_icmp_eq {x y : Int} {off : Int} {tgt : Nat} (hd : decode M.2.1 pc = .ok (.if_icmp .eq off, 3)) (ht : (pc : Int) + off = (tgt : Int)) (hx : InR x) (hy : InR y) (kt : x = y → V Γ M d mc ms Q X h bc bs tgt ls st) (kf : x ≠ y → V Γ M d mc ms Q X h bc bs (pc + 3) ls st) : V Γ M d mc ms Q X h bc bs pc ls (vi y :: vi x :: st) := by
  intro p e R s m args below meth c H locs cells slots arr C S L
  exact lv_icmp_eq C.1 C.2.1 hd ht (fun z => kt ((I_inj hx hy).mp z) p e R s m args below meth c H locs cells slots arr C S L) (fun z => kf (fun q => z ((I_inj hx hy).mpr q)) p e R s m args below meth c H locs cells slots arr C S L)
theorem v_if_eq {x : Int} {off : Int} {tgt : Nat} (hd : decode M.2.1 pc = .ok (.ifCond .eq off, 3)) (ht : (pc : Int) + off = (tgt : Int)) (hx : InR x) (kt : x = 0 → V Γ M d mc ms Q X h bc bs tgt ls st) (kf : x ≠ 0 → V Γ M d mc ms Q X h bc bs (pc + 3) ls st) : V Γ M d mc ms Q X h bc bs pc ls (vi x :: st) := by
  intro p e R s m args below meth c H locs cells slots arr C S L
  have hz : InR 0 := ⟨by decide, by decide⟩
  refine lv_if_eq C.1 C.2.1 hd ht (fun z => ?_) (fun z => ?_)
  · rw [I_zero] at z
    exact kt ((I_inj hx hz).mp z) p e R s m args below meth c H locs cells slots arr C S L
  · rw [I_zero] at z
    exact kf (fun q => z ((I_inj hx hz).mpr q)) p e R s m args below meth c H locs cells slots arr C S L
theorem v_icmp_ne {x y : Int} {off : Int} {tgt : Nat} (hd : decode M.2.1 pc = .ok (.if_icmp .ne off, 3)) (ht : (pc : Int) + off = (tgt : Int)) (hx : InR x) (hy : InR y) (kt : x ≠ y → V Γ M d mc ms Q X h bc bs tgt ls st) (kf : x = y → V Γ M d mc ms Q X h bc bs (pc + 3) ls st) : V Γ M d mc ms Q X h bc bs pc ls (vi y :: vi x :: st) := by
  intro p e R s m args below meth c H locs cells slots arr C S L
  exact lv_icmp_ne C.1 C.2.1 hd ht (fun z => kt (fun q => z ((I_inj hx hy).mpr q)) p e R s m args below meth c H locs cells slots arr C S L) (fun z => kf ((I_inj hx hy).mp z) p e R s m args below meth c H locs cells slots arr C S L)
theorem v_if_ne {x : Int} {off : Int} {tgt : Nat} (hd : decode M.2.1 pc = .ok (.ifCond .ne off, 3)) (ht : (pc : Int) + off = (tgt : Int)) (hx : InR x) (kt : x ≠ 0 → V Γ M d mc ms Q X h bc bs tgt ls st) (kf : x = 0 → V Γ M d mc ms Q X h bc bs (pc + 3) ls st) : V Γ M d mc ms Q X h bc bs pc ls (vi x :: st) := by
  intro p e R s m args below meth c H locs cells slots arr C S L
  have hz : InR 0 := ⟨by decide, by decide⟩
  refine lv_if_ne C.1 C.2.1 hd ht (fun z => ?_) (fun z => ?_)
  · rw [I_zero] at z
    exact kt (fun q => z ((I_inj hx hz).mpr q)) p e R s m args below meth c H locs cells slots arr C S L
  · rw [I_zero] at z
    exact kf ((I_inj hx hz).mp z) p e R s m args below meth c H locs cells slots arr C S L
theorem v_icmp_lt {x y : Int} {off : Int} {tgt : Nat} (hd : decode M.2.1 pc = .ok (.if_icmp .lt off, 3)) (ht : (pc : Int) + off = (tgt : Int)) (hx : InR x) (hy : InR y) (kt : x < y → V Γ M d mc ms Q X h bc bs tgt ls st) (kf : y ≤ x → V Γ M d mc ms Q X h bc bs (pc + 3) ls st) : V Γ M d mc ms Q X h bc bs pc ls (vi y :: vi x :: st) := by
  intro p e R s m args below meth c H locs cells slots arr C S L
  exact lv_icmp_lt C.1 C.2.1 hd ht (fun z => kt ((I_lt hx hy).mp z) p e R s m args below meth c H locs cells slots arr C S L) (fun z => kf (Int.not_lt.mp (fun q => z ((I_lt hx hy).mpr q))) p e R s m args below meth c H locs cells slots arr C S L)
theorem v_if_lt {x : Int} {off : Int} {tgt : Nat} (hd : decode M.2.1 pc = .ok (.ifCond .lt off, 3)) (ht : (pc : Int) + off = (tgt : Int)) (hx : InR x) (kt : x < 0 → V Γ M d mc ms Q X h bc bs tgt ls st) (kf : 0 ≤ x → V Γ M d mc ms Q X h bc bs (pc + 3) ls st) : V Γ M d mc ms Q X h bc bs pc ls (vi x :: st) := by
  intro p e R s m args below meth c H locs cells slots arr C S L
  have hz : InR 0 := ⟨by decide, by decide⟩
  refine lv_if_lt C.1 C.2.1 hd ht (fun z => ?_) (fun z => ?_)
  · rw [I_zero] at z
    exact kt ((I_lt hx hz).mp z) p e R s m args below meth c H locs cells slots arr C S L
  · rw [I_zero] at z
    exact kf (Int.not_lt.mp (fun q => z ((I_lt hx hz).mpr q))) p e R s m args below meth c H locs cells slots arr C S L
theorem v_icmp_ge {x y : Int} {off : Int} {tgt : Nat} (hd : decode M.2.1 pc = .ok (.if_icmp .ge off, 3)) (ht : (pc : Int) + off = (tgt : Int)) (hx : InR x) (hy : InR y) (kt : y ≤ x → V Γ M d mc ms Q X h bc bs tgt ls st) (kf : x < y → V Γ M d mc ms Q X h bc bs (pc + 3) ls st) : V Γ M d mc ms Q X h bc bs pc ls (vi y :: vi x :: st) := by
  intro p e R s m args below meth c H locs cells slots arr C S L
  exact lv_icmp_ge C.1 C.2.1 hd ht (fun z => kt ((I_le hy hx).mp z) p e R s m args below meth c H locs cells slots arr C S L) (fun z => kf (Int.not_le.mp (fun q => z ((I_le hy hx).mpr q))) p e R s m args below meth c H locs cells slots arr C S L)
theorem v_if_ge {x : Int} {off : Int} {tgt : Nat} (hd : decode M.2.1 pc = .ok (.ifCond .ge off, 3)) (ht : (pc : Int) + off = (tgt : Int)) (hx : InR x) (kt : 0 ≤ x → V Γ M d mc ms Q X h bc bs tgt ls st) (kf : x < 0 → V Γ M d mc ms Q X h bc bs (pc + 3) ls st) : V Γ M d mc ms Q X h bc bs pc ls (vi x :: st) := by
  intro p e R s m args below meth c H locs cells slots arr C S L
  have hz : InR 0 := ⟨by decide, by decide⟩
  refine lv_if_ge C.1 C.2.1 hd ht (fun z => ?_) (fun z => ?_)
  · rw [I_zero] at z
    exact kt ((I_le hz hx).mp z) p e R s m args below meth c H locs cells slots arr C S L
  · rw [I_zero] at z
    exact kf (Int.not_le.mp (fun q => z ((I_le hz hx).mpr q))) p e R s m args below meth c H locs cells slots arr C S L
theorem v_icmp_gt {x y : Int} {off : Int} {tgt : Nat} (hd : decode M.2.1 pc = .ok (.if_icmp .gt off, 3)) (ht : (pc : Int) + off = (tgt : Int)) (hx : InR x) (hy : InR y) (kt : y < x → V Γ M d mc ms Q X h bc bs tgt ls st) (kf : x ≤ y → V Γ M d mc ms Q X h bc bs (pc + 3) ls st) : V Γ M d mc ms Q X h bc bs pc ls (vi y :: vi x :: st) := by
  intro p e R s m args below meth c H locs cells slots arr C S L
  exact lv_icmp_gt C.1 C.2.1 hd ht (fun z => kt ((I_lt hy hx).mp z) p e R s m args below meth c H locs cells slots arr C S L) (fun z => kf (Int.not_lt.mp (fun q => z ((I_lt hy hx).mpr q))) p e R s m args below meth c H locs cells slots arr C S L)
theorem v_if_gt {x : Int} {off : Int} {tgt : Nat} (hd : decode M.2.1 pc = .ok (.ifCond .gt off, 3)) (ht : (pc : Int) + off = (tgt : Int)) (hx : InR x) (kt : 0 < x → V Γ M d mc ms Q X h bc bs tgt ls st) (kf : x ≤ 0 → V Γ M d mc ms Q X h bc bs (pc + 3) ls st) : V Γ M d mc ms Q X h bc bs pc ls (vi x :: st) := by
  intro p e R s m args below meth c H locs cells slots arr C S L
  have hz : InR 0 := ⟨by decide, by decide⟩
  refine lv_if_gt C.1 C.2.1 hd ht (fun z => ?_) (fun z => ?_)
  · rw [I_zero] at z
    exact kt ((I_lt hz hx).mp z) p e R s m args below meth c H locs cells slots arr C S L
  · rw [I_zero] at z
    exact kf (Int.not_lt.mp (fun q => z ((I_lt hz hx).mpr q))) p e R s m args below meth c H locs cells slots arr C S L
theorem v_icmp_le {x y : Int} {off : Int} {tgt : Nat} (hd : decode M.2.1 pc = .ok (.if_icmp .le off, 3)) (ht : (pc : Int) + off = (tgt : Int)) (hx : InR x) (hy : InR y) (kt : x ≤ y → V Γ M d mc ms Q X h bc bs tgt ls st) (kf : y < x → V Γ M d mc ms Q X h bc bs (pc + 3) ls st) : V Γ M d mc ms Q X h bc bs pc ls (vi y :: vi x :: st) := by
  intro p e R s m args below meth c H locs cells slots arr C S L
  exact lv_icmp_le C.1 C.2.1 hd ht (fun z => kt ((I_le hx hy).mp z) p e R s m args below meth c H locs cells slots arr C S L) (fun z => kf (Int.not_le.mp (fun q => z ((I_le hx hy).mpr q))) p e R s m args below meth c H locs cells slots arr C S L)
theorem v_if_le {x : Int} {off : Int} {tgt : Nat} (hd : decode M.2.1 pc = .ok (.ifCond .le off, 3)) (ht : (pc : Int) + off = (tgt : Int)) (hx : InR x) (kt : x ≤ 0 → V Γ M d mc ms Q X h bc bs tgt ls st) (kf : 0 < x → V Γ M d mc ms Q X h bc bs (pc + 3) ls st) : V Γ M d mc ms Q X h bc bs pc ls (vi x :: st) := by
  intro p e R s m args below meth c H locs cells slots arr C S L
  have hz : InR 0 := ⟨by decide, by decide⟩
  refine lv_if_le C.1 C.2.1 hd ht (fun z => ?_) (fun z => ?_)
  · rw [I_zero] at z
    exact kt ((I_le hx hz).mp z) p e R s m args below meth c H locs cells slots arr C S L
  · rw [I_zero] at z
    exact kf (Int.not_le.mp (fun q => z ((I_le hx hz).mpr q))) p e R s m args below meth c H locs cells slots arr C S L
theorem v_if_eq0 {off : Int} {tgt : Nat} (hd : decode M.2.1 pc = .ok (.ifCond .eq off, 3)) (ht : (pc : Int) + off = (tgt : Int)) (k : V Γ M d mc ms Q X h bc bs tgt ls st) : V Γ M d mc ms Q X h bc bs pc ls (vi 0 :: st) :=
  v_if_eq hd ht ⟨by decide, by decide⟩ (fun _ => k) (fun z => absurd z (by decide))
theorem v_if_eq1 {off : Int} {tgt : Nat} (hd : decode M.2.1 pc = .ok (.ifCond .eq off, 3)) (ht : (pc : Int) + off = (tgt : Int)) (k : V Γ M d mc ms Q X h bc bs (pc + 3) ls st) : V Γ M d mc ms Q X h bc bs pc ls (vi 1 :: st) :=
  v_if_eq hd ht ⟨by decide, by decide⟩ (fun z => absurd z (by decide)) (fun _ => k)
theorem v_if_ne0 {off : Int} {tgt : Nat} (hd : decode M.2.1 pc = .ok (.ifCond .ne off, 3)) (ht : (pc : Int) + off = (tgt : Int)) (k : V Γ M d mc ms Q X h bc bs (pc + 3) ls st) : V Γ M d mc ms Q X h bc bs pc ls (vi 0 :: st) :=
  v_if_ne hd ht ⟨by decide, by decide⟩ (fun z => absurd z (by decide)) (fun _ => k)
theorem v_if_ne1 {off : Int} {tgt : Nat} (hd : decode M.2.1 pc = .ok (.ifCond .ne off, 3)) (ht : (pc : Int) + off = (tgt : Int)) (k : V Γ M d mc ms Q X h bc bs tgt ls st) : V Γ M d mc ms Q X h bc bs pc ls (vi 1 :: st) :=
  v_if_ne hd ht ⟨by decide, by decide⟩ (fun _ => k) (fun z => absurd z (by decide))
theorem v_ifnullR {a : Nat} {off : Int} (hd : decode M.2.1 pc = .ok (.ifnull off, 3))  (k : V Γ M d mc ms Q X h bc bs (pc + 3) ls st) : V Γ M d mc ms Q X h bc bs pc ls (.ref a :: st) := by
  intro p e R s m args below meth c H locs cells slots arr C S L
  exact lv_ifnull C.1 C.2.1 hd (k p e R s m args below meth c H locs cells slots arr C S L)
theorem v_ifnullN {off : Int} {tgt : Nat} (hd : decode M.2.1 pc = .ok (.ifnull off, 3)) (ht : (pc : Int) + off = (tgt : Int)) (k : V Γ M d mc ms Q X h bc bs tgt ls st) : V Γ M d mc ms Q X h bc bs pc ls (.null :: st) := by
  intro p e R s m args below meth c H locs cells slots arr C S L
  exact lv_ifnullN C.1 C.2.1 hd ht (k p e R s m args below meth c H locs cells slots arr C S L)
theorem v_ifnonnullR {a : Nat} {off : Int} {tgt : Nat} (hd : decode M.2.1 pc = .ok (.ifnonnull off, 3)) (ht : (pc : Int) + off = (tgt : Int)) (k : V Γ M d mc ms Q X h bc bs tgt ls st) : V Γ M d mc ms Q X h bc bs pc ls (.ref a :: st) := by
  intro p e R s m args below meth c H locs cells slots arr C S L
  exact lv_ifnonnull C.1 C.2.1 hd ht (k p e R s m args below meth c H locs cells slots arr C S L)
theorem v_ifnonnullN {off : Int} (hd : decode M.2.1 pc = .ok (.ifnonnull off, 3))  (k : V Γ M d mc ms Q X h bc bs (pc + 3) ls st) : V Γ M d mc ms Q X h bc bs pc ls (.null :: st) := by
  intro p e R s m args below meth c H locs cells slots arr C S L
  exact lv_ifnonnullN C.1 C.2.1 hd (k p e R s m args below meth c H locs cells slots arr C S L)
theorem v_acmp_neT {a b : Nat} {off : Int} {tgt : Nat} (hd : decode M.2.1 pc = .ok (.if_acmp .ne off, 3)) (ht : (pc : Int) + off = (tgt : Int)) (hn : a ≠ b) (k : V Γ M d mc ms Q X h bc bs tgt ls st) : V Γ M d mc ms Q X h bc bs pc ls (.ref b :: .ref a :: st) := by
  intro p e R s m args below meth c H locs cells slots arr C S L
  exact lv_acmp_ne (rx := some a) (ry := some b) C.1 C.2.1 hd ht (fun _ => k p e R s m args below meth c H locs cells slots arr C S L) (fun z => absurd (Option.some.inj z) hn)
theorem v_acmp_neF {a : Nat} {off : Int} {tgt : Nat} (hd : decode M.2.1 pc = .ok (.if_acmp .ne off, 3)) (ht : (pc : Int) + off = (tgt : Int)) (k : V Γ M d mc ms Q X h bc bs (pc + 3) ls st) : V Γ M d mc ms Q X h bc bs pc ls (.ref a :: .ref a :: st) := by
  intro p e R s m args below meth c H locs cells slots arr C S L
  exact lv_acmp_ne (rx := some a) (ry := some a) C.1 C.2.1 hd ht (fun z => absurd rfl z) (fun _ => k p e R s m args below meth c H locs cells slots arr C S L)
theorem v_tableOut {dflt lo hi x : Int} {offs : Array Int} {len tgt : Nat} (hd : decode M.2.1 pc = .ok (.tableswitch dflt lo hi offs, len)) (hx : InR x) (ho : x < lo ∨ hi < x) (ht : (pc : Int) + dflt = (tgt : Int)) (k : V Γ M d mc ms Q X h bc bs tgt ls st) : V Γ M d mc ms Q X h bc bs pc ls (vi x :: st) := by
  intro p e R s m args below meth c H locs cells slots arr C S L
  exact lv_tableOut C.1 C.2.1 hd (by rw [I_toInt hx]; exact ho) ht (k p e R s m args below meth c H locs cells slots arr C S L)
theorem v_tableIn {dflt lo hi x off : Int} {offs : Array Int} {len tgt : Nat} (hd : decode M.2.1 pc = .ok (.tableswitch dflt lo hi offs, len)) (hx : InR x) (h1 : lo ≤ x) (h2 : x ≤ hi) (ho : offs[(x - lo).toNat]? = some off) (ht : (pc : Int) + off = (tgt : Int)) (k : V Γ M d mc ms Q X h bc bs tgt ls st) : V Γ M d mc ms Q X h bc bs pc ls (vi x :: st) := by
  intro p e R s m args below meth c H locs cells slots arr C S L
  exact lv_tableIn C.1 C.2.1 hd (by rw [I_toInt hx]; omega) (by rw [I_toInt hx]; omega) (by rw [I_toInt hx]; exact ho) ht (k p e R s m args below meth c H locs cells slots arr C S L)
theorem v_tableK {dflt lo hi off : Int} {offs : Array Int} {len tgt : Nat} {x : Int} (n : Int) (hd : decode M.2.1 pc = .ok (.tableswitch dflt lo hi offs, len)) (hx : InR n) (h1 : lo ≤ n) (h2 : n ≤ hi) (ho : offs[(n - lo).toNat]? = some off) (ht : (pc : Int) + off = (tgt : Int)) (k : V Γ M d mc ms Q X h bc bs tgt ls st) (e : x = n) : V Γ M d mc ms Q X h bc bs pc ls (vi x :: st) := by
  subst e
  exact v_tableIn hd hx h1 h2 ho ht k
theorem v_lookup {dflt x off : Int} {ps : Array (Int × Int)} {len tgt : Nat} (hd : decode M.2.1 pc = .ok (.lookupswitch dflt ps, len)) (hx : InR x) (hp : (ps.toList.zip (ps.toList.drop 1)).all (fun (a, next) => a.1 < next.1) = true) (ho : Op.lookupswitch.offset ps.toList dflt x = off) (ht : (pc : Int) + off = (tgt : Int)) (k : V Γ M d mc ms Q X h bc bs tgt ls st) : V Γ M d mc ms Q X h bc bs pc ls (vi x :: st) := by
  intro p e R s m args below meth c H locs cells slots arr C S L
  exact lv_lookup C.1 C.2.1 hd hp (by rw [I_toInt hx]; exact ho) ht (k p e R s m args below meth c H locs cells slots arr C S L)
/-- fewer locals known -/
theorem v_drop {ls' : Lcs} (hl : ls'.length ≤ ls.length) (hw : ∀ (i : Nat) (v : Value), ls'[i]? = some (some v) → ls[i]? = some (some v)) (k : V Γ M d mc ms Q X h bc bs pc ls' st) : V Γ M d mc ms Q X h bc bs pc ls st := by
  intro p e R s m args below meth c H locs cells slots arr C S L
  exact k p e R s m args below meth c H locs cells slots arr C S (L.drop hl hw)
/-- less to spend -/
theorem v_less {bc' bs' : Nat} (h1 : bc' ≤ bc) (h2 : bs' ≤ bs) (k : V Γ M d mc ms Q X h bc' bs' pc ls st) : V Γ M d mc ms Q X h bc bs pc ls st := by
  intro p e R s m args below meth c H locs cells slots arr C S L
  exact k p e R s m args below meth c H locs cells slots arr C ⟨S.1, S.2.1, by have := S.2.2.1; omega, by have := S.2.2.2; omega⟩ L
theorem v_eq {pc' : Nat} {ls' : Lcs} {st' : List Value} {h' : AH} (e1 : pc = pc') (e2 : ls = ls') (e3 : st = st') (e4 : h = h') (k : V Γ M d mc ms Q X h' bc bs pc' ls' st') : V Γ M d mc ms Q X h bc bs pc ls st := by
  subst e1; subst e2; subst e3; subst e4; exact k
end VR
