/-! MORE ROWS OF LAYER V (own): references stored, casts, Math, statics, strings, clones, copies, compares, throws -/
set_option maxRecDepth 100000
section VM2
variable {Γ : Cx} {M : MI} {d mc ms : Nat} {Q : PQ} {X : PX} {h : AH} {bc bs pc : Nat} {ls : Lcs} {st : List Value}
/-- a reference to an object of a class that fits, stored -/
theorem v_aast {a q t tq k n ci : Nat} {f : Nat → Value} {l : List Value} {i : Int} {E C : String} {T : u_T} {N : Nat} (hd : decode M.2.1 pc = .ok (.aastore, 1)) (hT : tyz[k]? = some (.object E)) (ha : h a = some (t, oA k n f)) (ht : t ≠ 1) (hi : 0 ≤ i ∧ i < n ∧ i ≤ 2147483647)
    (hq : h q = some (tq, oF ci l)) (hc : clz[ci]? = some (C, T, N)) (hs : C = E ∨ Cond.castable C E ∈ lw_tbl) (kk : V Γ M d mc ms Q X (hset h a (t, oA k n (ups f i.toNat (.ref q)))) bc bs (pc + 1) ls st) : V Γ M d mc ms Q X h bc bs pc ls (.ref q :: vi i :: .ref a :: st) := by
  intro p e R s m args below meth c H locs cells slots arr Cx S L
  obtain ⟨cell, q1, q2, q3, q4, q5, q6⟩ := S.1.ar ha
  obtain ⟨cv, g1, g2, g3, -⟩ := S.1.cls hq hc
  have hcls := (Cx.gl.kn Cx.g hc).2
  obtain ⟨kA, comp, k1, k2, k3, -⟩ := (Cx.gl.arr Cx.g hT).2
  obtain ⟨kE, hkE, -⟩ := Vm.findClass_spec k3
  obtain ⟨kC, hkC, -⟩ := hcls.2
  have hasg : s.vm.assignable (Γ.2.2.1.1 ci) comp = true := by
    rcases hs with rfl | hs
    · have e0 := Option.some.inj (k3.symm.trans hcls.1)
      rw [e0]
      exact va_assign hcls
    · obtain ⟨c0, t1, f1, f2, f3⟩ := Cond.castable_spec (Cx.w hs rfl)
      cases hcls.1.symm.trans f1
      cases k3.symm.trans f2
      exact f3
  have hb := (S.1 a _ ha).2 ht
  have hlt : (Int32.ofInt i).toNatClampNeg < cell.slots.size := by rw [I_clamp hi.1 hi.2.2, q5]; omega
  refine W.aast Cx.1 Cx.2.1 q1 q4 q3 (by rw [q2]; exact k1) k2 rfl hkE ⟨fun z => notOut hi (Or.inl z), hlt⟩ g1 (fun q z => by rw [g3] at z; cases z) (by rw [g2]; exact hkC) (by rw [g2]; exact hasg) rfl rfl hd fun H' e1 e2 e3 => ?_
  refine kk p e R s m args below meth c H' _ cells slots arr Cx ⟨S.1.set ?_ hb e3, S.2.1.put e2 e3 hb, S.2.2⟩ L
  have h9 := ar_set (k := k) e1 q2 q3 q4 q5 q6
  rw [I_clamp hi.1 hi.2.2] at h9
  exact h9
theorem v_aastN {a t k n : Nat} {f : Nat → Value} {i : Int} {E : String} (hd : decode M.2.1 pc = .ok (.aastore, 1)) (hT : tyz[k]? = some (.object E)) (ha : h a = some (t, oA k n f)) (ht : t ≠ 1) (hi : 0 ≤ i ∧ i < n ∧ i ≤ 2147483647)
    (kk : V Γ M d mc ms Q X (hset h a (t, oA k n (ups f i.toNat .null))) bc bs (pc + 1) ls st) : V Γ M d mc ms Q X h bc bs pc ls (.null :: vi i :: .ref a :: st) := by
  intro p e R s m args below meth c H locs cells slots arr Cx S L
  obtain ⟨cell, q1, q2, q3, q4, q5, q6⟩ := S.1.ar ha
  have hb := (S.1 a _ ha).2 ht
  refine va_WaastN Cx.1 Cx.2.1 q1 (Cx.arr hT q2 q4) q3 (by rw [q5]; exact notOut hi) rfl rfl hd fun H' e1 e2 e3 => ?_
  refine kk p e R s m args below meth c H' _ cells slots arr Cx ⟨S.1.set ?_ hb e3, S.2.1.put e2 e3 hb, S.2.2⟩ L
  have h9 := ar_set (k := k) e1 q2 q3 q4 q5 q6
  rw [I_clamp hi.1 hi.2.2] at h9
  exact h9
theorem oC_of {H : Heap} {s : State} {a t ci : Nat} {l : List Value} {C : String} {T : u_T} {N : Nat} (hR : Rel Γ h H) (hK : u_Kn s C T N (Γ.2.2.1.1 ci) (Γ.2.2.1.2 ci)) (ha : h a = some (t, oF ci l)) (hc : clz[ci]? = some (C, T, N)) : ∃ cell : Cell, H[a]? = some cell ∧ cell.vm.isStatics = false ∧ s.vm.findClass C = some cell.cls := by
  obtain ⟨cell, g1, g2, g3, -⟩ := hR.cls ha hc
  exact ⟨cell, g1, by rw [g3]; rfl, by rw [g2]; exact hK.2.1⟩
/-- a cast to the object's own class -/
theorem v_castS {a t ci idx : Nat} {l : List Value} {C : String} {T : u_T} {N : Nat} (hd : decode M.2.1 pc = .ok (.checkcast idx, 3)) (hl : Cond.classLink M.1 idx C ∈ lw_tbl) (ha : h a = some (t, oF ci l)) (hc : clz[ci]? = some (C, T, N)) (kk : V Γ M d mc ms Q X h bc bs (pc + 3) ls (.ref a :: st)) : V Γ M d mc ms Q X h bc bs pc ls (.ref a :: st) := by
  intro p e R s m args below meth c H locs cells slots arr Cx S L
  have hK := Cx.gl.kn Cx.g hc
  exact va_castS Cx.1 Cx.2.1 Cx.own (Cx.w hl rfl) hK.2 (oC_of S.1 hK ha hc) hd (kk p e R s m args below meth c H locs cells slots arr Cx S L)
/-- a cast to another class or interface -/
theorem v_castY {a t ci idx : Nat} {l : List Value} {C nm : String} {T : u_T} {N : Nat} (hd : decode M.2.1 pc = .ok (.checkcast idx, 3)) (hl : Cond.classLink M.1 idx nm ∈ lw_tbl) (hw : Cond.castable C nm ∈ lw_tbl) (ha : h a = some (t, oF ci l)) (hc : clz[ci]? = some (C, T, N)) (kk : V Γ M d mc ms Q X h bc bs (pc + 3) ls (.ref a :: st)) : V Γ M d mc ms Q X h bc bs pc ls (.ref a :: st) := by
  intro p e R s m args below meth c H locs cells slots arr Cx S L
  have hK := Cx.gl.kn Cx.g hc
  obtain ⟨cell, h1, h2, h3⟩ := oC_of S.1 hK ha hc
  obtain ⟨c0, t0, f1, f2, f3⟩ := Cond.castable_spec (Cx.w hw rfl)
  cases h3.symm.trans f1
  intro T' hT XS
  obtain ⟨vm', X', stp⟩ := XS.checkcastYes Cx.1 Cx.own (Cx.w hl rfl) (by rw [hT]; exact h1) h2 f2 f3 (g := F0 m pc arr (.ref a :: st)) rfl rfl (by rw [Cx.2.1]; exact hd)
  obtain ⟨t9, a1, b1⟩ := kk p e R s m args below meth c H locs cells slots arr Cx S L (T'.setVm vm') hT X'
  exact ⟨t9, stp t9 a1, b1⟩
/-- a cast of an array to its own class -/
theorem v_castA {a t k n idx : Nat} {f : Nat → Value} {ty : FieldType} {nm : String} (hd : decode M.2.1 pc = .ok (.checkcast idx, 3)) (hl : Cond.classLink M.1 idx nm ∈ lw_tbl) (hT : tyz[k]? = some ty) (ha : h a = some (t, oA k n f)) (hnm : ∀ (U : State) (cA : ClassId), va_RA U cA ty → U.vm.findClass nm = some cA) (kk : V Γ M d mc ms Q X h bc bs (pc + 3) ls (.ref a :: st)) : V Γ M d mc ms Q X h bc bs pc ls (.ref a :: st) := by
  intro p e R s m args below meth c H locs cells slots arr Cx S L
  obtain ⟨cell, q1, q2, q3, q4, q5, q6⟩ := S.1.ar ha
  have hf := hnm _ _ (Cx.gl.arr Cx.g hT).2
  intro T' hT' XS
  obtain ⟨vm', X', stp⟩ := XS.checkcastYes Cx.1 Cx.own (Cx.w hl rfl) (by rw [hT']; exact q1) (by cases hv : cell.vm <;> first | rfl | exact absurd hv (q4 _)) hf (by rw [q2]; exact va_asg _ _) (g := F0 m pc arr (.ref a :: st)) rfl rfl (by rw [Cx.2.1]; exact hd)
  obtain ⟨t9, a1, b1⟩ := kk p e R s m args below meth c H locs cells slots arr Cx S L (T'.setVm vm') hT' X'
  exact ⟨t9, stp t9 a1, b1⟩
theorem RA_obj (U : State) (cA : ClassId) (C : String) (h : va_RA U cA (.object C)) : U.vm.findClass ("[" ++ (FieldType.object C).toString) = some cA := by
  obtain ⟨_, _, -, -, -, r⟩ := h
  exact r
/-- Object.<init> -/
theorem v_objInit {a idx : Nat} (hd : decode M.2.1 pc = .ok (.invokespecial idx, 3)) (hl : Cond.methodLink M.1 idx Lib.objectInit ∈ lw_tbl) (hi : Cond.instanceMethod Lib.objectInit ∈ lw_tbl) (hc : Cond.code Lib.objectInit ⟨#[0xb1]⟩ 1 none ∈ lw_tbl) (hdp : 1 ≤ d) (hst : (st.map fun v => v.category).sum ≤ 8) (kk : V Γ M d mc ms Q X h bc bs (pc + 3) ls st) : V Γ M d mc ms Q X h bc bs pc ls (.ref a :: st) := by
  intro p e R s m args below meth c H locs cells slots arr Cx S L
  have g1 := Cx.fr.1
  have g2 := Cx.fr.2.1
  exact W.objInit Cx.1 Cx.2.1 Cx.own (Cx.w hl rfl) (Cx.w hi rfl) (Cx.w hc rfl) rfl (by show arr.size = _; rw [L.1, Cx.2.2.2.1]) rfl hd (by omega) (by show 2 * 0 + _ + 12 ≤ _; omega) (kk p e R s m args below meth c H locs cells slots arr Cx S L)
/-- Math.max, min, abs of ints -/
theorem v_mmax {x y : Int} {idx : Nat} (hd : decode M.2.1 pc = .ok (.invokestatic idx, 3)) (hl : Cond.methodLink M.1 idx Lib.Math.max.name ∈ lw_tbl) (hs : Cond.static Lib.Math.max.name ∈ lw_tbl) (hin : Cond.initialized "java/lang/Math" ∈ lw_tbl) (hc : Cond.code Lib.Math.max.name Lib.Math.max.code 2 (some .int) ∈ lw_tbl) (hdp : 1 ≤ d) (hst : (st.map fun v => v.category).sum ≤ 8) (hx : InR x) (hy : InR y)
    (kk : V Γ M d mc ms Q X h bc bs (pc + 3) ls (vi (if x < y then y else x) :: st)) : V Γ M d mc ms Q X h bc bs pc ls (vi y :: vi x :: st) := by
  intro p e R s m args below meth c H locs cells slots arr Cx S L
  have g1 := Cx.fr.1
  have g2 := Cx.fr.2.1
  have g3 := Cx.fr.2.2
  have f1 := S.2.2.1
  have f2 := S.2.2.2
  have e9 : Value.int (if Int32.ofInt x < Int32.ofInt y then Int32.ofInt y else Int32.ofInt x) = vi (if x < y then y else x) := by
    by_cases q : x < y
    · rw [if_pos q, if_pos ((I_lt hx hy).mpr q)]; rfl
    · rw [if_neg q, if_neg (fun z => q ((I_lt hx hy).mp z))]; rfl
  refine va_mmax Cx.1 Cx.2.1 (by rw [L.1, Cx.2.2.2.1]) Cx.own (Cx.w hl rfl) (Cx.w hs rfl) (Cx.w hin rfl) (Cx.w hc rfl) (by omega) (by omega) (by omega) (by omega) hd ?_
  rw [e9]
  exact kk p e R s m args below meth c H locs cells slots arr Cx S L
theorem v_mmin {x y : Int} {idx : Nat} (hd : decode M.2.1 pc = .ok (.invokestatic idx, 3)) (hl : Cond.methodLink M.1 idx Lib.Math.min.name ∈ lw_tbl) (hs : Cond.static Lib.Math.min.name ∈ lw_tbl) (hin : Cond.initialized "java/lang/Math" ∈ lw_tbl) (hc : Cond.code Lib.Math.min.name Lib.Math.min.code 2 (some .int) ∈ lw_tbl) (hdp : 1 ≤ d) (hst : (st.map fun v => v.category).sum ≤ 8) (hx : InR x) (hy : InR y)
    (kk : V Γ M d mc ms Q X h bc bs (pc + 3) ls (vi (if y < x then y else x) :: st)) : V Γ M d mc ms Q X h bc bs pc ls (vi y :: vi x :: st) := by
  intro p e R s m args below meth c H locs cells slots arr Cx S L
  have g1 := Cx.fr.1
  have g2 := Cx.fr.2.1
  have g3 := Cx.fr.2.2
  have f1 := S.2.2.1
  have f2 := S.2.2.2
  have e9 : Value.int (if Int32.ofInt y < Int32.ofInt x then Int32.ofInt y else Int32.ofInt x) = vi (if y < x then y else x) := by
    by_cases q : y < x
    · rw [if_pos q, if_pos ((I_lt hy hx).mpr q)]; rfl
    · rw [if_neg q, if_neg (fun z => q ((I_lt hy hx).mp z))]; rfl
  refine va_mmin Cx.1 Cx.2.1 (by rw [L.1, Cx.2.2.2.1]) Cx.own (Cx.w hl rfl) (Cx.w hs rfl) (Cx.w hin rfl) (Cx.w hc rfl) (by omega) (by omega) (by omega) (by omega) hd ?_
  rw [e9]
  exact kk p e R s m args below meth c H locs cells slots arr Cx S L
theorem v_mabs {x : Int} {idx : Nat} (hd : decode M.2.1 pc = .ok (.invokestatic idx, 3)) (hl : Cond.methodLink M.1 idx Lib.Math.abs.name ∈ lw_tbl) (hs : Cond.static Lib.Math.abs.name ∈ lw_tbl) (hin : Cond.initialized "java/lang/Math" ∈ lw_tbl) (hc : Cond.code Lib.Math.abs.name Lib.Math.abs.code 1 (some .int) ∈ lw_tbl) (hdp : 1 ≤ d) (hst : (st.map fun v => v.category).sum ≤ 8) (hx : InR x)
    (kk : V Γ M d mc ms Q X h bc bs (pc + 3) ls (vi (if x < 0 then -x else x) :: st)) : V Γ M d mc ms Q X h bc bs pc ls (vi x :: st) := by
  intro p e R s m args below meth c H locs cells slots arr Cx S L
  have g1 := Cx.fr.1
  have g2 := Cx.fr.2.1
  have g3 := Cx.fr.2.2
  have f1 := S.2.2.1
  have f2 := S.2.2.2
  have e9 : Value.int (if 0 ≤ Int32.ofInt x then Int32.ofInt x else 0 - Int32.ofInt x) = vi (if x < 0 then -x else x) := by
    have h0 : (0 ≤ Int32.ofInt x) ↔ 0 ≤ x := by rw [I_zero]; exact I_le ⟨by decide, by decide⟩ hx
    by_cases q : x < 0
    · rw [if_pos q, if_neg (fun z => by have := h0.mp z; omega)]
      unfold vi
      rw [I_zero, ← Int32.ofInt_sub]
      congr 2
      omega
    · rw [if_neg q, if_pos (h0.mpr (by omega))]; rfl
  refine va_mabs Cx.1 Cx.2.1 (by rw [L.1, Cx.2.2.2.1]) Cx.own (Cx.w hl rfl) (Cx.w hs rfl) (Cx.w hin rfl) (Cx.w hc rfl) (by omega) (by omega) (by omega) (by omega) hd ?_
  rw [e9]
  exact kk p e R s m args below meth c H locs cells slots arr Cx S L
theorem VC.kz {p : Program} {R : Room} {s : State} {m : MethodId} {args : Array Value} {meth : Method} {c : Code} (C : VC Γ M d mc ms p R s m args meth c) {i : Nat} {z : String × String × String × (Nat ⊕ Int)} (hz : kZ[i]? = some z) : va_Z z.1 z.2.1 z.2.2.1 (kV Γ z.2.2.2) (Fr Γ) s s.heap :=
  va_Z.moved C.gl.1.alike (va_Z.kept (C.g.2.2.2.2.1 i z hz) (fun a ha _ => C.gl.2.2 a ha))
/-- getstatic -/
theorem v_gets {idx : Nat} {ref C n ds : String} {u : Nat ⊕ Int} (i : Nat) (hd : decode M.2.1 pc = .ok (.getstatic idx, 3)) (hl : Cond.fieldLink M.1 idx ref n ds ∈ lw_tbl) (hs : ref = C ∨ Cond.sameField ref C n ds ∈ lw_tbl) (hz : kZ[i]? = some (C, n, ds, u)) (kk : V Γ M d mc ms Q X h bc bs (pc + 3) ls (kV Γ u :: st)) : V Γ M d mc ms Q X h bc bs pc ls st := by
  intro p e R s m args below meth c H locs cells slots arr Cx S L
  exact va_gets Cx.1 Cx.2.1 (Cx.kz hz) S.2.1 Cx.own (Cx.w hl rfl) (same_or (hs.imp id (fun z => Cx.w z rfl))) hd (kk p e R s m args below meth c H locs cells slots arr Cx S L)
theorem VC.ks {p : Program} {R : Room} {s : State} {m : MethodId} {args : Array Value} {meth : Method} {c : Code} (C : VC Γ M d mc ms p R s m args meth c) {j : Nat} {z : String × Nat × String} (hz : kS[j]? = some z) : vk_R z.1 z.2.1 z.2.2 (Γ.2.2.2.2.2 (20 + j)) s :=
  vk_R.warm C.gl.1 (C.g.2.2.2.2.2.1 j z hz)
/-- ldc of a string -/
theorem v_ldcS {idx : Nat} {tx : String} (j : Nat) (hd : decode M.2.1 pc = .ok (.ldc idx, 2)) (hz : kS[j]? = some (M.1, idx, tx)) (kk : V Γ M d mc ms Q X h bc bs (pc + 2) ls (.ref (Γ.2.2.2.2.2 (20 + j)) :: st)) : V Γ M d mc ms Q X h bc bs pc ls st := by
  intro p e R s m args below meth c H locs cells slots arr Cx S L
  exact va_ldcS Cx.1 Cx.2.1 Cx.own (Cx.ks hz) hd (kk p e R s m args below meth c H locs cells slots arr Cx S L)
/-- ints cloned -/
theorem v_cloneI (tg : Nat) {a t n idx : Nat} {g : Int → Int} (hd : decode M.2.1 pc = .ok (.invokevirtual idx, 3)) (hl : Cond.methodLink M.1 idx ⟨"[I", "clone", "()Ljava/lang/Object;"⟩ ∈ lw_tbl) (hsm : Cond.sameMethod "[I" "java/lang/Object" "clone" "()Ljava/lang/Object;" ∈ lw_tbl)
    (hnat : Cond.native ⟨"java/lang/Object", "clone", "()Ljava/lang/Object;"⟩ ∈ lw_tbl) (hinst : Cond.instanceMethod ⟨"java/lang/Object", "clone", "()Ljava/lang/Object;"⟩ ∈ lw_tbl) (hsel : Cond.selects "[I" ⟨"[I", "clone", "()Ljava/lang/Object;"⟩ ⟨"java/lang/Object", "clone", "()Ljava/lang/Object;"⟩ ∈ lw_tbl) (hcl : Cond.castable "[I" "java/lang/Cloneable" ∈ lw_tbl)
    (ha : h a = some (t, oI n g)) (hdp : 1 ≤ d) (hst : (st.map fun v => v.category).sum ≤ 8) (h1 : 1 ≤ bc) (h2 : n ≤ bs) (kk : ∀ q : Nat, h q = none → V Γ M d mc ms Q X (hset h q (tg, oI n g)) (bc - 1) (bs - n) (pc + 3) ls (.ref q :: st)) : V Γ M d mc ms Q X h bc bs pc ls (.ref a :: st) := by
  intro p e R s m args below meth c H locs cells slots arr Cx S L
  obtain ⟨cell, q1, q2, q3, q4, q5, q6⟩ := S.1.ar ha
  have g1 := Cx.fr.1
  have g2 := Cx.fr.2.1
  have g3 := Cx.fr.2.2
  have f1 := S.2.2.1
  have f2 := S.2.2.2
  obtain ⟨c0, t0', w1, w2, w3⟩ := Cond.castable_spec (Cx.w hcl rfl)
  have hfc : s.vm.findClass "[I" = some (Γ.2.2.2.1 0) := (Cx.gl.arr Cx.g (k := 0) (ty := .int) rfl).2
  cases hfc.symm.trans w1
  obtain ⟨-, kS, hkS, compS, hkindS⟩ := (Cx.gl.arr Cx.g (k := 0) (ty := .int) rfl).1 0 (fun _ => .null)
  intro T hT XS
  have hcellT : T.heap[a]? = some cell := by rw [hT]; exact q1
  obtain ⟨-, kA, hkA, comp, hkind⟩ := State.isArrayOf_alike XS.warmed.alike ((Cx.gl.arr Cx.g (k := 0) (ty := .int) rfl).1 0 (fun _ => .null))
  obtain ⟨vm', X', stp⟩ := XS.cloneArray Cx.1 Cx.own (Cx.w hl rfl) (Cx.w hsm rfl) (Cx.w hnat rfl) (Cx.w hinst rfl) (Cx.w hsel rfl) (a := a) (cell := cell) hcellT q4 q3 (by rw [q2]; exact hfc) w2 (by rw [q2]; exact w3)
    (fun i v hv => by
      rw [q2]
      have hk' : T.vm.classes[Γ.2.2.2.1 0]? = some kA := hkA
      have hi : i < cell.slots.size := (Array.getElem?_eq_some_iff.mp hv).1
      have hv2 := q6 i (by rw [← q5]; exact hi)
      rw [hv] at hv2
      cases hv2
      simp [State.fitsSlot, State.slotType?, hk', hkind, vi, fits])
    (g := F0 m pc arr (.ref a :: st)) rfl (by show arr.size = _; rw [L.1, Cx.2.2.2.1]) rfl (by rw [Cx.2.1]; exact hd) (by omega) (by show 2 * 0 + _ + 14 ≤ _; omega) (by omega) (by rw [q5]; omega) (hloader := by rw [q2]; exact Vm.clonesLoader_of_array hkS hkindS)
  generalize hcn : ({ cls := cell.cls, slots := cell.slots } : Cell) = cn at X' stp
  have n1 : cn.cls = Γ.2.2.2.1 0 := by rw [← hcn]; exact q2
  have n2 : cn.vm = .none := by rw [← hcn]
  have n3 : cn.slots = cell.slots := by rw [← hcn]
  rw [q5] at X'
  generalize hH1 : H.push cn = H1
  have z1 : H1.size = H.size + 1 := by rw [← hH1, Array.size_push]
  have e1 : H1[H.size]? = some cn := by rw [← hH1, Array.getElem?_push_size]
  have o1 : ∀ q : Nat, q < H.size → H1[q]? = H[q]? := fun q hq => by rw [← hH1, Array.getElem?_push, if_neg (Nat.ne_of_lt hq)]
  obtain ⟨t9, b1, b2⟩ := kk H.size S.1.fresh p e R s m args below meth c H1 locs (cells + 1) (slots + n) arr Cx ⟨S.1.push ⟨cn, e1, n1, (fun z => by rw [n2] at z; cases z), (fun q z => by rw [n2] at z; cases z), by rw [n3]; exact q5, fun i hi => by rw [n3]; exact q6 i hi⟩ (Cx.base S.2.1) o1, S.2.1.pushed z1 o1, by omega, by omega⟩ L ((T.setVm vm').pushCell cn) (by rw [← hH1, ← hT]; rfl) X'
  exact ⟨t9, stp t9 (by rw [← hT] at b1; exact b1), b2⟩
/-- arrays copied -/
def cpyA (f g : Nat → Value) (sp dp n : Nat) : Nat → Value := fun j => if dp ≤ j ∧ j < dp + n then f (j - dp + sp) else g j
theorem cp_ob {H : Heap} {a k n0 n1 : Nat} {f g : Nat → Value} {cs cd : Cell} {sp dp n : Nat} {sp' dp' n' : Int32} (q5 : cs.slots.size = n0) (q6 : ∀ i, i < n0 → cs.slots[i]? = some (f i)) (r1 : H[a]? = some cd) (r2 : cd.cls = Γ.2.2.2.1 k) (r3 : cd.vm ≠ .unknown) (r4 : ∀ q, cd.vm ≠ .statics q) (r5 : cd.slots.size = n1) (r6 : ∀ i, i < n1 → cd.slots[i]? = some (g i))
    (c1 : sp'.toNatClampNeg = sp) (c2 : dp'.toNatClampNeg = dp) (c3 : n'.toNatClampNeg = n) (hs : sp + n ≤ n0) (hd : dp + n ≤ n1) : obAt Γ a (H.setIfInBounds a (copied cs cd sp' dp' n')) (oA k n1 (cpyA f g sp dp n)) := by
  subst c1
  subst c2
  subst c3
  have hl9 : a < H.size := (Array.getElem?_eq_some_iff.mp r1).1
  obtain ⟨y1, y2, y3, -, -⟩ := Cell.storeRun_facts cd dp'.toNatClampNeg (cs.stretch sp'.toNatClampNeg n'.toNatClampNeg)
  refine ⟨_, by simp [Array.getElem?_setIfInBounds, hl9], y1.trans r2, fun z => r3 (y2.symm.trans z), fun q z => r4 q (y2.symm.trans z), y3.trans r5, fun i hi => ?_⟩
  have hi : i < n1 := hi
  rw [Cell.storeRun_get _ _ _ _ (by rw [Cell.stretch_length, r5]; omega), Cell.stretch_length]
  show _ = some (cpyA _ _ _ _ _ i)
  unfold cpyA
  by_cases hh : dp'.toNatClampNeg ≤ i ∧ i < dp'.toNatClampNeg + n'.toNatClampNeg
  · rw [if_pos hh, if_pos hh]
    show ((List.range n'.toNatClampNeg).map _)[i - dp'.toNatClampNeg]? = _
    rw [List.getElem?_map, List.getElem?_range (by omega)]
    show some (cs.slots.getD _ .null) = _
    rw [Array.getD_eq_getD_getElem?, q6 _ (by omega), Nat.add_comm]
    rfl
  · rw [if_neg hh, if_neg hh]
    exact r6 i hi
theorem v_copy {a0 a t0 t k n0 n1 idx : Nat} {f g : Nat → Value} {ty : FieldType} {sp dp n : Int} (hd : decode M.2.1 pc = .ok (.invokestatic idx, 3)) (hl : Cond.methodLink M.1 idx arraycopyName ∈ lw_tbl) (hnat : Cond.native arraycopyName ∈ lw_tbl) (hs : Cond.static arraycopyName ∈ lw_tbl) (hin : Cond.initialized "java/lang/System" ∈ lw_tbl) (hT : tyz[k]? = some ty)
    (ha0 : h a0 = some (t0, oA k n0 f)) (ha : h a = some (t, oA k n1 g)) (ht : t ≠ 1) (hn : 0 ≤ n ∧ 0 ≤ sp ∧ 0 ≤ dp ∧ sp + n ≤ n0 ∧ dp + n ≤ n1 ∧ sp + n ≤ 2147483647 ∧ dp + n ≤ 2147483647) (hr : refKind ty = false) (hfit : ∀ j, j < n0 → fits ty (f j) = true) (hnr : ∀ (U : State) (cl : ClassId) j, j < n0 → U.takes cl (f j)) (hdp : 1 ≤ d) (hst : (st.map fun v => v.category).sum ≤ 8)
    (kk : V Γ M d mc ms Q X (hset h a (t, oA k n1 (cpyA f g sp.toNat dp.toNat n.toNat))) bc bs (pc + 3) ls st) : V Γ M d mc ms Q X h bc bs pc ls (vi n :: vi dp :: .ref a :: vi sp :: .ref a0 :: st) := by
  intro p e R s m args below meth c H locs cells slots arr Cx S L
  obtain ⟨cs, q1, q2, q3, q4, q5, q6⟩ := S.1.ar ha0
  obtain ⟨cd, r1, r2, r3, r4, r5, r6⟩ := S.1.ar ha
  obtain ⟨hn1, hn2, hn3, hn4, hn5, hn6, hn7⟩ := hn
  have g1 := Cx.fr.1
  have g2 := Cx.fr.2.1
  have hb := (S.1 a _ ha).2 ht
  have c1 : (Int32.ofInt sp).toNatClampNeg = sp.toNat := I_clamp hn2 (by omega)
  have c2 : (Int32.ofInt dp).toNatClampNeg = dp.toNat := I_clamp hn3 (by omega)
  have c3 : (Int32.ofInt n).toNatClampNeg = n.toNat := I_clamp hn1 (by omega)
  have lz : ∀ z : Int, 0 ≤ z → z ≤ 2147483647 → ¬ Int32.ofInt z < 0 := fun z h0 h1 => by
    rw [I_zero, I_lt ⟨by omega, by omega⟩ ⟨by decide, by decide⟩]; omega
  obtain ⟨-, k0, hk0, cm0, hkk0⟩ := (Cx.gl.arr Cx.g hT).1 0 (fun _ => .null)
  intro T hT' XS
  have hk0' : s.vm.classes[Γ.2.2.2.1 k]? = some k0 := hk0
  obtain ⟨vm', X', stp⟩ := XS.arraycopy Cx.1 Cx.own (Cx.w hl rfl) (Cx.w hnat rfl) (Cx.w hs rfl) (Cx.w hin rfl) (src := a0) (dst := a) (cs := cs) (cd := cd) (srcPos := Int32.ofInt sp) (destPos := Int32.ofInt dp) (n := Int32.ofInt n) (by rw [hT']; exact q1) (by rw [hT']; exact r1)
    q4 r4 q3 r3 (by rw [q2]; exact hk0') (by rw [r2]; exact hk0') hkk0 hkk0 (by rw [hr]; simp) (lz _ hn2 (by omega)) (lz _ hn3 (by omega)) (lz _ hn1 (by omega))
    (by rw [I_toInt ⟨by omega, by omega⟩, I_toInt ⟨by omega, by omega⟩, q5]; omega)
    (by rw [I_toInt ⟨by omega, by omega⟩, I_toInt ⟨by omega, by omega⟩, r5]; omega)
    (fun vm₁ hal i hi => by
      rw [c3] at hi
      rw [c1, Array.getD_eq_getD_getElem?, q6 _ (by omega)]
      exact ⟨hfit _ (by omega), hnr _ _ _ (by omega)⟩)
    (g := F0 m pc arr (vi n :: vi dp :: .ref a :: vi sp :: .ref a0 :: st)) rfl (by show arr.size = _; rw [L.1, Cx.2.2.2.1]) (rest := st) rfl (by rw [Cx.2.1]; exact hd) (by omega) (by
      have : nativeFrameWords "java/lang/System" "arraycopy" 5 ≤ 1000 := by decide +kernel
      show 2 * 0 + _ + _ ≤ _
      omega)
  have hcp : obAt Γ a (H.setIfInBounds a (copied cs cd (Int32.ofInt sp) (Int32.ofInt dp) (Int32.ofInt n))) (oA k n1 (cpyA f g sp.toNat dp.toNat n.toNat)) := cp_ob q5 q6 r1 r2 r3 r4 r5 r6 c1 c2 c3 (by omega) (by omega)
  have oq : ∀ q : Nat, q ≠ a → (H.setIfInBounds a (copied cs cd (Int32.ofInt sp) (Int32.ofInt dp) (Int32.ofInt n)))[q]? = H[q]? := fun q hq => by simp [Array.getElem?_setIfInBounds, Ne.symm hq]
  obtain ⟨t9, b1, b2⟩ := kk p e R s m args below meth c (H.setIfInBounds a (copied cs cd (Int32.ofInt sp) (Int32.ofInt dp) (Int32.ofInt n))) (locs ++ _) cells slots arr Cx ⟨S.1.set hcp hb oq, ⟨by simp; exact S.2.1.1, fun q g1 g2 => by
      rw [oq q (fun e => g2 (by rw [e]; exact hb))]
      exact S.2.1.2.1 q g1 g2, fun q hq => by
      rcases List.mem_append.mp hq with h | h
      · exact S.2.1.2.2 q h
      · obtain ⟨z, -, hz⟩ := List.mem_map.mp h
        rw [← hz]
        exact hb⟩, S.2.2⟩ L ((T.setVm vm').setCell a (copied cs cd (Int32.ofInt sp) (Int32.ofInt dp) (Int32.ofInt n))) (by rw [← hT']; rfl) X'
  exact ⟨t9, stp t9 b1, b2⟩
/-- a cell's tag is but a name -/
theorem v_retag {a t : Nat} {o : Ob} (t' : Nat) (ha : h a = some (t, o)) (ht : t ≠ 1) (kk : V Γ M d mc ms Q X (hset h a (t', o)) bc bs pc ls st) : V Γ M d mc ms Q X h bc bs pc ls st := by
  intro p e R s m args below meth c H locs cells slots arr Cx S L
  exact kk p e R s m args below meth c H locs cells slots arr Cx ⟨S.1.set (S.1 a _ ha).1 ((S.1 a _ ha).2 ht) (fun q _ => rfl), S.2⟩ L
theorem v_lcmp {x y : Int64} (hd : decode M.2.1 pc = .ok (.lcmp, 1)) (kk : V Γ M d mc ms Q X h bc bs (pc + 1) ls (.int (lg_cmp x y) :: st)) : V Γ M d mc ms Q X h bc bs pc ls (.long y :: .long x :: st) := by
  intro p e R s m args below meth c H locs cells slots arr Cx S L
  exact W.lcmp Cx.1 Cx.2.1 hd (kk p e R s m args below meth c H locs cells slots arr Cx S L)
theorem v_acmp_eq {rx ry : Option Nat} {off : Int} {tgt : Nat} (hd : decode M.2.1 pc = .ok (.if_acmp .eq off, 3)) (ht : (pc : Int) + off = (tgt : Int)) (k1 : rx = ry → V Γ M d mc ms Q X h bc bs tgt ls st) (k2 : rx ≠ ry → V Γ M d mc ms Q X h bc bs (pc + 3) ls st) : V Γ M d mc ms Q X h bc bs pc ls (va_rf ry :: va_rf rx :: st) := by
  intro p e R s m args below meth c H locs cells slots arr Cx S L
  exact lv_acmp_eq Cx.1 Cx.2.1 hd ht (fun q => k1 q p e R s m args below meth c H locs cells slots arr Cx S L) (fun q => k2 q p e R s m args below meth c H locs cells slots arr Cx S L)
theorem v_acmp_ne {rx ry : Option Nat} {off : Int} {tgt : Nat} (hd : decode M.2.1 pc = .ok (.if_acmp .ne off, 3)) (ht : (pc : Int) + off = (tgt : Int)) (k1 : rx ≠ ry → V Γ M d mc ms Q X h bc bs tgt ls st) (k2 : rx = ry → V Γ M d mc ms Q X h bc bs (pc + 3) ls st) : V Γ M d mc ms Q X h bc bs pc ls (va_rf ry :: va_rf rx :: st) := by
  intro p e R s m args below meth c H locs cells slots arr Cx S L
  exact lv_acmp_ne Cx.1 Cx.2.1 hd ht (fun q => k1 q p e R s m args below meth c H locs cells slots arr Cx S L) (fun q => k2 q p e R s m args below meth c H locs cells slots arr Cx S L)
/-- the class object of arrays of objects -/
theorem v_ldcM {idx : Nat} (hd : decode M.2.1 pc = .ok (.ldc idx, 2)) (hl : Cond.classLink M.1 idx "[Ljava/lang/Object;" ∈ lw_tbl) (kk : V Γ M d mc ms Q X h bc bs (pc + 2) ls (.ref (Γ.2.2.2.2.2 10) :: st)) : V Γ M d mc ms Q X h bc bs pc ls st := by
  intro p e R s m args below meth c H locs cells slots arr Cx S L
  exact va_ldcM Cx.1 Cx.2.1 Cx.own (Cx.w hl rfl) (va_Mi.moved Cx.gl.1.alike Cx.g.2.2.2.2.2.2.2.2.2) hd (kk p e R s m args below meth c H locs cells slots arr Cx S L)
theorem v_getC {idx a t n : Nat} {f : Nat → Value} (hd : decode M.2.1 pc = .ok (.invokevirtual idx, 3)) (hl : Cond.methodLink M.1 idx ⟨"java/lang/Object", "getClass", "()Ljava/lang/Class;"⟩ ∈ lw_tbl) (hdc : Cond.declares ⟨"java/lang/Object", "getClass", "()Ljava/lang/Class;"⟩ ∈ lw_tbl)
    (hsel : Cond.selects "[Ljava/lang/Object;" ⟨"java/lang/Object", "getClass", "()Ljava/lang/Class;"⟩ ⟨"java/lang/Object", "getClass", "()Ljava/lang/Class;"⟩ ∈ lw_tbl) (hin : Cond.instanceMethod ⟨"java/lang/Object", "getClass", "()Ljava/lang/Class;"⟩ ∈ lw_tbl) (hnat : Cond.native ⟨"java/lang/Object", "getClass", "()Ljava/lang/Class;"⟩ ∈ lw_tbl)
    (ha : h a = some (t, oA 5 n f)) (hdp : 1 ≤ d) (hst : (st.map fun v => v.category).sum ≤ 8) (kk : V Γ M d mc ms Q X h bc bs (pc + 3) ls (.ref (Γ.2.2.2.2.2 10) :: st)) : V Γ M d mc ms Q X h bc bs pc ls (.ref a :: st) := by
  intro p e R s m args below meth c H locs cells slots arr Cx S L
  obtain ⟨cell, q1, q2, q3, q4, q5, q6⟩ := S.1.ar ha
  have g1 := Cx.fr.1
  have g2 := Cx.fr.2.1
  have hfc := RA_obj _ _ _ (Cx.gl.arr Cx.g (k := 5) (ty := .object "java/lang/Object") rfl).2
  exact va_getC Cx.1 Cx.2.1 (by rw [L.1, Cx.2.2.2.1]) Cx.own (Cx.w hl rfl) (Cx.w hdc rfl) (Cx.w hsel rfl) (Cx.w hin rfl) (Cx.w hnat rfl) (va_Mi.moved Cx.gl.1.alike Cx.g.2.2.2.2.2.2.2.2.2) ⟨cell, q1, by cases hv : cell.vm <;> first | rfl | exact absurd hv (q4 _), by rw [q2]; exact hfc⟩ (by omega) (by omega) hd (kk p e R s m args below meth c H locs cells slots arr Cx S L)
/-- references copied -/
theorem v_copyR {a0 a t0 t k n0 n1 idx : Nat} {f g : Nat → Value} {E : String} {sp dp n : Int} (hd : decode M.2.1 pc = .ok (.invokestatic idx, 3)) (hl : Cond.methodLink M.1 idx arraycopyName ∈ lw_tbl) (hnat : Cond.native arraycopyName ∈ lw_tbl) (hs : Cond.static arraycopyName ∈ lw_tbl) (hin : Cond.initialized "java/lang/System" ∈ lw_tbl) (hT : tyz[k]? = some (.object E))
    (ha0 : h a0 = some (t0, oA k n0 f)) (ha : h a = some (t, oA k n1 g)) (ht : t ≠ 1) (hn : 0 ≤ n ∧ 0 ≤ sp ∧ 0 ≤ dp ∧ sp + n ≤ n0 ∧ dp + n ≤ n1 ∧ sp + n ≤ 2147483647 ∧ dp + n ≤ 2147483647)
    (hel : ∀ j, j < n0 → f j = .null ∨ ∃ (y ty ci : Nat) (l : List Value) (C : String) (T : u_T) (N : Nat), f j = .ref y ∧ h y = some (ty, oF ci l) ∧ clz[ci]? = some (C, T, N) ∧ (C = E ∨ Cond.castable C E ∈ lw_tbl)) (hdp : 1 ≤ d) (hst : (st.map fun v => v.category).sum ≤ 8)
    (kk : V Γ M d mc ms Q X (hset h a (t, oA k n1 (cpyA f g sp.toNat dp.toNat n.toNat))) bc bs (pc + 3) ls st) : V Γ M d mc ms Q X h bc bs pc ls (vi n :: vi dp :: .ref a :: vi sp :: .ref a0 :: st) := by
  intro p e R s m args below meth c H locs cells slots arr Cx S L
  obtain ⟨cs, q1, q2, q3, q4, q5, q6⟩ := S.1.ar ha0
  obtain ⟨cd, r1, r2, r3, r4, r5, r6⟩ := S.1.ar ha
  obtain ⟨hn1, hn2, hn3, hn4, hn5, hn6, hn7⟩ := hn
  have g1 := Cx.fr.1
  have g2 := Cx.fr.2.1
  have hb := (S.1 a _ ha).2 ht
  have c1 : (Int32.ofInt sp).toNatClampNeg = sp.toNat := I_clamp hn2 (by omega)
  have c2 : (Int32.ofInt dp).toNatClampNeg = dp.toNat := I_clamp hn3 (by omega)
  have c3 : (Int32.ofInt n).toNatClampNeg = n.toNat := I_clamp hn1 (by omega)
  have lz : ∀ z : Int, 0 ≤ z → z ≤ 2147483647 → ¬ Int32.ofInt z < 0 := fun z h0 h1 => by
    rw [I_zero, I_lt ⟨by omega, by omega⟩ ⟨by decide, by decide⟩]; omega
  obtain ⟨-, k0, hk0, cm0, hkk0⟩ := (Cx.gl.arr Cx.g hT).1 0 (fun _ => .null)
  have hk0' : s.vm.classes[Γ.2.2.2.1 k]? = some k0 := hk0
  obtain ⟨kA, comp, w1, w2, w3, -⟩ := (Cx.gl.arr Cx.g hT).2
  cases hk0'.symm.trans w1
  cases hkk0.symm.trans w2
  intro T hT' XS
  obtain ⟨vm', X', stp⟩ := XS.arraycopy Cx.1 Cx.own (Cx.w hl rfl) (Cx.w hnat rfl) (Cx.w hs rfl) (Cx.w hin rfl) (src := a0) (dst := a) (cs := cs) (cd := cd) (srcPos := Int32.ofInt sp) (destPos := Int32.ofInt dp) (n := Int32.ofInt n) (by rw [hT']; exact q1) (by rw [hT']; exact r1)
    q4 r4 q3 r3 (by rw [q2]; exact hk0') (by rw [r2]; exact hk0') hkk0 hkk0 (by rfl) (lz _ hn2 (by omega)) (lz _ hn3 (by omega)) (lz _ hn1 (by omega))
    (by rw [I_toInt ⟨by omega, by omega⟩, I_toInt ⟨by omega, by omega⟩, q5]; omega)
    (by rw [I_toInt ⟨by omega, by omega⟩, I_toInt ⟨by omega, by omega⟩, r5]; omega)
    (fun vm₁ hal i hi => by
      rw [c3] at hi
      rw [c1, Array.getD_eq_getD_getElem?, q6 _ (by omega)]
      rcases hel (sp.toNat + i) (by omega) with z | ⟨y, ty, ci, l, C, Tt, N, z, hy, hc, hs⟩
      · show fits _ (f _) = true ∧ _
        rw [z]
        exact ⟨rfl, trivial⟩
      · show fits _ (f _) = true ∧ _
        rw [z]
        obtain ⟨cv, x1, x2, x3, -⟩ := S.1.cls hy hc
        have hcls := (Cx.gl.kn Cx.g hc).2
        obtain ⟨kC, hkC, -⟩ := hcls.2
        obtain ⟨kE, hkE, -⟩ := Vm.findClass_spec w3
        obtain ⟨kC', hkC', -⟩ := hal.2.2 _ _ hkC
        obtain ⟨kE', hkE', -⟩ := hal.2.2 _ _ hkE
        have hasg : s.vm.assignable (Γ.2.2.1.1 ci) cm0 = true := by
          rcases hs with rfl | hs
          · have e0 := Option.some.inj (w3.symm.trans hcls.1)
            rw [e0]
            exact va_assign hcls
          · obtain ⟨c0, t1, f1, f2, f3⟩ := Cond.castable_spec (Cx.w hs rfl)
            cases hcls.1.symm.trans f1
            cases w3.symm.trans f2
            exact f3
        refine ⟨rfl, cv, (show T.heap[y]? = some cv by rw [hT']; exact x1), (fun q z => by rw [x3] at z; cases z), ⟨kC', by rw [x2]; exact hkC'⟩, ⟨kE', hkE'⟩, ?_⟩
        show vm₁.assignable _ _ = true
        rw [hal.assignable, x2]
        exact hasg)
    (g := F0 m pc arr (vi n :: vi dp :: .ref a :: vi sp :: .ref a0 :: st)) rfl (by show arr.size = _; rw [L.1, Cx.2.2.2.1]) (rest := st) rfl (by rw [Cx.2.1]; exact hd) (by omega) (by
      have : nativeFrameWords "java/lang/System" "arraycopy" 5 ≤ 1000 := by decide +kernel
      show 2 * 0 + _ + _ ≤ _
      omega)
  have hcp : obAt Γ a (H.setIfInBounds a (copied cs cd (Int32.ofInt sp) (Int32.ofInt dp) (Int32.ofInt n))) (oA k n1 (cpyA f g sp.toNat dp.toNat n.toNat)) := cp_ob q5 q6 r1 r2 r3 r4 r5 r6 c1 c2 c3 (by omega) (by omega)
  have oq : ∀ q : Nat, q ≠ a → (H.setIfInBounds a (copied cs cd (Int32.ofInt sp) (Int32.ofInt dp) (Int32.ofInt n)))[q]? = H[q]? := fun q hq => by simp [Array.getElem?_setIfInBounds, Ne.symm hq]
  obtain ⟨t9, b1, b2⟩ := kk p e R s m args below meth c (H.setIfInBounds a (copied cs cd (Int32.ofInt sp) (Int32.ofInt dp) (Int32.ofInt n))) (locs ++ _) cells slots arr Cx ⟨S.1.set hcp hb oq, ⟨by simp; exact S.2.1.1, fun q g1 g2 => by
      rw [oq q (fun e => g2 (by rw [e]; exact hb))]
      exact S.2.1.2.1 q g1 g2, fun q hq => by
      rcases List.mem_append.mp hq with h | h
      · exact S.2.1.2.2 q h
      · obtain ⟨z, -, hz⟩ := List.mem_map.mp h
        rw [← hz]
        exact hb⟩, S.2.2⟩ L ((T.setVm vm').setCell a (copied cs cd (Int32.ofInt sp) (Int32.ofInt dp) (Int32.ofInt n))) (by rw [← hT']; rfl) X'
  exact ⟨t9, stp t9 b1, b2⟩
/-! ===== throws ===== -/
/-- no handler here: the method ends with it -/
theorem vx_xout {E : String} {q : Nat} (hout : M.2.2.2.2.2 = [] ∨ ∀ x ∈ tableOf M.2.2.2.2.2, covers x pc = false) (hx : X E q h) : VX Γ M d mc ms Q X h bc bs pc ls E q := by
  intro p e R s m args below meth c H locs cells slots arr ce rest Cx S L h1 h2 h3
  have ho : ∀ x ∈ c.exceptionTable.toList, covers x pc = false := by
    rw [Cx.tb]
    rcases hout with z | z
    · rw [z]; intro x hx; cases hx
    · exact z
  have f1 := S.2.2.1
  have f2 := S.2.2.2
  exact vx_out ho Cx.lk h1 h2 h3 (fun t ht hal => ⟨⟨h, by rw [ht]; exact S.1, hx⟩, S.2.1.F ht⟩) S.2.1.2.2 (by omega) (by omega)
/-- throw new E(text) -/
theorem v_throwS {cls : String} {names : List String} {ik is ic : Nat} {tx : String} (j : Nat) (hcls : Bundle.fit cls = true) (hnames : ∀ n ∈ names, Bundle.fit n = true) (hk : Cond.classLink M.1 ik cls ∈ lw_tbl) (hini : Cond.initialized cls ∈ lw_tbl) (hz : kS[j]? = some (M.1, is, tx))
    (hat : ∀ w ∈ vx_atS M.1 ic cls names, w ∈ lw_tbl ∧ tw w = true) (hgood : ∀ w ∈ Cond.classLink M.1 ik cls :: Cond.initialized cls :: vx_atS M.1 ic cls names, vx_ot w = true)
    (lU : Cond.laysStatic Bundle.tN "UNASSIGNED_STACK" Bundle.steD ∈ lw_tbl) (lN : Cond.laysStatic Bundle.tN "SUPPRESSED_SENTINEL" Bundle.listD ∈ lw_tbl) (iT : Cond.initialized Bundle.tN ∈ lw_tbl)
    (d0 : decode M.2.1 pc = .ok (.new ik, 3)) (d3 : decode M.2.1 (pc + 3) = .ok (.dup, 1)) (d4 : decode M.2.1 (pc + 4) = .ok (.ldc is, 2)) (d6 : decode M.2.1 (pc + 6) = .ok (.invokespecial ic, 3)) (d9 : decode M.2.1 (pc + 9) = .ok (.athrow, 1))
    (hout : M.2.2.2.2.2 = []) (hfr : names.length + 4 ≤ d ∧ names.length ≤ 20) (hst : (st.map fun v => v.category).sum ≤ 8) (h1 : 1 ≤ bc) (h2 : 6 ≤ bs) (hx : ∀ q, X cls q h) : V Γ M d mc ms Q X h bc bs pc ls st := by
  intro p e R s m args below meth c H locs cells slots arr Cx S L
  have g1 := Cx.fr.1
  have g2 := Cx.fr.2.1
  have g3 := Cx.fr.2.2
  have f1 := S.2.2.1
  have f2 := S.2.2.2
  have hA : ∀ a : Nat, a < Γ.2.1.heap.size → ¬ Fr Γ a := fun a ha z => absurd ha (Nat.not_lt.mpr z)
  have hU : vx_Zq Bundle.tN "UNASSIGNED_STACK" Bundle.steD (Fr Γ) s s.heap := vx_Zq.moved Cx.gl.1.alike (vx_Zq.kept (vx_Zqof (Cx.g.1 _ lU) (Cx.g.1 _ iT) Cx.g.2.2.2.2.2.2.2.1 hA) (fun a ha _ => Cx.gl.2.2 a ha))
  have hN : vx_Zq Bundle.tN "SUPPRESSED_SENTINEL" Bundle.listD (Fr Γ) s s.heap := vx_Zq.moved Cx.gl.1.alike (vx_Zq.kept (vx_Zqof (Cx.g.1 _ lN) (Cx.g.1 _ iT) Cx.g.2.2.2.2.2.2.2.2.1 hA) (fun a ha _ => Cx.gl.2.2 a ha))
  exact vx_throwS Cx.1 Cx.2.1 Cx.g.2.1 Cx.own hcls hnames (Cx.w hk rfl) (Cx.w hini rfl) (Cx.ks hz) (fun w hw => Cx.w (hat w hw).1 (hat w hw).2) hgood hU hN S.2.1 (by rw [L.1, Cx.2.2.2.1]) d0 d3 d4 d6 d9 (by rw [Cx.tb, hout]; intro x hx; cases hx) (by omega) (by omega) (by omega) (by omega) Cx.lk
    (fun t hal hsz hq => ⟨⟨h, fun a q hq9 => ⟨(S.1 a q hq9).1.kept (hq a (S.1.lt hq9)), (S.1 a q hq9).2⟩, hx _⟩, Nat.le_trans S.2.1.1 hsz, fun q h1 h2 => (hq q (Nat.lt_of_lt_of_le h1 S.2.1.1)).trans (S.2.1.2.1 q h1 h2)⟩) S.2.1.2.2 (by omega) (by omega)
end VM2
