/-! ROWS OF LAYER V: new objects, ends of methods, calls, throws -/
set_option maxRecDepth 100000
section VN7
variable {Γ : Cx} {M : MI} {d mc ms : Nat} {Q : PQ} {X : PX} {h : AH} {bc bs pc : Nat} {ls : Lcs} {st : List Value}
theorem va_S.pushed {A : Nat → Prop} {H0 H H1 : Heap} {locs : List Loc} (h : va_S A H0 H locs) (z : H1.size = H.size + 1) (o1 : ∀ q, q < H.size → H1[q]? = H[q]?) : va_S A H0 H1 locs :=
  ⟨by rw [z]; exact Nat.le_succ_of_le h.1, fun q h1 h2 => (o1 q (Nat.lt_of_lt_of_le h1 h.1)).trans (h.2.1 q h1 h2), h.2.2⟩
theorem VC.base {p : Program} {R : Room} {s : State} {m : MethodId} {args : Array Value} {meth : Method} {c : Code} (C : VC Γ M d mc ms p R s m args meth c) {H : Heap} {locs : List Loc} (hS : va_S (Fr Γ) s.heap H locs) : Γ.2.1.heap.size ≤ H.size := Nat.le_trans C.gl.2.1 hS.1
/-- new: a cell with the tag tg, its fields at their defaults -/
theorem v_new {ci : Nat} {C : String} {T : u_T} {N : Nat} {ty : Nat → FieldType} (K : CK ci C T N ty) (tg : Nat) {idx : Nat} {l : List Value} (hd : decode M.2.1 pc = .ok (.new idx, 3)) (hl : Cond.classLink M.1 idx C ∈ lw_tbl) (hi : Cond.instantiable C N ∈ lw_tbl) (hin : Cond.initialized C ∈ lw_tbl)
    (e : (List.range N).map (fun k => defaultValue (ty k)) = l) (h1 : 1 ≤ bc) (h2 : N ≤ bs) (kk : ∀ a : Nat, h a = none → V Γ M d mc ms Q X (hset h a (tg, oF ci l)) (bc - 1) (bs - N) (pc + 3) ls (.ref a :: st)) : V Γ M d mc ms Q X h bc bs pc ls st := by
  subst e
  intro p e R s m args below meth c H locs cells slots arr Cx S L
  have hK := Cx.kn K
  have f1 := S.2.2.1
  have f2 := S.2.2.2
  refine W.newcK Cx.1 Cx.2.1 Cx.own (Cx.w hl rfl) (Cx.w hi rfl) (Cx.w hin rfl) rfl hd (by have := Cx.fr.2.2.1; omega) (by have := Cx.fr.2.2.2; omega) hK.2.1 rfl fun H1 kC hkC e1 z1 o1 => ?_
  refine kk H.size S.1.fresh p e R s m args below meth c H1 locs (cells + 1) (slots + N) arr Cx ⟨S.1.push ⟨_, K.1, ?_⟩ (Cx.base S.2.1) o1, S.2.1.pushed z1 o1, by omega, by omega⟩ L
  refine t_OB.to (u_born ty (Cx.ws K) (fun w hw => hw) hK hkC e1 K.2.2.1) fun k hk => ?_
  show defaultValue (ty k) = ((List.range N).map (fun k => defaultValue (ty k))).getD k .null
  rw [List.getD_eq_getElem?_getD, List.getElem?_map, List.getElem?_range hk]
  rfl
theorem v_newar {k : Nat} {ty : FieldType} (tg : Nat) {atype : ArrayType} {n : Int} (hd : decode M.2.1 pc = .ok (.newarray atype, 2)) (hty : newarray.typeOf atype = ty) (hT : tyz[k]? = some ty) (hw : Cond.arrayClass ty ∈ lw_tbl) (hn : 0 ≤ n ∧ n ≤ 60000000) (hc : componentBytes ty ≤ 8) (hRA : ∀ (U : State) (cA : ClassId), va_RA U cA ty → U.vm.findClass ("[" ++ ty.toString) = some cA)
    (h1 : 1 ≤ bc) (h2 : n.toNat ≤ bs) (kk : ∀ a : Nat, h a = none → V Γ M d mc ms Q X (hset h a (tg, oA k n.toNat (fun _ => defaultValue ty))) (bc - 1) (bs - n.toNat) (pc + 2) ls (.ref a :: st)) : V Γ M d mc ms Q X h bc bs pc ls (vi n :: st) := by
  intro p e R s m args below meth c H locs cells slots arr Cx S L
  have f1 := S.2.2.1
  have f2 := S.2.2.2
  have g1 := Cx.fr.2.2.1
  have g2 := Cx.fr.2.2.2
  have hn0 : ¬ Int32.ofInt n < 0 := by
    rw [I_zero, I_lt ⟨by omega, by omega⟩ ⟨by decide, by decide⟩]; omega
  have hcl : (Int32.ofInt n).toNatClampNeg = n.toNat := I_clamp hn.1 (by omega)
  subst hty
  have hb : n.toNat * componentBytes (newarray.typeOf atype) ≤ 536870912 := by
    have : n.toNat * componentBytes (newarray.typeOf atype) ≤ n.toNat * 8 := Nat.mul_le_mul_left _ hc
    omega
  refine va_newaK (h := H.size) Cx.1 Cx.2.1 (Cx.w hw rfl) rfl hd rfl hn0 hcl hb (by omega) (by omega) rfl fun H1 cA e1 z1 o1 hof hfc => ?_
  have hk := (Cx.gl.arr Cx.g hT).2
  have hcA : cA = Γ.2.2.2.1 k := Option.some.inj (hfc.symm.trans (hRA _ _ hk))
  refine kk H.size S.1.fresh p e R s m args below meth c H1 locs (cells + 1) (slots + n.toNat) arr Cx ⟨S.1.push ⟨_, e1, hcA, (fun z => by cases z), (fun q z => by cases z), arrV_size _ _ _, fun i hi => arrV_read _ _ hi⟩ (Cx.base S.2.1) o1, S.2.1.pushed z1 o1, by omega, by omega⟩ L
theorem RA_int (U : State) (cA : ClassId) (h : va_RA U cA .int) : U.vm.findClass ("[" ++ FieldType.int.toString) = some cA := h
theorem RA_byte (U : State) (cA : ClassId) (h : va_RA U cA .byte) : U.vm.findClass ("[" ++ FieldType.byte.toString) = some cA := h
theorem RA_bool (U : State) (cA : ClassId) (h : va_RA U cA .boolean) : U.vm.findClass ("[" ++ FieldType.boolean.toString) = some cA := h
theorem RA_long (U : State) (cA : ClassId) (h : va_RA U cA .long) : U.vm.findClass ("[" ++ FieldType.long.toString) = some cA := h
theorem RA_double (U : State) (cA : ClassId) (h : va_RA U cA .double) : U.vm.findClass ("[" ++ FieldType.double.toString) = some cA := h
theorem v_newI (tg : Nat) {n : Int} (hd : decode M.2.1 pc = .ok (.newarray .int, 2)) (hw : Cond.arrayClass .int ∈ lw_tbl) (hn : 0 ≤ n ∧ n ≤ 60000000) (h1 : 1 ≤ bc) (h2 : n.toNat ≤ bs) (kk : ∀ a : Nat, h a = none → V Γ M d mc ms Q X (hset h a (tg, oI n.toNat (fun _ => 0))) (bc - 1) (bs - n.toNat) (pc + 2) ls (.ref a :: st)) : V Γ M d mc ms Q X h bc bs pc ls (vi n :: st) :=
  v_newar (k := 0) (ty := .int) tg hd rfl rfl hw hn (by decide) RA_int h1 h2 kk
theorem v_newB (tg : Nat) {n : Int} (hd : decode M.2.1 pc = .ok (.newarray .byte, 2)) (hw : Cond.arrayClass .byte ∈ lw_tbl) (hn : 0 ≤ n ∧ n ≤ 60000000) (h1 : 1 ≤ bc) (h2 : n.toNat ≤ bs) (kk : ∀ a : Nat, h a = none → V Γ M d mc ms Q X (hset h a (tg, oB n.toNat (fun _ => 0))) (bc - 1) (bs - n.toNat) (pc + 2) ls (.ref a :: st)) : V Γ M d mc ms Q X h bc bs pc ls (vi n :: st) :=
  v_newar (k := 1) (ty := .byte) tg hd rfl rfl hw hn (by decide) RA_byte h1 h2 kk
theorem v_newZ (tg : Nat) {n : Int} (hd : decode M.2.1 pc = .ok (.newarray .boolean, 2)) (hw : Cond.arrayClass .boolean ∈ lw_tbl) (hn : 0 ≤ n ∧ n ≤ 60000000) (h1 : 1 ≤ bc) (h2 : n.toNat ≤ bs) (kk : ∀ a : Nat, h a = none → V Γ M d mc ms Q X (hset h a (tg, oZ n.toNat (fun _ => 0))) (bc - 1) (bs - n.toNat) (pc + 2) ls (.ref a :: st)) : V Γ M d mc ms Q X h bc bs pc ls (vi n :: st) :=
  v_newar (k := 2) (ty := .boolean) tg hd rfl rfl hw hn (by decide) RA_bool h1 h2 kk
theorem v_newL (tg : Nat) {n : Int} (hd : decode M.2.1 pc = .ok (.newarray .long, 2)) (hw : Cond.arrayClass .long ∈ lw_tbl) (hn : 0 ≤ n ∧ n ≤ 60000000) (h1 : 1 ≤ bc) (h2 : n.toNat ≤ bs) (kk : ∀ a : Nat, h a = none → V Γ M d mc ms Q X (hset h a (tg, oA 3 n.toNat (fun _ => .long 0))) (bc - 1) (bs - n.toNat) (pc + 2) ls (.ref a :: st)) : V Γ M d mc ms Q X h bc bs pc ls (vi n :: st) :=
  v_newar (k := 3) (ty := .long) tg hd rfl rfl hw hn (by decide) RA_long h1 h2 kk
theorem v_newD (tg : Nat) {n : Int} (hd : decode M.2.1 pc = .ok (.newarray .double, 2)) (hw : Cond.arrayClass .double ∈ lw_tbl) (hn : 0 ≤ n ∧ n ≤ 60000000) (h1 : 1 ≤ bc) (h2 : n.toNat ≤ bs) (kk : ∀ a : Nat, h a = none → V Γ M d mc ms Q X (hset h a (tg, oA 4 n.toNat (fun _ => .double 0))) (bc - 1) (bs - n.toNat) (pc + 2) ls (.ref a :: st)) : V Γ M d mc ms Q X h bc bs pc ls (vi n :: st) :=
  v_newar (k := 4) (ty := .double) tg hd rfl rfl hw hn (by decide) RA_double h1 h2 kk
/-- an array of references -/
theorem v_anew {k : Nat} {C : String} (tg : Nat) {idx : Nat} {n : Int} (hd : decode M.2.1 pc = .ok (.anewarray idx, 3)) (hT : tyz[k]? = some (.object C)) (hl : Cond.classLink M.1 idx C ∈ lw_tbl) (hw : Cond.arrayOver (.object C) ∈ lw_tbl) (hn : 0 ≤ n ∧ n ≤ 60000000)
    (h1 : 1 ≤ bc) (h2 : n.toNat ≤ bs) (kk : ∀ a : Nat, h a = none → V Γ M d mc ms Q X (hset h a (tg, oA k n.toNat (fun _ => .null))) (bc - 1) (bs - n.toNat) (pc + 3) ls (.ref a :: st)) : V Γ M d mc ms Q X h bc bs pc ls (vi n :: st) := by
  intro p e R s m args below meth c H locs cells slots arr Cx S L
  have f1 := S.2.2.1
  have f2 := S.2.2.2
  have g1 := Cx.fr.2.2.1
  have g2 := Cx.fr.2.2.2
  have hn0 : ¬ Int32.ofInt n < 0 := by
    rw [I_zero, I_lt ⟨by omega, by omega⟩ ⟨by decide, by decide⟩]; omega
  have hcl : (Int32.ofInt n).toNatClampNeg = n.toNat := I_clamp hn.1 (by omega)
  refine W.anew Cx.1 Cx.2.1 Cx.own (Cx.w hl rfl) (Cx.w hw rfl) rfl hd rfl hn0 (by rw [hcl]; omega) (by omega) (by rw [hcl]; omega) fun cA kA comp hfc hkA hkk hcomp => ?_
  rw [hcl]
  obtain ⟨kA', comp', r1, r2, r3, r4⟩ := (Cx.gl.arr Cx.g hT).2
  have hcA : cA = Γ.2.2.2.1 k := Option.some.inj (hfc.symm.trans r4)
  refine kk H.size S.1.fresh p e R s m args below meth c _ locs (cells + 1) (slots + n.toNat) arr Cx ⟨S.1.push ⟨_, Array.getElem?_push_size, hcA, (fun z => by cases z), (fun q z => by cases z), by simp, fun i hi => ?_⟩ (Cx.base S.2.1) (fun q hq => by rw [Array.getElem?_push, if_neg (Nat.ne_of_lt hq)]), S.2.1.pushed (Array.size_push _) (fun q hq => by rw [Array.getElem?_push, if_neg (Nat.ne_of_lt hq)]), by omega, by omega⟩ L
  have hi : i < n.toNat := hi
  simp [hi]
/-! ===== ends of methods ===== -/
theorem end_ok {s t : State} {args : Array Value} {H : Heap} {locs : List Loc} {cells slots : Nat} {v : Option Value} (S : VS Γ mc ms bc bs s h H locs cells slots) (hq : Q v h) (ht : t.heap = H) : QcOf Γ Q args s (.returned v) t :=
  ⟨⟨v, h, rfl, by rw [ht]; exact S.1, hq⟩, S.2.1.F ht⟩
theorem v_ret_i {ty : FieldType} {x : Int} (hd : decode M.2.1 pc = .ok (.ireturn, 1)) (hr : M.2.2.2.1 = some ty) (hn : narrow ty (vi x) = vi x) (hq : Q (some (vi x)) h) : V Γ M d mc ms Q X h bc bs pc ls [vi x] := by
  intro p e R s m args below meth c H locs cells slots arr Cx S L
  have hlocks : meth.locks = false := Cx.lk
  refine vx_ret (W.widen (k := mc) (n := ms) (by have := S.2.2.1; omega) (by have := S.2.2.2; omega) ?_)
  exact W.zret Cx.1 Cx.2.1 (Cx.2.2.1.trans hr) hn (fun t ht hW => end_ok S hq ht) S.2.1.2.2 hd
theorem v_ret_z0 (hd : decode M.2.1 pc = .ok (.ireturn, 1)) (hr : M.2.2.2.1 = some .boolean) (hq : Q (some (vi 0)) h) : V Γ M d mc ms Q X h bc bs pc ls [vi 0] := v_ret_i hd hr (by decide) hq
theorem v_ret_z1 (hd : decode M.2.1 pc = .ok (.ireturn, 1)) (hr : M.2.2.2.1 = some .boolean) (hq : Q (some (vi 1)) h) : V Γ M d mc ms Q X h bc bs pc ls [vi 1] := v_ret_i hd hr (by decide) hq
theorem v_ret_n {x : Int} (hd : decode M.2.1 pc = .ok (.ireturn, 1)) (hr : M.2.2.2.1 = some .int) (hq : Q (some (vi x)) h) : V Γ M d mc ms Q X h bc bs pc ls [vi x] := v_ret_i hd hr rfl hq
theorem v_ret_v (hd : decode M.2.1 pc = .ok (.return_, 1)) (hr : M.2.2.2.1 = none) (hq : Q none h) : V Γ M d mc ms Q X h bc bs pc ls [] := by
  intro p e R s m args below meth c H locs cells slots arr Cx S L
  have hlocks : meth.locks = false := Cx.lk
  refine vx_ret (W.widen (k := mc) (n := ms) (by have := S.2.2.1; omega) (by have := S.2.2.2; omega) ?_)
  exact W.vret Cx.1 Cx.2.1 (Cx.2.2.1.trans hr) (fun t ht hW => end_ok S hq ht) S.2.1.2.2 hd
theorem v_ret_a {rt : FieldType} {u : Value} (hd : decode M.2.1 pc = .ok (.areturn, 1)) (hr : M.2.2.2.1 = some rt) (hrt : (∃ n, rt = .object n) ∨ ∃ t, rt = .array t) (hu : u = .null ∨ ∃ a, u = .ref a) (hq : Q (some u) h) : V Γ M d mc ms Q X h bc bs pc ls [u] := by
  intro p e R s m args below meth c H locs cells slots arr Cx S L
  have hlocks : meth.locks = false := Cx.lk
  refine vx_ret (W.widen (k := mc) (n := ms) (by have := S.2.2.1; omega) (by have := S.2.2.2; omega) ?_)
  exact W.aret Cx.1 Cx.2.1 (Cx.2.2.1.trans hr) hrt hu (fun t ht hW => end_ok S hq ht) S.2.1.2.2 hd
theorem v_ret_r {n : String} {a : Nat} (hd : decode M.2.1 pc = .ok (.areturn, 1)) (hr : M.2.2.2.1 = some (.object n)) (hq : Q (some (.ref a)) h) : V Γ M d mc ms Q X h bc bs pc ls [.ref a] := v_ret_a hd hr (Or.inl ⟨_, rfl⟩) (Or.inr ⟨_, rfl⟩) hq
theorem v_ret_ra {n : FieldType} {a : Nat} (hd : decode M.2.1 pc = .ok (.areturn, 1)) (hr : M.2.2.2.1 = some (.array n)) (hq : Q (some (.ref a)) h) : V Γ M d mc ms Q X h bc bs pc ls [.ref a] := v_ret_a hd hr (Or.inr ⟨_, rfl⟩) (Or.inr ⟨_, rfl⟩) hq
theorem v_ret_null {n : String} (hd : decode M.2.1 pc = .ok (.areturn, 1)) (hr : M.2.2.2.1 = some (.object n)) (hq : Q (some .null) h) : V Γ M d mc ms Q X h bc bs pc ls [.null] := v_ret_a hd hr (Or.inl ⟨_, rfl⟩) (Or.inl rfl) hq
theorem v_ret_d {x : UInt64} (hd : decode M.2.1 pc = .ok (.dreturn, 1)) (hr : M.2.2.2.1 = some .double) (hq : Q (some (.double x)) h) : V Γ M d mc ms Q X h bc bs pc ls [.double x] := by
  intro p e R s m args below meth c H locs cells slots arr Cx S L
  have hlocks : meth.locks = false := Cx.lk
  refine vx_ret (W.widen (k := mc) (n := ms) (by have := S.2.2.1; omega) (by have := S.2.2.2; omega) ?_)
  exact W.dret Cx.1 Cx.2.1 (Cx.2.2.1.trans hr) (fun t ht hW => end_ok S hq ht) S.2.1.2.2 hd
theorem v_ret_f {x : UInt32} (hd : decode M.2.1 pc = .ok (.freturn, 1)) (hr : M.2.2.2.1 = some .float) (hq : Q (some (.float x)) h) : V Γ M d mc ms Q X h bc bs pc ls [.float x] := by
  intro p e R s m args below meth c H locs cells slots arr Cx S L
  have hlocks : meth.locks = false := Cx.lk
  refine vx_ret (W.widen (k := mc) (n := ms) (by have := S.2.2.1; omega) (by have := S.2.2.2; omega) ?_)
  exact W.fret Cx.1 Cx.2.1 (Cx.2.2.1.trans hr) (fun t ht hW => end_ok S hq ht) S.2.1.2.2 hd
/-! ===== calls ===== -/
/-- what a call row says: given how it goes on, returned or thrown, it goes on -/
def CR (Γ : Cx) (M : MI) (d mc ms : Nat) (Q : PQ) (X : PX) (h : AH) (bc bs pc : Nat) (ls : Lcs) (st0 st : List Value) (len mc' ms' : Nat) (Q' : PQ) (X' : PX) : Prop :=
  (∀ (v : Option Value) (h' : AH), Q' v h' → V Γ M d mc ms Q X h' (bc - mc') (bs - ms') (pc + len) ls (v.toList ++ st)) → (∀ (E : String) (q : Nat) (h' : AH), X' E q h' → VX Γ M d mc ms Q X h' (bc - mc') (bs - ms') pc ls E q) → V Γ M d mc ms Q X h bc bs pc ls st0
theorem cr_of {st0 : List Value} {mc' ms' : Nat} {Q' : PQ} {X' : PX} {av : Array Value}
    (hr : ∀ (p : Program) (e : Env) (R : Room) (s : State) (m : MethodId) (args : Array Value) (below : List Frame) (meth : Method) (c : Code) (H : Heap) (locs : List Loc) (cells slots : Nat) (arr : Array Slot),
      VC Γ M d mc ms p R s m args meth c → VS Γ mc ms bc bs s h H locs cells slots → VL M.2.2.1 arr ls →
      vx_Run p Γ.1 e R s m args below meth c H locs cells slots mc' ms' (F0 m pc arr st0) st (QcOf Γ Q' av) (XcOf Γ X') (Fr Γ))
    (hb : mc' ≤ bc ∧ ms' ≤ bs) : CR Γ M d mc ms Q X h bc bs pc ls st0 st 3 mc' ms' Q' X' := by
  intro kk kx p e R s m args below meth c H locs cells slots arr Cx S L
  have f1 := S.2.2.1
  have f2 := S.2.2.2
  intro T hT XS
  rcases hr p e R s m args below meth c H locs cells slots arr Cx S L T hT XS with ⟨v, st₀, t, T', L9, h0, X', hL, e1, e2, ⟨⟨v', h', hv, hR, hQ⟩, hF⟩, sp⟩ | ⟨q, st₀, t, T', L9, E, ce, h0, X', hL, e1, e2, ⟨⟨h', hR, hQ⟩, hF⟩, hce, hcv, hcl, sp⟩
  · cases hv
    obtain ⟨k1, k2, k3⟩ := vx_keep h0 e1 S.2.1 (fun q _ h => h) (fun q h => h) hL hF
    obtain ⟨t2, a1, b1⟩ := kk v h' hQ p e R s m args below meth c T'.heap (locs ++ L9) (cells + mc') (slots + ms') arr Cx ⟨by rw [e1]; exact hR, k3, by omega, by omega⟩ L T' rfl X'
    exact ⟨t2, sp t2 a1, b1⟩
  · obtain ⟨k1, k2, k3⟩ := vx_keep h0 e1 S.2.1 (fun q _ h => h) (fun q h => h) hL hF
    obtain ⟨t2, a1, b1⟩ := kx E q h' hQ p e R s m args below meth c T'.heap (locs ++ L9) (cells + mc') (slots + ms') arr ce st Cx ⟨by rw [e1]; exact hR, k3, by omega, by omega⟩ L (by rw [e1]; exact hce) hcv hcl T' rfl X'
    exact ⟨t2, sp.trans a1, b1⟩
theorem cr_of5 {st0 : List Value} {mc' ms' : Nat} {Q' : PQ} {X' : PX} {av : Array Value}
    (hr : ∀ (p : Program) (e : Env) (R : Room) (s : State) (m : MethodId) (args : Array Value) (below : List Frame) (meth : Method) (c : Code) (H : Heap) (locs : List Loc) (cells slots : Nat) (arr : Array Slot),
      VC Γ M d mc ms p R s m args meth c → VS Γ mc ms bc bs s h H locs cells slots → VL M.2.2.1 arr ls →
      vx_Run5 p Γ.1 e R s m args below meth c H locs cells slots mc' ms' (F0 m pc arr st0) st (QcOf Γ Q' av) (XcOf Γ X') (Fr Γ))
    (hb : mc' ≤ bc ∧ ms' ≤ bs) : CR Γ M d mc ms Q X h bc bs pc ls st0 st 5 mc' ms' Q' X' := by
  intro kk kx p e R s m args below meth c H locs cells slots arr Cx S L
  have f1 := S.2.2.1
  have f2 := S.2.2.2
  intro T hT XS
  rcases hr p e R s m args below meth c H locs cells slots arr Cx S L T hT XS with ⟨v, st₀, t, T', L9, h0, X', hL, e1, e2, ⟨⟨v', h', hv, hR, hQ⟩, hF⟩, sp⟩ | ⟨q, st₀, t, T', L9, E, ce, h0, X', hL, e1, e2, ⟨⟨h', hR, hQ⟩, hF⟩, hce, hcv, hcl, sp⟩
  · cases hv
    obtain ⟨k1, k2, k3⟩ := vx_keep h0 e1 S.2.1 (fun q _ h => h) (fun q h => h) hL hF
    obtain ⟨t2, a1, b1⟩ := kk v h' hQ p e R s m args below meth c T'.heap (locs ++ L9) (cells + mc') (slots + ms') arr Cx ⟨by rw [e1]; exact hR, k3, by omega, by omega⟩ L T' rfl X'
    exact ⟨t2, sp t2 a1, b1⟩
  · obtain ⟨k1, k2, k3⟩ := vx_keep h0 e1 S.2.1 (fun q _ h => h) (fun q h => h) hL hF
    obtain ⟨t2, a1, b1⟩ := kx E q h' hQ p e R s m args below meth c T'.heap (locs ++ L9) (cells + mc') (slots + ms') arr ce st Cx ⟨by rw [e1]; exact hR, k3, by omega, by omega⟩ L (by rw [e1]; exact hce) hcv hcl T' rfl X'
    exact ⟨t2, sp.trans a1, b1⟩
/-- the callee's facts, at a caller's state -/
theorem pcOf_at {p : Program} {R : Room} {s : State} {m : MethodId} {args : Array Value} {meth : Method} {c : Code} {H : Heap} {locs : List Loc} {cells slots : Nat} (Cx : VC Γ M d mc ms p R s m args meth c) (S : VS Γ mc ms bc bs s h H locs cells slots) (av : List Value) : ∀ U : State, U.heap = H → s.WarmedH U.vm → PcOf Γ av h av.toArray U :=
  fun U hU hW => ⟨rfl, Cx.gl.later S.2.1 hU hW, by rw [hU]; exact S.1⟩
theorem back_ws {y : MethodName} {M' : MI} {s : State} {args : Array Value} (hc : cdw y M' ∈ lw_tbl) (hts : ∀ w ∈ lw_tbl, tw w = true → w.before args s = true) (hG : GOK Γ) (hGl : Glob Γ s) : ∀ w ∈ [cdw y M'], ∀ (a' : Array Value) (U : State), s.WarmedH U.vm → w.before a' U = true := by
  intro w hw a' U hW
  rw [List.mem_singleton.mp hw]
  have ht : tw (cdw y M') = true := by
    unfold cdw
    split <;> rfl
  exact tw_at ht (State.WarmedH.trans hGl.1 hW) (hG.1 _ hc)
theorem run_hf {p : Program} {R : Room} {s : State} {m : MethodId} {args : Array Value} {meth : Method} {c : Code} {H : Heap} {locs : List Loc} {cells slots mc' ms' : Nat} (Cx : VC Γ M d mc ms p R s m args meth c) (S : VS Γ mc ms bc bs s h H locs cells slots) (hb : mc' ≤ bc ∧ ms' ≤ bs) : cells + mc' ≤ R.cells ∧ slots + ms' ≤ R.slots := by
  have f1 := S.2.2.1
  have f2 := S.2.2.2
  have g1 := Cx.fr.2.2.1
  have g2 := Cx.fr.2.2.2
  omega
theorem run_room {p : Program} {R : Room} {s : State} {m : MethodId} {args : Array Value} {meth : Method} {c : Code} {d' mc' ms' mx : Nat} (Cx : VC Γ M d mc ms p R s m args meth c) (hd : d' + 1 ≤ d) (hm : mx ≤ 45) : (roomOf d' mc' ms').frames + 1 ≤ R.frames ∧ 8 + (mx + 11) + (roomOf d' mc' ms').locals ≤ R.locals := by
  have g1 := Cx.fr.1
  have g2 := Cx.fr.2.1
  show d' + 1 ≤ R.frames ∧ 8 + (mx + 11) + (4096 + 64 * d') ≤ R.locals
  omega
theorem sig_len {y : MethodName} {n : Nat} (h2 : (parseMethodDescriptor y.desc).map (fun d => d.parameters.length) = some n) : ∀ sig, parseMethodDescriptor y.desc = some sig → n = sig.parameters.length := by
  intro sig h
  rw [h] at h2
  exact (Option.some.inj h2).symm
end VN7
