/-! ROWS OF LAYER V over the heap: fields, arrays, new objects, ends of methods -/
set_option maxRecDepth 100000
/-- what is needed of a class, once a class: its place, its table -/
def CK (ci : Nat) (C : String) (T : u_T) (N : Nat) (ty : Nat → FieldType) : Prop :=
  clz[ci]? = some (C, T, N) ∧ (∀ w ∈ u_ws C T N, w ∈ lw_tbl) ∧ (∀ k, k < N → parseFieldDescriptor (T k).2.2.1 = some (ty k)) ∧ ∀ a, a < N → ∀ b, b < N → a ≠ b → (T a).2.1 ≠ (T b).2.1
theorem tw_ws {C : String} {T : u_T} {N : Nat} {w : Cond} (h : w ∈ u_ws C T N) : tw w = true := by
  obtain ⟨k, -, rfl⟩ := List.mem_map.mp h
  unfold u_lay
  split <;> rfl
def upi (g : Int → Int) (i x : Int) : Int → Int := fun j => if j = i then x else g j
theorem upi_s (g : Int → Int) (i x : Int) : upi g i x i = x := if_pos rfl
theorem upi_n {g : Int → Int} {i j : Int} {x : Int} (n : j ≠ i) : upi g i x j = g j := if_neg n
/-- arrays of numbers -/
def oI (n : Nat) (g : Int → Int) : Ob := oA 0 n (fun j => vi (g j))
def oB (n : Nat) (g : Int → Int) : Ob := oA 1 n (fun j => vi (g j))
def oZ (n : Nat) (g : Int → Int) : Ob := oA 2 n (fun j => vi (g j))
theorem ups_vi (g : Int → Int) (i x : Int) (h0 : 0 ≤ i) : ups (fun j : Nat => vi (g j)) i.toNat (vi x) = fun j : Nat => vi (upi g i x j) := by
  funext j
  by_cases e : (j : Int) = i
  · have e2 : j = i.toNat := by omega
    unfold ups
    rw [if_pos e2, e, upi_s]
  · have e2 : j ≠ i.toNat := by omega
    unfold ups
    rw [if_neg e2, upi_n e]
theorem vi_narB {x : Int} (h : -128 ≤ x ∧ x ≤ 127) : narrow .byte (vi x) = vi x := by
  show Value.int ((Int32.ofInt x).toInt8.toInt32) = Value.int (Int32.ofInt x)
  congr 1
  apply Int32.toInt_inj.mp
  rw [Int8.toInt_toInt32, Int32.toInt_toInt8, I_toInt ⟨by omega, by omega⟩]
  exact Int.bmod_eq_of_le (by omega) (by omega)
theorem vi_bmod (x : Int) : (Int32.ofInt x).toInt8.toInt32 = Int32.ofInt (x.bmod 256) := by
  apply Int32.toInt_inj.mp
  have h1 : -128 ≤ x.bmod 256 := Int.le_bmod (by decide)
  have h2 : x.bmod 256 < 128 := Int.bmod_lt (by decide)
  rw [Int8.toInt_toInt32, Int32.toInt_toInt8, I_toInt (e := x.bmod 256) ⟨by omega, by omega⟩, Int32.toInt_ofInt]
  exact Int.bmod_bmod_of_dvd (by decide)
theorem notOut {i : Int} {n : Nat} (hi : 0 ≤ i ∧ i < n ∧ i ≤ 2147483647) : ¬ (Int32.ofInt i < 0 ∨ n ≤ (Int32.ofInt i).toNatClampNeg) := by
  rw [I_clamp hi.1 hi.2.2]
  have h1 : ¬ Int32.ofInt i < 0 := by
    rw [I_zero, I_lt ⟨by omega, by omega⟩ ⟨by decide, by decide⟩]; omega
  intro h
  rcases h with h | h
  · exact h1 h
  · omega
section VH
variable {Γ : Cx} {M : MI} {d mc ms : Nat} {Q : PQ} {X : PX} {h : AH} {bc bs pc : Nat} {ls : Lcs} {st : List Value}
theorem VC.own {p : Program} {R : Room} {s : State} {m : MethodId} {args : Array Value} {meth : Method} {c : Code} (C : VC Γ M d mc ms p R s m args meth c) : s.vm.findClass M.1 = some m.cls := C.2.2.2.2.1
theorem VC.w {p : Program} {R : Room} {s : State} {m : MethodId} {args : Array Value} {meth : Method} {c : Code} (C : VC Γ M d mc ms p R s m args meth c) {w : Cond} (hw : w ∈ lw_tbl) (ht : tw w = true) : w.before args s = true := C.2.2.2.2.2.1 w hw ht
theorem VC.gl {p : Program} {R : Room} {s : State} {m : MethodId} {args : Array Value} {meth : Method} {c : Code} (C : VC Γ M d mc ms p R s m args meth c) : Glob Γ s := C.2.2.2.2.2.2.1
theorem VC.lk {p : Program} {R : Room} {s : State} {m : MethodId} {args : Array Value} {meth : Method} {c : Code} (C : VC Γ M d mc ms p R s m args meth c) : meth.locks = false := C.2.2.2.2.2.2.2.1
theorem VC.nm {p : Program} {R : Room} {s : State} {m : MethodId} {args : Array Value} {meth : Method} {c : Code} (C : VC Γ M d mc ms p R s m args meth c) : meth.name = M.2.2.2.2.1 := C.2.2.2.2.2.2.2.2.1
theorem VC.tb {p : Program} {R : Room} {s : State} {m : MethodId} {args : Array Value} {meth : Method} {c : Code} (C : VC Γ M d mc ms p R s m args meth c) : c.exceptionTable.toList = tableOf M.2.2.2.2.2 := C.2.2.2.2.2.2.2.2.2.1
theorem VC.g {p : Program} {R : Room} {s : State} {m : MethodId} {args : Array Value} {meth : Method} {c : Code} (C : VC Γ M d mc ms p R s m args meth c) : GOK Γ := C.2.2.2.2.2.2.2.2.2.2.1
theorem VC.fr {p : Program} {R : Room} {s : State} {m : MethodId} {args : Array Value} {meth : Method} {c : Code} (C : VC Γ M d mc ms p R s m args meth c) : d ≤ R.frames ∧ 4096 + 64 * d ≤ R.locals ∧ mc ≤ R.cells ∧ ms ≤ R.slots := C.2.2.2.2.2.2.2.2.2.2.2
/-- the class's facts at a method's start -/
theorem VC.kn {p : Program} {R : Room} {s : State} {m : MethodId} {args : Array Value} {meth : Method} {c : Code} (C : VC Γ M d mc ms p R s m args meth c) {ci : Nat} {Cn : String} {T : u_T} {N : Nat} {ty : Nat → FieldType} (K : CK ci Cn T N ty) : u_Kn s Cn T N (Γ.2.2.1.1 ci) (Γ.2.2.1.2 ci) := C.gl.kn C.g K.1
theorem VC.ws {p : Program} {R : Room} {s : State} {m : MethodId} {args : Array Value} {meth : Method} {c : Code} (C : VC Γ M d mc ms p R s m args meth c) {ci : Nat} {Cn : String} {T : u_T} {N : Nat} {ty : Nat → FieldType} (K : CK ci Cn T N ty) : ∀ w ∈ u_ws Cn T N, w.before args s = true := fun w hw => C.w (K.2.1 w hw) (tw_ws hw)
theorem VC.arr {p : Program} {R : Room} {s : State} {m : MethodId} {args : Array Value} {meth : Method} {c : Code} (C : VC Γ M d mc ms p R s m args meth c) {k : Nat} {ty : FieldType} (hc : tyz[k]? = some ty) {cell : Cell} (h1 : cell.cls = Γ.2.2.2.1 k) (h2 : ∀ q, cell.vm ≠ .statics q) : s.isArrayOf cell ty := by
  obtain ⟨-, hk⟩ := (C.gl.arr C.g hc).1 0 (fun _ => .null)
  exact ⟨h2, by rw [h1]; exact hk⟩
theorem Rel.cls {H : Heap} (hR : Rel Γ h H) {a t ci : Nat} {l : List Value} (ha : h a = some (t, oF ci l)) {Cn : String} {T : u_T} {N : Nat} (hc : clz[ci]? = some (Cn, T, N)) : t_OB a (Γ.2.2.1.1 ci) N (Γ.2.2.1.2 ci) H (fun k => l.getD k .null) := by
  obtain ⟨r, h1, h2⟩ := (hR a _ ha).1
  rw [hc] at h1
  cases h1
  exact h2
theorem Rel.ar {H : Heap} (hR : Rel Γ h H) {a t k n : Nat} {f : Nat → Value} (ha : h a = some (t, oA k n f)) : ∃ cell : Cell, H[a]? = some cell ∧ cell.cls = Γ.2.2.2.1 k ∧ cell.vm ≠ .unknown ∧ (∀ q, cell.vm ≠ .statics q) ∧ cell.slots.size = n ∧ ∀ i, i < n → cell.slots[i]? = some (f i) := (hR a _ ha).1
theorem same_or {args : Array Value} {s : State} {ref : String} {C n d' : String} (h1 : ref = C ∨ (Cond.sameField ref C n d').before args s = true) : ∀ x, s.fieldFound? C n d' = some x → s.fieldFound? ref n d' = some x := by
  rcases h1 with rfl | h1
  · exact fun x hx => hx
  · exact u_same h1
/-- getfield -/
theorem v_getf {ci : Nat} {C : String} {T : u_T} {N : Nat} {ty : Nat → FieldType} (K : CK ci C T N ty) (k : Nat) {idx a t : Nat} {ref : String} {l : List Value} {v : Value} (hd : decode M.2.1 pc = .ok (.getfield idx, 3)) (hl : Cond.fieldLink M.1 idx ref (T k).2.1 (T k).2.2.1 ∈ lw_tbl) (hs : ref = (T k).1 ∨ Cond.sameField ref (T k).1 (T k).2.1 (T k).2.2.1 ∈ lw_tbl) (hk : k < N)
    (ha : h a = some (t, oF ci l)) (hv : l[k]? = some v) (kk : V Γ M d mc ms Q X h bc bs (pc + 3) ls (v :: st)) : V Γ M d mc ms Q X h bc bs pc ls (.ref a :: st) := by
  intro p e R s m args below meth c H locs cells slots arr Cx S L
  obtain ⟨cell, q1, q2, q3, q4⟩ := S.1.cls ha K.1
  obtain ⟨hS, hfc, kC, hkC, hkind⟩ := Cx.kn K
  obtain ⟨cf, kf, fi, f, hi, hsl⟩ := hS k hk
  refine W.getf Cx.1 Cx.2.1 Cx.own (Cx.w hl rfl) (same_or (hs.imp id (fun z => Cx.w z rfl)) _ hi) (u_facts hfc hkC (u_lays (Cx.ws K) (fun w hw => hw) hk) hi).1 q1 (by rw [q3]; exact fun z => by cases z) (v := v) ?_ rfl rfl hd (kk p e R s m args below meth c H locs cells slots arr Cx S L)
  rw [hsl, q4 k hk]
  show some (l.getD k .null) = _
  rw [List.getD_eq_getElem?_getD, hv]
  rfl
theorem v_getfN {ci : Nat} {C : String} {T : u_T} {N : Nat} {ty : Nat → FieldType} (K : CK ci C T N ty) (k : Nat) {idx a t : Nat} {ref host : String} {l : List Value} {v : Value} (hd : decode M.2.1 pc = .ok (.getfield idx, 3)) (hl : Cond.fieldLinkNest M.1 idx ref (T k).2.1 (T k).2.2.1 host ∈ lw_tbl) (hs : ref = (T k).1 ∨ Cond.sameField ref (T k).1 (T k).2.1 (T k).2.2.1 ∈ lw_tbl) (hk : k < N)
    (ha : h a = some (t, oF ci l)) (hv : l[k]? = some v) (kk : V Γ M d mc ms Q X h bc bs (pc + 3) ls (v :: st)) : V Γ M d mc ms Q X h bc bs pc ls (.ref a :: st) := by
  intro p e R s m args below meth c H locs cells slots arr Cx S L
  obtain ⟨cell, q1, q2, q3, q4⟩ := S.1.cls ha K.1
  obtain ⟨hS, hfc, kC, hkC, hkind⟩ := Cx.kn K
  obtain ⟨cf, kf, fi, f, hi, hsl⟩ := hS k hk
  refine va_Wgetf Cx.1 Cx.2.1 Cx.own (Cx.w hl rfl) (same_or (hs.imp id (fun z => Cx.w z rfl)) _ hi) (u_facts hfc hkC (u_lays (Cx.ws K) (fun w hw => hw) hk) hi).1 q1 (by rw [q3]; exact fun z => by cases z) (v := v) ?_ rfl rfl hd (kk p e R s m args below meth c H locs cells slots arr Cx S L)
  rw [hsl, q4 k hk]
  show some (l.getD k .null) = _
  rw [List.getD_eq_getElem?_getD, hv]
  rfl
theorem fld_apart {args : Array Value} {s : State} {ci : Nat} {C : String} {T : u_T} {N : Nat} {ty : Nat → FieldType} (K : CK ci C T N ty) (hw : ∀ w ∈ u_ws C T N, w.before args s = true) {cC : ClassId} {iS : Nat → Nat} (hS : ∀ k, k < N → SlotIs s (T k).1 (T k).2.1 (T k).2.2.1 (iS k)) : ∀ x y, x < N → y < N → x ≠ y → iS x ≠ iS y := by
  intro x y hx hy hne
  obtain ⟨_, _, _, fa, hia, ea⟩ := hS x hx
  obtain ⟨_, _, _, fb, hib, eb⟩ := hS y hy
  rw [← ea, ← eb]
  refine u_apart (u_lays hw (fun w h => h) hx) (u_lays hw (fun w h => h) hy) hia hib ?_
  rw [(State.fieldFound?_type hia (K.2.2.1 x hx)).1, (State.fieldFound?_type hib (K.2.2.1 y hy)).1]
  exact K.2.2.2 x hx y hy hne
theorem ob_set {a ci k : Nat} {l : List Value} {v : Value} {H1 : Heap} {cell : Cell} {cC : ClassId} {N : Nat} {iS : Nat → Nat} (e1 : H1[a]? = some (cell.setSlot (iS k) v)) (q2 : cell.cls = cC) (q3 : cell.vm = .none) (q4 : ∀ k, k < N → cell.slots[iS k]? = some (l.getD k .null)) (hap : ∀ a b, a < N → b < N → a ≠ b → iS a ≠ iS b) (hk : k < N) (hkl : k < l.length) : t_OB a cC N iS H1 (fun j => (l.set k v).getD j .null) := by
  refine t_OB.to (V := updV (fun k => l.getD k .null) k v) ⟨_, e1, q2, q3, t_set q4 hap hk v⟩ (fun j _ => ?_)
  unfold updV
  by_cases e : j = k
  · subst e
    rw [if_pos rfl, List.getD_eq_getElem?_getD, List.getElem?_set_self hkl]
    rfl
  · rw [if_neg e, List.getD_eq_getElem?_getD, List.getElem?_set_ne (Ne.symm e)]
    show l.getD j .null = _
    rw [List.getD_eq_getElem?_getD]
/-- putfield, no final field -/
theorem v_putf {ci : Nat} {C : String} {T : u_T} {N : Nat} {ty : Nat → FieldType} (K : CK ci C T N ty) (k : Nat) {idx a t : Nat} {ref : String} {l l' : List Value} {v : Value} (hd : decode M.2.1 pc = .ok (.putfield idx, 3)) (hl : Cond.fieldLink M.1 idx ref (T k).2.1 (T k).2.2.1 ∈ lw_tbl) (hs : ref = (T k).1 ∨ Cond.sameField ref (T k).1 (T k).2.1 (T k).2.2.1 ∈ lw_tbl) (hk : k < N) (hfin : (T k).2.2.2 = false)
    (ha : h a = some (t, oF ci l)) (ht : t ≠ 1) (hkl : k < l.length) (hn : narrow (ty k) v = v) (hf : fits (ty k) v = true) (e : l.set k v = l') (kk : V Γ M d mc ms Q X (hset h a (t, oF ci l')) bc bs (pc + 3) ls st) : V Γ M d mc ms Q X h bc bs pc ls (v :: .ref a :: st) := by
  subst e
  intro p e R s m args below meth c H locs cells slots arr Cx S L
  obtain ⟨cell, q1, q2, q3, q4⟩ := S.1.cls ha K.1
  obtain ⟨hS, hfc, kC, hkC, hkind⟩ := Cx.kn K
  obtain ⟨cf, kf, fi, f, hi, hsl⟩ := hS k hk
  have hlay := Cx.ws K _ (u_in_lay hk)
  unfold u_lay at hlay
  rw [if_neg (by rw [hfin]; decide)] at hlay
  have hst := (u_facts hfc hkC (u_lays (Cx.ws K) (fun w hw => hw) hk) hi).1
  have h6 := u_store hfc hkC hkind hlay hi (K.2.2.1 k hk) hn hf
  have hb := (S.1 a _ ha).2 ht
  refine W.putK Cx.1 Cx.2.1 (f := f) ⟨Cx.own, Cx.w hl rfl, ⟨_, _, _, same_or (hs.imp id (fun z => Cx.w z rfl)) _ hi⟩, hst⟩ (by rw [q2]; exact h6) q1 q3 (by rw [hsl]; exact k2_hasslot (q4 k hk)) rfl rfl hd fun H' e1 e2 e3 => ?_
  rw [hsl] at e1 ⊢
  exact kk p e R s m args below meth c H' _ cells slots arr Cx ⟨S.1.set ⟨_, K.1, ob_set (ci := ci) e1 q2 q3 q4 (fld_apart (cC := Γ.2.2.1.1 ci) K (Cx.ws K) hS) hk hkl⟩ hb e3, S.2.1.put e2 e3 hb, S.2.2⟩ L
theorem v_putfN {ci : Nat} {C : String} {T : u_T} {N : Nat} {ty : Nat → FieldType} (K : CK ci C T N ty) (k : Nat) {idx a t : Nat} {ref host : String} {l l' : List Value} {v : Value} (hd : decode M.2.1 pc = .ok (.putfield idx, 3)) (hl : Cond.fieldLinkNest M.1 idx ref (T k).2.1 (T k).2.2.1 host ∈ lw_tbl) (hs : ref = (T k).1 ∨ Cond.sameField ref (T k).1 (T k).2.1 (T k).2.2.1 ∈ lw_tbl) (hk : k < N) (hfin : (T k).2.2.2 = false)
    (ha : h a = some (t, oF ci l)) (ht : t ≠ 1) (hkl : k < l.length) (hn : narrow (ty k) v = v) (hf : fits (ty k) v = true) (e : l.set k v = l') (kk : V Γ M d mc ms Q X (hset h a (t, oF ci l')) bc bs (pc + 3) ls st) : V Γ M d mc ms Q X h bc bs pc ls (v :: .ref a :: st) := by
  subst e
  intro p e R s m args below meth c H locs cells slots arr Cx S L
  obtain ⟨cell, q1, q2, q3, q4⟩ := S.1.cls ha K.1
  obtain ⟨hS, hfc, kC, hkC, hkind⟩ := Cx.kn K
  obtain ⟨cf, kf, fi, f, hi, hsl⟩ := hS k hk
  have hlay := Cx.ws K _ (u_in_lay hk)
  unfold u_lay at hlay
  rw [if_neg (by rw [hfin]; decide)] at hlay
  have hst := (u_facts hfc hkC (u_lays (Cx.ws K) (fun w hw => hw) hk) hi).1
  have h6 := u_store hfc hkC hkind hlay hi (K.2.2.1 k hk) hn hf
  have hb := (S.1 a _ ha).2 ht
  refine va_WputK Cx.1 Cx.2.1 (f := f) Cx.own (Cx.w hl rfl) (same_or (hs.imp id (fun z => Cx.w z rfl)) _ hi) hst (by rw [q2]; exact h6) q1 q3 (by rw [hsl]; exact k2_hasslot (q4 k hk)) rfl rfl hd fun H' e1 e2 e3 => ?_
  rw [hsl] at e1 ⊢
  exact kk p e R s m args below meth c H' _ cells slots arr Cx ⟨S.1.set ⟨_, K.1, ob_set (ci := ci) e1 q2 q3 q4 (fld_apart (cC := Γ.2.2.1.1 ci) K (Cx.ws K) hS) hk hkl⟩ hb e3, S.2.1.put e2 e3 hb, S.2.2⟩ L
/-- putfield of a final field, in a constructor of the class that declares it -/
theorem v_putfF {ci : Nat} {C : String} {T : u_T} {N : Nat} {ty : Nat → FieldType} (K : CK ci C T N ty) (k : Nat) {idx a t : Nat} {ref : String} {l l' : List Value} {v : Value} (hd : decode M.2.1 pc = .ok (.putfield idx, 3)) (hl : Cond.fieldLink M.1 idx ref (T k).2.1 (T k).2.2.1 ∈ lw_tbl) (hs : ref = (T k).1 ∨ Cond.sameField ref (T k).1 (T k).2.1 (T k).2.2.1 ∈ lw_tbl) (hk : k < N) (hfin : (T k).2.2.2 = true) (hin : M.2.2.2.2.1 = "<init>") (hdecl : (T k).1 = M.1)
    (ha : h a = some (t, oF ci l)) (ht : t ≠ 1) (hkl : k < l.length) (hn : narrow (ty k) v = v) (hf : fits (ty k) v = true) (e : l.set k v = l') (kk : V Γ M d mc ms Q X (hset h a (t, oF ci l')) bc bs (pc + 3) ls st) : V Γ M d mc ms Q X h bc bs pc ls (v :: .ref a :: st) := by
  subst e
  intro p e R s m args below meth c H locs cells slots arr Cx S L
  obtain ⟨cell, q1, q2, q3, q4⟩ := S.1.cls ha K.1
  obtain ⟨hS, hfc, kC, hkC, hkind⟩ := Cx.kn K
  obtain ⟨cf, kf, fi, f, hi, hsl⟩ := hS k hk
  have hlay := Cx.ws K _ (u_in_lay hk)
  unfold u_lay at hlay
  rw [if_pos hfin] at hlay
  have hst := (u_facts hfc hkC (u_lays (Cx.ws K) (fun w hw => hw) hk) hi).1
  have hcf : m.cls = cf := by
    obtain ⟨_, _, c', _, _, _, -, -, hf', -, -, -, hown2, -⟩ := Cond.laysFinal_spec hlay
    have e1 : c' = cf := by have := hi.symm.trans hf'; simp at this; exact this.1.symm
    rw [hdecl] at hown2
    rw [← e1]; exact Option.some.inj (Cx.own.symm.trans hown2)
  have h6 := u_fits hfc hkC hkind (Or.inr hlay) hi (K.2.2.1 k hk) hn hf
  have hb := (S.1 a _ ha).2 ht
  refine W.putFinK Cx.1 Cx.2.1 Cx.own (Cx.w hl rfl) (same_or (hs.imp id (fun z => Cx.w z rfl)) _ hi) hst hcf (Cx.nm.trans hin) (by rw [q2]; exact h6) q1 q3 (by rw [hsl]; exact k2_hasslot (q4 k hk)) rfl rfl hd fun H' e1 e2 e3 => ?_
  rw [hsl] at e1 ⊢
  exact kk p e R s m args below meth c H' _ cells slots arr Cx ⟨S.1.set ⟨_, K.1, ob_set (ci := ci) e1 q2 q3 q4 (fld_apart (cC := Γ.2.2.1.1 ci) K (Cx.ws K) hS) hk hkl⟩ hb e3, S.2.1.put e2 e3 hb, S.2.2⟩ L
/-! ===== arrays ===== -/
theorem v_alen {a t k n : Nat} {f : Nat → Value} {ty : FieldType} (hd : decode M.2.1 pc = .ok (.arraylength, 1)) (hT : tyz[k]? = some ty) (ha : h a = some (t, oA k n f)) (kk : V Γ M d mc ms Q X h bc bs (pc + 1) ls (vi n :: st)) : V Γ M d mc ms Q X h bc bs pc ls (.ref a :: st) := by
  intro p e R s m args below meth c H locs cells slots arr Cx S L
  obtain ⟨cell, q1, q2, q3, q4, q5, q6⟩ := S.1.ar ha
  exact W.alen Cx.1 Cx.2.1 q1 (Cx.arr hT q2 q4) (n := Int32.ofInt n) (by rw [q5]; exact Int32.ofInt_eq_ofNat.symm) rfl rfl hd (kk p e R s m args below meth c H locs cells slots arr Cx S L)
theorem v_iald {a t n : Nat} {g : Int → Int} {i : Int} (hd : decode M.2.1 pc = .ok (.iaload, 1)) (ha : h a = some (t, oI n g)) (hi : 0 ≤ i ∧ i < n ∧ i ≤ 2147483647) (kk : V Γ M d mc ms Q X h bc bs (pc + 1) ls (vi (g i) :: st)) : V Γ M d mc ms Q X h bc bs pc ls (vi i :: .ref a :: st) := by
  intro p e R s m args below meth c H locs cells slots arr Cx S L
  obtain ⟨cell, q1, q2, q3, q4, q5, q6⟩ := S.1.ar ha
  refine W.iald Cx.1 Cx.2.1 q1 (Cx.arr (k := 0) rfl q2 q4) q3 (by rw [q5]; exact notOut hi) (v := vi (g i)) ?_ rfl rfl hd (kk p e R s m args below meth c H locs cells slots arr Cx S L)
  rw [I_clamp hi.1 hi.2.2, q6 _ (by omega), Int.toNat_of_nonneg hi.1]
theorem v_bald {a t n : Nat} {g : Int → Int} {i : Int} (hd : decode M.2.1 pc = .ok (.baload, 1)) (ha : h a = some (t, oB n g)) (hi : 0 ≤ i ∧ i < n ∧ i ≤ 2147483647) (kk : V Γ M d mc ms Q X h bc bs (pc + 1) ls (vi (g i) :: st)) : V Γ M d mc ms Q X h bc bs pc ls (vi i :: .ref a :: st) := by
  intro p e R s m args below meth c H locs cells slots arr Cx S L
  obtain ⟨cell, q1, q2, q3, q4, q5, q6⟩ := S.1.ar ha
  refine W.bald Cx.1 Cx.2.1 q1 (Cx.arr (k := 1) rfl q2 q4) q3 (by rw [q5]; exact notOut hi) (v := vi (g i)) ?_ rfl rfl hd (kk p e R s m args below meth c H locs cells slots arr Cx S L)
  rw [I_clamp hi.1 hi.2.2, q6 _ (by omega), Int.toNat_of_nonneg hi.1]
theorem v_zald {a t n : Nat} {g : Int → Int} {i : Int} (hd : decode M.2.1 pc = .ok (.baload, 1)) (ha : h a = some (t, oZ n g)) (hi : 0 ≤ i ∧ i < n ∧ i ≤ 2147483647) (kk : V Γ M d mc ms Q X h bc bs (pc + 1) ls (vi (g i) :: st)) : V Γ M d mc ms Q X h bc bs pc ls (vi i :: .ref a :: st) := by
  intro p e R s m args below meth c H locs cells slots arr Cx S L
  obtain ⟨cell, q1, q2, q3, q4, q5, q6⟩ := S.1.ar ha
  refine W.zald Cx.1 Cx.2.1 q1 (Cx.arr (k := 2) rfl q2 q4) q3 (by rw [q5]; exact notOut hi) (v := vi (g i)) ?_ rfl rfl hd (kk p e R s m args below meth c H locs cells slots arr Cx S L)
  rw [I_clamp hi.1 hi.2.2, q6 _ (by omega), Int.toNat_of_nonneg hi.1]
theorem v_lald {a t n : Nat} {f : Nat → Value} {v : Value} {i : Int} (hd : decode M.2.1 pc = .ok (.laload, 1)) (ha : h a = some (t, oA 3 n f)) (hi : 0 ≤ i ∧ i < n ∧ i ≤ 2147483647) (hv : f i.toNat = v) (kk : V Γ M d mc ms Q X h bc bs (pc + 1) ls (v :: st)) : V Γ M d mc ms Q X h bc bs pc ls (vi i :: .ref a :: st) := by
  intro p e R s m args below meth c H locs cells slots arr Cx S L
  obtain ⟨cell, q1, q2, q3, q4, q5, q6⟩ := S.1.ar ha
  refine W.lald Cx.1 Cx.2.1 q1 (Cx.arr (k := 3) rfl q2 q4) q3 (by rw [q5]; exact notOut hi) (v := v) ?_ rfl rfl hd (kk p e R s m args below meth c H locs cells slots arr Cx S L)
  rw [I_clamp hi.1 hi.2.2, q6 _ (by omega), hv]
theorem v_dald {a t n : Nat} {f : Nat → Value} {v : Value} {i : Int} (hd : decode M.2.1 pc = .ok (.daload, 1)) (ha : h a = some (t, oA 4 n f)) (hi : 0 ≤ i ∧ i < n ∧ i ≤ 2147483647) (hv : f i.toNat = v) (kk : V Γ M d mc ms Q X h bc bs (pc + 1) ls (v :: st)) : V Γ M d mc ms Q X h bc bs pc ls (vi i :: .ref a :: st) := by
  intro p e R s m args below meth c H locs cells slots arr Cx S L
  obtain ⟨cell, q1, q2, q3, q4, q5, q6⟩ := S.1.ar ha
  refine W.dald Cx.1 Cx.2.1 q1 (Cx.arr (k := 4) rfl q2 q4) q3 (by rw [q5]; exact notOut hi) (v := v) ?_ rfl rfl hd (kk p e R s m args below meth c H locs cells slots arr Cx S L)
  rw [I_clamp hi.1 hi.2.2, q6 _ (by omega), hv]
theorem v_aald {a t n k : Nat} {f : Nat → Value} {v : Value} {i : Int} {E : String} (hd : decode M.2.1 pc = .ok (.aaload, 1)) (hT : tyz[k]? = some (.object E)) (ha : h a = some (t, oA k n f)) (hi : 0 ≤ i ∧ i < n ∧ i ≤ 2147483647) (hv : f i.toNat = v) (kk : V Γ M d mc ms Q X h bc bs (pc + 1) ls (v :: st)) : V Γ M d mc ms Q X h bc bs pc ls (vi i :: .ref a :: st) := by
  intro p e R s m args below meth c H locs cells slots arr Cx S L
  obtain ⟨cell, q1, q2, q3, q4, q5, q6⟩ := S.1.ar ha
  refine W.aald Cx.1 Cx.2.1 q1 (Cx.arr hT q2 q4) rfl q3 (by rw [q5]; exact notOut hi) (v := v) ?_ rfl rfl hd (kk p e R s m args below meth c H locs cells slots arr Cx S L)
  rw [I_clamp hi.1 hi.2.2, q6 _ (by omega), hv]
theorem ar_set {H1 : Heap} {a k n j : Nat} {f : Nat → Value} {v : Value} {cell : Cell} (e1 : H1[a]? = some (cell.setSlot j v)) (q2 : cell.cls = Γ.2.2.2.1 k) (q3 : cell.vm ≠ .unknown) (q4 : ∀ q, cell.vm ≠ .statics q) (q5 : cell.slots.size = n) (q6 : ∀ i, i < n → cell.slots[i]? = some (f i)) : obAt Γ a H1 (oA k n (ups f j v)) := by
  refine ⟨_, e1, q2, q3, q4, by rw [k2_slotsz]; exact q5, fun i hi => ?_⟩
  show (cell.slots.setIfInBounds j v)[i]? = _
  have hi : i < n := hi
  rw [Array.getElem?_setIfInBounds]
  by_cases e : j = i
  · subst e
    rw [if_pos rfl, if_pos (by rw [q5]; exact hi)]
    exact congrArg some (if_pos rfl).symm
  · rw [if_neg e, q6 i hi]
    exact congrArg some (if_neg (Ne.symm e)).symm
theorem v_iast {a t n : Nat} {g : Int → Int} {i x : Int} (hd : decode M.2.1 pc = .ok (.iastore, 1)) (ha : h a = some (t, oI n g)) (ht : t ≠ 1) (hi : 0 ≤ i ∧ i < n ∧ i ≤ 2147483647) (kk : V Γ M d mc ms Q X (hset h a (t, oI n (upi g i x))) bc bs (pc + 1) ls st) : V Γ M d mc ms Q X h bc bs pc ls (vi x :: vi i :: .ref a :: st) := by
  intro p e R s m args below meth c H locs cells slots arr Cx S L
  obtain ⟨cell, q1, q2, q3, q4, q5, q6⟩ := S.1.ar ha
  have hb := (S.1 a _ ha).2 ht
  refine W.iast Cx.1 Cx.2.1 q1 (Cx.arr (k := 0) rfl q2 q4) q3 (by rw [q5]; exact notOut hi) rfl rfl hd fun H' e1 e2 e3 => ?_
  refine kk p e R s m args below meth c H' _ cells slots arr Cx ⟨S.1.set ?_ hb e3, S.2.1.put e2 e3 hb, S.2.2⟩ L
  have h9 := ar_set (k := 0) e1 q2 q3 q4 q5 q6
  rw [I_clamp hi.1 hi.2.2] at h9
  show obAt Γ a H' (oA 0 n (fun j => vi (upi g i x j)))
  rw [← ups_vi g i x hi.1]
  exact h9
theorem v_bast {a t n : Nat} {g : Int → Int} {i x : Int} (hd : decode M.2.1 pc = .ok (.bastore, 1)) (ha : h a = some (t, oB n g)) (ht : t ≠ 1) (hi : 0 ≤ i ∧ i < n ∧ i ≤ 2147483647) (hx : -128 ≤ x ∧ x ≤ 127) (kk : V Γ M d mc ms Q X (hset h a (t, oB n (upi g i x))) bc bs (pc + 1) ls st) : V Γ M d mc ms Q X h bc bs pc ls (vi x :: vi i :: .ref a :: st) := by
  intro p e R s m args below meth c H locs cells slots arr Cx S L
  obtain ⟨cell, q1, q2, q3, q4, q5, q6⟩ := S.1.ar ha
  have hb := (S.1 a _ ha).2 ht
  refine W.bast Cx.1 Cx.2.1 q1 (Cx.arr (k := 1) rfl q2 q4) q3 (by rw [q5]; exact notOut hi) rfl rfl hd fun H' e1 e2 e3 => ?_
  refine kk p e R s m args below meth c H' _ cells slots arr Cx ⟨S.1.set ?_ hb e3, S.2.1.put e2 e3 hb, S.2.2⟩ L
  have h8 : narrow .byte (.int (Int32.ofInt x)) = vi x := vi_narB hx
  rw [h8] at e1
  have h9 := ar_set (k := 1) e1 q2 q3 q4 q5 q6
  rw [I_clamp hi.1 hi.2.2] at h9
  show obAt Γ a H' (oA 1 n (fun j => vi (upi g i x j)))
  rw [← ups_vi g i x hi.1]
  exact h9
theorem v_zast1 {a t n : Nat} {g : Int → Int} {i : Int} (hd : decode M.2.1 pc = .ok (.bastore, 1)) (ha : h a = some (t, oZ n g)) (ht : t ≠ 1) (hi : 0 ≤ i ∧ i < n ∧ i ≤ 2147483647) (kk : V Γ M d mc ms Q X (hset h a (t, oZ n (upi g i 1))) bc bs (pc + 1) ls st) : V Γ M d mc ms Q X h bc bs pc ls (vi 1 :: vi i :: .ref a :: st) := by
  intro p e R s m args below meth c H locs cells slots arr Cx S L
  obtain ⟨cell, q1, q2, q3, q4, q5, q6⟩ := S.1.ar ha
  have hb := (S.1 a _ ha).2 ht
  refine W.zast Cx.1 Cx.2.1 q1 (Cx.arr (k := 2) rfl q2 q4) q3 (by rw [q5]; exact notOut hi) rfl rfl hd fun H' e1 e2 e3 => ?_
  refine kk p e R s m args below meth c H' _ cells slots arr Cx ⟨S.1.set ?_ hb e3, S.2.1.put e2 e3 hb, S.2.2⟩ L
  have h8 : narrow .boolean (.int (Int32.ofInt 1)) = vi 1 := by decide
  rw [h8] at e1
  have h9 := ar_set (k := 2) e1 q2 q3 q4 q5 q6
  rw [I_clamp hi.1 hi.2.2] at h9
  show obAt Γ a H' (oA 2 n (fun j => vi (upi g i 1 j)))
  rw [← ups_vi g i 1 hi.1]
  exact h9
theorem v_last {a t n : Nat} {f : Nat → Value} {i : Int} {x : Int64} (hd : decode M.2.1 pc = .ok (.lastore, 1)) (ha : h a = some (t, oA 3 n f)) (ht : t ≠ 1) (hi : 0 ≤ i ∧ i < n ∧ i ≤ 2147483647) (kk : V Γ M d mc ms Q X (hset h a (t, oA 3 n (ups f i.toNat (.long x)))) bc bs (pc + 1) ls st) : V Γ M d mc ms Q X h bc bs pc ls (.long x :: vi i :: .ref a :: st) := by
  intro p e R s m args below meth c H locs cells slots arr Cx S L
  obtain ⟨cell, q1, q2, q3, q4, q5, q6⟩ := S.1.ar ha
  have hb := (S.1 a _ ha).2 ht
  refine W.last Cx.1 Cx.2.1 q1 (Cx.arr (k := 3) rfl q2 q4) q3 (by rw [q5]; exact notOut hi) rfl rfl hd fun H' e1 e2 e3 => ?_
  refine kk p e R s m args below meth c H' _ cells slots arr Cx ⟨S.1.set ?_ hb e3, S.2.1.put e2 e3 hb, S.2.2⟩ L
  have h9 := ar_set (k := 3) e1 q2 q3 q4 q5 q6
  rw [I_clamp hi.1 hi.2.2] at h9
  exact h9
theorem v_dast {a t n : Nat} {f : Nat → Value} {i : Int} {x : UInt64} (hd : decode M.2.1 pc = .ok (.dastore, 1)) (ha : h a = some (t, oA 4 n f)) (ht : t ≠ 1) (hi : 0 ≤ i ∧ i < n ∧ i ≤ 2147483647) (kk : V Γ M d mc ms Q X (hset h a (t, oA 4 n (ups f i.toNat (.double x)))) bc bs (pc + 1) ls st) : V Γ M d mc ms Q X h bc bs pc ls (.double x :: vi i :: .ref a :: st) := by
  intro p e R s m args below meth c H locs cells slots arr Cx S L
  obtain ⟨cell, q1, q2, q3, q4, q5, q6⟩ := S.1.ar ha
  have hb := (S.1 a _ ha).2 ht
  refine W.dast Cx.1 Cx.2.1 q1 (Cx.arr (k := 4) rfl q2 q4) q3 (by rw [q5]; exact notOut hi) rfl rfl hd fun H' e1 e2 e3 => ?_
  refine kk p e R s m args below meth c H' _ cells slots arr Cx ⟨S.1.set ?_ hb e3, S.2.1.put e2 e3 hb, S.2.2⟩ L
  have h9 := ar_set (k := 4) e1 q2 q3 q4 q5 q6
  rw [I_clamp hi.1 hi.2.2] at h9
  exact h9
end VH
