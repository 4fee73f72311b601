/-! LAYER V: the abstract heap, the judgement V, contracts Sp -/
set_option maxRecDepth 100000
/-! ===== ints as numbers ===== -/
def vi (e : Int) : Value := .int (Int32.ofInt e)
abbrev InR (e : Int) : Prop := -2147483648 ≤ e ∧ e ≤ 2147483647
theorem I_toInt {e : Int} (h : InR e) : (Int32.ofInt e).toInt = e := Int32.toInt_ofInt_of_le (by have := h.1; omega) (by have := h.2; omega)
theorem vi_of (x : Int32) : Value.int x = vi x.toInt := by unfold vi; rw [Int32.ofInt_toInt]
theorem InR_toInt (x : Int32) : InR x.toInt := ⟨by have := Int32.le_toInt x; omega, by have := Int32.toInt_lt x; omega⟩
theorem I_inj {a b : Int} (ha : InR a) (hb : InR b) : Int32.ofInt a = Int32.ofInt b ↔ a = b := by
  constructor
  · intro h
    have h1 := congrArg Int32.toInt h
    rw [I_toInt ha, I_toInt hb] at h1
    exact h1
  · intro h; rw [h]
theorem I_lt {a b : Int} (ha : InR a) (hb : InR b) : Int32.ofInt a < Int32.ofInt b ↔ a < b := by
  rw [Int32.lt_iff_toInt_lt, I_toInt ha, I_toInt hb]
theorem I_le {a b : Int} (ha : InR a) (hb : InR b) : Int32.ofInt a ≤ Int32.ofInt b ↔ a ≤ b := by
  rw [Int32.le_iff_toInt_le, I_toInt ha, I_toInt hb]
theorem I_clamp {a : Int} (h0 : 0 ≤ a) (h1 : a ≤ 2147483647) : (Int32.ofInt a).toNatClampNeg = a.toNat := by
  show (Int32.ofInt a).toInt.toNat = a.toNat
  rw [I_toInt ⟨by omega, h1⟩]
theorem I_zero : (0 : Int32) = Int32.ofInt 0 := by decide
theorem I_div {a b : Int} (ha : InR a) (hb : InR b) : Int32.ofInt a / Int32.ofInt b = Int32.ofInt (a.tdiv b) := by
  exact (Int32.ofInt_tdiv (by have := ha.1; show (-2147483648 : Int) ≤ a; omega) (by have := ha.2; show a ≤ (2147483647 : Int); omega) (by have := hb.1; show (-2147483648 : Int) ≤ b; omega) (by have := hb.2; show b ≤ (2147483647 : Int); omega)).symm
theorem I_mod {a b : Int} (ha : InR a) (hb : InR b) : Int32.ofInt a - Int32.ofInt a / Int32.ofInt b * Int32.ofInt b = Int32.ofInt (a.tmod b) := by
  rw [I_div ha hb, ← Int32.ofInt_mul, ← Int32.ofInt_sub]
  congr 1
  have := Int.tmod_add_mul_tdiv a b
  rw [Int.mul_comm] at this
  omega
/-! ===== the classes and arrays that are followed ===== -/
def clz : List vw_C := [(RX1, TX1, 9), (RX2, TX2, 3), (RX3, TX3, 24), (RX4, TX4, 4), (RX9, TX9, 11), (RX5, TX5, 25), (RX6, TX6, 7), (RX7, TX7, 8), (RX8, TX8, 2), (RX10, TX10, 3), (RX11, TX11, 2), (RJ2, TJ2, 3), (RJ17, TJ17, 3), (RJ8, TJ8, 4), (RJ22, TJ22, 4), (RJ9, TJ9, 4)]
def tyz : List FieldType := [.int, .byte, .boolean, .long, .double, .object "java/lang/Object", .object "FlashZones$Zone", .object "FlashZones$Guesser", .object "FlashZones$Book", .object "FlashZones$Act", .object "FlashZones$Asked"]
/-! ===== the abstract heap ===== -/
abbrev Ob : Type := (Nat × List Value) ⊕ ((Nat × Nat × (Nat → Value)) ⊕ (Nat × Nat × (Nat → Value)))
abbrev AH : Type := Nat → Option (Nat × Ob)
abbrev Lcs : Type := List (Option Value)
/-- an object of the class numbered ci, its fields in the class table's order -/
def oF (ci : Nat) (l : List Value) : Ob := .inl (ci, l)
/-- an array: the number of its type, its length, its elements -/
def oA (ty n : Nat) (f : Nat → Value) : Ob := .inr (.inl (ty, n, f))
/-- what a lambda's site made: the site's number, what was caught -/
def oL (si n : Nat) (f : Nat → Value) : Ob := .inr (.inr (si, n, f))
def hset (h : AH) (a : Nat) (o : Nat × Ob) : AH := fun b => if b = a then some o else h b
theorem hset_s (h : AH) (a : Nat) (o : Nat × Ob) : hset h a o a = some o := if_pos rfl
theorem hset_n {h : AH} {a b : Nat} {o : Nat × Ob} (n : b ≠ a) : hset h a o b = h b := if_neg n
def ups {α : Type} (f : Nat → α) (k : Nat) (v : α) : Nat → α := fun j => if j = k then v else f j
/-- launch; the law's start; class ids and field slots; array classes by type number; lambda classes by site; constants' cells -/
abbrev Cx : Type := Launch × State × va_G × (Nat → ClassId) × (Nat → ClassId) × (Nat → Nat)
/-- own class, code, locals, return type, name, handlers -/
abbrev MI : Type := String × ByteArray × Nat × Option FieldType × String × List (Nat × Nat × Nat × Nat)
abbrev PQ : Type := Option Value → AH → Prop
abbrev PX : Type := String → Nat → AH → Prop
def obAt (Γ : Cx) (a : Nat) (H : Heap) : Ob → Prop
  | .inl o => ∃ r : vw_C, clz[o.1]? = some r ∧ t_OB a (Γ.2.2.1.1 o.1) r.2.2 (Γ.2.2.1.2 o.1) H (fun k => o.2.getD k .null)
  | .inr (.inl o) => ∃ cell : Cell, H[a]? = some cell ∧ cell.cls = Γ.2.2.2.1 o.1 ∧ cell.vm ≠ .unknown ∧ (∀ q, cell.vm ≠ .statics q) ∧ cell.slots.size = o.2.1 ∧ ∀ i, i < o.2.1 → cell.slots[i]? = some (o.2.2 i)
  | .inr (.inr o) => ∃ cell : Cell, H[a]? = some cell ∧ cell.cls = Γ.2.2.2.2.1 o.1 ∧ cell.vm = .none ∧ cell.slots.size = o.2.1 ∧ ∀ i, i < o.2.1 → cell.slots[i]? = some (o.2.2 i)
theorem obAt.kept {Γ : Cx} {a : Nat} {H H1 : Heap} {o : Ob} (h : obAt Γ a H o) (e : H1[a]? = H[a]?) : obAt Γ a H1 o := by
  rcases o with o | o | o
  · obtain ⟨r, h1, h2⟩ := h
    exact ⟨r, h1, h2.kept e⟩
  · obtain ⟨c, h1, h2⟩ := h
    exact ⟨c, by rw [e]; exact h1, h2⟩
  · obtain ⟨c, h1, h2⟩ := h
    exact ⟨c, by rw [e]; exact h1, h2⟩
theorem obAt.lt {Γ : Cx} {a : Nat} {H : Heap} {o : Ob} (h : obAt Γ a H o) : a < H.size := by
  rcases o with o | o | o
  · obtain ⟨r, h1, c, h2, -⟩ := h
    exact (Array.getElem?_eq_some_iff.mp h2).1
  · obtain ⟨c, h1, -⟩ := h
    exact (Array.getElem?_eq_some_iff.mp h1).1
  · obtain ⟨c, h1, -⟩ := h
    exact (Array.getElem?_eq_some_iff.mp h1).1
/-- tag 1: old cells, never written -/
def Rel (Γ : Cx) (h : AH) (H : Heap) : Prop := ∀ (a : Nat) (p : Nat × Ob), h a = some p → obAt Γ a H p.2 ∧ (p.1 ≠ 1 → Γ.2.1.heap.size ≤ a)
def Fr (Γ : Cx) : Nat → Prop := fun q => Γ.2.1.heap.size ≤ q
theorem Rel.lt {Γ : Cx} {h : AH} {H : Heap} (hR : Rel Γ h H) {a : Nat} {p : Nat × Ob} (ha : h a = some p) : a < H.size := (hR a p ha).1.lt
theorem Rel.fresh {Γ : Cx} {h : AH} {H : Heap} (hR : Rel Γ h H) : h H.size = none := by
  cases e : h H.size with
  | none => rfl
  | some p => exact absurd (hR.lt e) (Nat.lt_irrefl _)
theorem Rel.set {Γ : Cx} {h : AH} {H H1 : Heap} (hR : Rel Γ h H) {a : Nat} {p : Nat × Ob} (ho : obAt Γ a H1 p.2) (hb : Γ.2.1.heap.size ≤ a) (oq : ∀ q, q ≠ a → H1[q]? = H[q]?) : Rel Γ (hset h a p) H1 := by
  intro b p' e
  by_cases n : b = a
  · subst n
    rw [hset_s] at e
    cases e
    exact ⟨ho, fun _ => hb⟩
  · rw [hset_n n] at e
    exact ⟨(hR b p' e).1.kept (oq b n), (hR b p' e).2⟩
/-- a new cell -/
theorem Rel.push {Γ : Cx} {h : AH} {H H1 : Heap} (hR : Rel Γ h H) {p : Nat × Ob} (ho : obAt Γ H.size H1 p.2) (hb : Γ.2.1.heap.size ≤ H.size) (oq : ∀ q, q < H.size → H1[q]? = H[q]?) : Rel Γ (hset h H.size p) H1 := by
  intro b p' e
  by_cases n : b = H.size
  · subst n
    rw [hset_s] at e
    cases e
    exact ⟨ho, fun _ => hb⟩
  · rw [hset_n n] at e
    exact ⟨(hR b p' e).1.kept (oq b (hR.lt e)), (hR b p' e).2⟩
/-- what is known of a state that the run comes to: its tables are the start's, warmer; old cells are as at the start -/
def Glob (Γ : Cx) (U : State) : Prop := Γ.2.1.WarmedH U.vm ∧ Γ.2.1.heap.size ≤ U.heap.size ∧ ∀ q, q < Γ.2.1.heap.size → U.heap[q]? = Γ.2.1.heap[q]?
def tw (w : Cond) : Bool := (w.onTables && w.keepsH) || (match w with | .arrayClass _ => true | .arrayOver _ => true | .castable _ _ => true | .declares _ => true | .publicMethod _ => true | .unhidden _ _ _ => true | .interfaceMethod a b _ _ => a == b && a != "java/lang/invoke/MethodHandle" && a != "java/lang/invoke/VarHandle" | _ => false)
def kV (Γ : Cx) : Nat ⊕ Int → Value
  | .inl j => .ref (Γ.2.2.2.2.2 j)
  | .inr n => vi n
/-- what is known of the start -/
def GOK (Γ : Cx) : Prop :=
  (∀ w ∈ lw_tbl, w.before #[] Γ.2.1 = true) ∧ Γ.1.stackTraces = false ∧
  (∀ (ci : Nat) (r : vw_C), clz[ci]? = some r → u_Kn Γ.2.1 r.1 r.2.1 r.2.2 (Γ.2.2.1.1 ci) (Γ.2.2.1.2 ci)) ∧
  (∀ (k : Nat) (ty : FieldType), tyz[k]? = some ty → ArrOfT Γ.2.1 (Γ.2.2.2.1 k) ty ∧ va_RA Γ.2.1 (Γ.2.2.2.1 k) ty) ∧
  (∀ (i : Nat) (z : String × String × String × (Nat ⊕ Int)), kZ[i]? = some z → va_Z z.1 z.2.1 z.2.2.1 (kV Γ z.2.2.2) (Fr Γ) Γ.2.1 Γ.2.1.heap) ∧
  (∀ (j : Nat) (z : String × Nat × String), kS[j]? = some z → vk_R z.1 z.2.1 z.2.2 (Γ.2.2.2.2.2 (20 + j)) Γ.2.1) ∧
  (∀ (i : Nat) (z : MethodName × Nat × Nat × Jvm.Lambda.Shape), kL[i]? = some z → ∃ one, Γ.2.1.lambdaAt? z.1 z.2.1 z.2.2.1 z.2.2.2 = some (Γ.2.2.2.2.1 i, one) ∧ ∀ a, one = some a → a = Γ.2.2.2.2.2 (100 + i)) ∧
  (Cond.isRef (.static Bundle.tN "UNASSIGNED_STACK" Bundle.steD)).before #[] Γ.2.1 = true ∧ (Cond.isRef (.static Bundle.tN "SUPPRESSED_SENTINEL" Bundle.listD)).before #[] Γ.2.1 = true ∧ va_Mi "[Ljava/lang/Object;" (Γ.2.2.2.2.2 10) Γ.2.1
def cdw (y : MethodName) (M : MI) : Cond := match M.2.2.2.2.2 with
  | [] => .code y M.2.1 M.2.2.1 M.2.2.2.1
  | hh => .codeWith y M.2.1 M.2.2.1 M.2.2.2.1 hh
def roomOf (d mc ms : Nat) : Room := { frames := d, cells := mc, slots := ms, locals := 4096 + 64 * d }
def QcOf (Γ : Cx) (Q : PQ) : Array Value → State → Outcome → State → Prop := fun _ st o t => (∃ (v : Option Value) (h' : AH), o = .returned v ∧ Rel Γ h' t.heap ∧ Q v h') ∧ va_F (Fr Γ) st t
def XcOf (Γ : Cx) (X : PX) : String → Addr → State → State → Prop := fun E q st t => (∃ h' : AH, Rel Γ h' t.heap ∧ X E q h') ∧ va_F (Fr Γ) st t
def PcOf (Γ : Cx) (av : List Value) (h : AH) : Array Value → State → Prop := va_Pc av (fun U => Glob Γ U ∧ Rel Γ h U.heap)
/-- A CONTRACT: y called with av over the heap h returns or throws; at most mc cells of ms slots are new; d: its frames' depth -/
def Sp (Γ : Cx) (y : MethodName) (M : MI) (d mc ms : Nat) (av : List Value) (h : AH) (Q : PQ) (X : PX) : Prop :=
  GOK Γ → vx_Met Γ.1 y [cdw y M] (roomOf d mc ms) (PcOf Γ av h) (QcOf Γ Q) (XcOf Γ X) mc ms (Fr Γ)
def NoX : PX := fun _ _ _ => False
def VL (mx : Nat) (arr : Array Slot) (ls : Lcs) : Prop := arr.size = mx ∧ lv_wf arr ∧ ls.length ≤ mx ∧ ∀ (i : Nat) (v : Value), ls[i]? = some (some v) → arr[i]? = some (.val v)
def VC (Γ : Cx) (M : MI) (d mc ms : Nat) (p : Program) (R : Room) (s : State) (m : MethodId) (args : Array Value) (meth : Method) (c : Code) : Prop :=
  p.tables.exec = Jvm.exec ∧ c.code = M.2.1 ∧ meth.sig.returnType = M.2.2.2.1 ∧ c.maxLocals = M.2.2.1 ∧ s.vm.findClass M.1 = some m.cls ∧
  (∀ w ∈ lw_tbl, tw w = true → w.before args s = true) ∧ Glob Γ s ∧ meth.locks = false ∧ meth.name = M.2.2.2.2.1 ∧ c.exceptionTable.toList = tableOf M.2.2.2.2.2 ∧
  GOK Γ ∧ d ≤ R.frames ∧ 4096 + 64 * d ≤ R.locals ∧ mc ≤ R.cells ∧ ms ≤ R.slots
def VS (Γ : Cx) (mc ms bc bs : Nat) (s : State) (h : AH) (H : Heap) (locs : List Loc) (cells slots : Nat) : Prop :=
  Rel Γ h H ∧ va_S (Fr Γ) s.heap H locs ∧ cells + bc ≤ mc ∧ slots + bs ≤ ms
/-- THE JUDGEMENT: at pc, with locals ls and stack st, over the heap h, bc cells and bs slots still to spend, the method comes to an end with Q or X -/
def V (Γ : Cx) (M : MI) (d mc ms : Nat) (Q : PQ) (X : PX) (h : AH) (bc bs : Nat) (pc : Nat) (ls : Lcs) (st : List Value) : Prop :=
  ∀ (p : Program) (e : Env) (R : Room) (s : State) (m : MethodId) (args : Array Value) (below : List Frame) (meth : Method) (c : Code) (H : Heap) (locs : List Loc) (cells slots : Nat) (arr : Array Slot),
    VC Γ M d mc ms p R s m args meth c → VS Γ mc ms bc bs s h H locs cells slots → VL M.2.2.1 arr ls →
    W p Γ.1 e R s m args below meth c H locs cells slots (vx_MQ below (QcOf Γ Q) (XcOf Γ X) args s mc ms (Fr Γ)) (F0 m pc arr st)
/-- .. with q, of the class E, thrown at pc -/
def VX (Γ : Cx) (M : MI) (d mc ms : Nat) (Q : PQ) (X : PX) (h : AH) (bc bs : Nat) (pc : Nat) (ls : Lcs) (E : String) (q : Nat) : Prop :=
  ∀ (p : Program) (e : Env) (R : Room) (s : State) (m : MethodId) (args : Array Value) (below : List Frame) (meth : Method) (c : Code) (H : Heap) (locs : List Loc) (cells slots : Nat) (arr : Array Slot) (ce : Cell) (rest : List Value),
    VC Γ M d mc ms p R s m args meth c → VS Γ mc ms bc bs s h H locs cells slots → VL M.2.2.1 arr ls → H[q]? = some ce → ce.vm = .none → s.vm.findClass E = some ce.cls →
    vx_W p Γ.1 e R s m args below meth c H locs cells slots (vx_MQ below (QcOf Γ Q) (XcOf Γ X) args s mc ms (Fr Γ)) (F0 m pc arr rest) q
/-! ===== locals ===== -/
def c1b : Option Value → Bool
  | some (.long _) => false
  | some (.double _) => false
  | _ => true
theorem c1b_cat {v : Value} (h : c1b (some v) = true) : v.category = 1 := by
  cases v <;> first | rfl | (simp [c1b] at h)
def lvL (ls : Lcs) : List (Nat × Value) := (List.range ls.length).filterMap (fun i => match ls[i]? with | some (some v) => some (i, v) | _ => none)
theorem mem_lvL {ls : Lcs} {q : Nat × Value} (h : q ∈ lvL ls) : ls[q.1]? = some (some q.2) := by
  obtain ⟨i, -, hi⟩ := List.mem_filterMap.mp h
  cases e : ls[i]? with
  | none => simp [e] at hi
  | some o =>
    cases o with
    | none => simp [e] at hi
    | some v =>
      simp [e] at hi
      rw [← hi]
      exact e
theorem lvL_mem {ls : Lcs} {i : Nat} {v : Value} (h : ls[i]? = some (some v)) : (i, v) ∈ lvL ls := by
  refine List.mem_filterMap.mpr ⟨i, List.mem_range.mpr (List.getElem?_eq_some_iff.mp h).1, ?_⟩
  simp [h]
theorem VL.has {mx : Nat} {arr : Array Slot} {ls : Lcs} (h : VL mx arr ls) : lv_has arr mx (lvL ls) := ⟨h.1, h.2.1, fun q hq => h.2.2.2 _ _ (mem_lvL hq)⟩
theorem VL.lt {mx : Nat} {arr : Array Slot} {ls : Lcs} (h : VL mx arr ls) {i : Nat} (hi : i < ls.length) : i < mx := Nat.lt_of_lt_of_le hi h.2.2.1
/-- one slot stored -/
theorem VL.put1 {mx : Nat} {arr' : Array Slot} {ls : Lcs} {i : Nat} {v : Value} (hi : i < ls.length) (hm : ls.length ≤ mx) (hp : ∀ j o, j + 1 = i → ls[j]? = some o → c1b o = true)
    (h : lv_has arr' mx ((i, v) :: (lvL ls).filter (fun q => !(q.1 == i) && !(q.1 + 1 == i && q.2.category == 2)))) : VL mx arr' (ls.set i (some v)) := by
  refine ⟨h.1, h.2.1, by rw [List.length_set]; exact hm, fun j w hj => ?_⟩
  by_cases e : j = i
  · subst e
    rw [List.getElem?_set_self hi] at hj
    cases hj
    exact h.2.2 (j, v) List.mem_cons_self
  · rw [List.getElem?_set_ne (Ne.symm e)] at hj
    refine h.2.2 (j, w) (List.mem_cons_of_mem _ (List.mem_filter.mpr ⟨lvL_mem hj, ?_⟩))
    have h1 : (j == i) = false := by simpa using e
    by_cases e2 : j + 1 = i
    · have h2 := c1b_cat (hp j _ e2 hj)
      simp [h1, h2]
    · have h3 : (j + 1 == i) = false := by simpa using e2
      simp [h1, h3]
/-- a long or a double stored -/
theorem VL.put2 {mx : Nat} {arr' : Array Slot} {ls : Lcs} {i : Nat} {v : Value} (hi : i + 1 < ls.length) (hm : ls.length ≤ mx) (hp : ∀ j o, j + 1 = i → ls[j]? = some o → c1b o = true)
    (h : lv_has arr' mx ((i, v) :: (lvL ls).filter (fun q => !(q.1 == i) && (!(q.1 == i + 1) && !(q.1 + 1 == i && q.2.category == 2))))) : VL mx arr' ((ls.set i (some v)).set (i + 1) none) := by
  refine ⟨h.1, h.2.1, by rw [List.length_set, List.length_set]; exact hm, fun j w hj => ?_⟩
  by_cases e1 : j = i + 1
  · subst e1
    rw [List.getElem?_set_self (by rw [List.length_set]; exact hi)] at hj
    cases hj
  · rw [List.getElem?_set_ne (Ne.symm e1)] at hj
    by_cases e : j = i
    · subst e
      rw [List.getElem?_set_self (by omega)] at hj
      cases hj
      exact h.2.2 (j, v) List.mem_cons_self
    · rw [List.getElem?_set_ne (Ne.symm e)] at hj
      refine h.2.2 (j, w) (List.mem_cons_of_mem _ (List.mem_filter.mpr ⟨lvL_mem hj, ?_⟩))
      have h1 : (j == i) = false := by simpa using e
      have h4 : (j == i + 1) = false := by simpa using e1
      by_cases e2 : j + 1 = i
      · have h2 := c1b_cat (hp j _ e2 hj)
        simp [h1, h4, h2]
      · have h3 : (j + 1 == i) = false := by simpa using e2
        simp [h1, h4, h3]
theorem VL.drop {mx : Nat} {arr : Array Slot} {ls ls' : Lcs} (h : VL mx arr ls) (hl : ls'.length ≤ ls.length) (hw : ∀ (i : Nat) (v : Value), ls'[i]? = some (some v) → ls[i]? = some (some v)) : VL mx arr ls' :=
  ⟨h.1, h.2.1, Nat.le_trans hl h.2.2.1, fun i v hv => h.2.2.2 i v (hw i v hv)⟩
/-! ===== the state of knowledge inside a method ===== -/
theorem tw_at {a' : Array Value} {s U : State} {w : Cond} (ht : tw w = true) (hW : s.WarmedH U.vm) (h : w.before #[] s = true) : w.before a' U = true := by
  have hal : s.vm.Alike U.vm := hW.alike
  have tr : ∀ {c : Cond}, c.onTables = true → c.before #[] (s.setVm U.vm) = true → c.before a' U = true := by
    intro c hc h
    have e := Cond.onTables_vm (A := #[]) (A' := a') (U := s) (U' := U) U.vm c hc
    have hU : U.setVm U.vm = U := rfl
    rw [hU] at e
    rw [← e]
    exact h
  simp only [tw, Bool.or_eq_true, Bool.and_eq_true] at ht
  rcases ht with ⟨h1, h2⟩ | h1
  · have h3 := Cond.onTables_warmH (args := #[]) (args' := a') (T := U) hW h1 h2 h
    rwa [State.setVm_self] at h3
  · cases w with
    | arrayClass ty => exact word_at hW (Or.inr ⟨_, rfl⟩) h
    | arrayOver ty =>
      cases ty with
      | object C => exact va_AO.use (va_AO.moved hal (va_AO.of h))
      | array t => exact over_moved hal h
      | _ => simp [Cond.before, Cond.holds, Cond.value] at h
    | castable a b => exact tr rfl (by rw [Cond.castable_setVm hal]; exact h)
    | declares x => exact tr rfl (by rw [Cond.declares_setVm hal]; exact h)
    | publicMethod x => exact tr rfl (by rw [Cond.publicMethod_setVm hal]; exact h)
    | unhidden a b c => exact tr rfl (by rw [Cond.unhidden_setVm hal]; exact h)
    | interfaceMethod a b n d =>
      simp only [Bool.and_eq_true, beq_iff_eq, bne_iff_ne, ne_eq] at h1
      obtain ⟨⟨rfl, h2⟩, h3⟩ := h1
      obtain ⟨cL, kL, r1, -, -, -, -, hn1⟩ := Cond.interfaceMethod_spec (args := #[]) (first := s) (o := none) (idx := []) h
      exact tr rfl (by rw [Cond.interfaceMethod_setVm hal (r := r1) hn1 ⟨h2, h3⟩]; exact h)
    | _ => simp at h1
theorem Glob.at {Γ : Cx} {U : State} {a' : Array Value} (hG : GOK Γ) (h : Glob Γ U) {w : Cond} (hw : w ∈ lw_tbl) (ht : tw w = true) : w.before a' U = true := tw_at ht h.1 (hG.1 w hw)
theorem Glob.kn {Γ : Cx} {U : State} (hG : GOK Γ) (h : Glob Γ U) {ci : Nat} {r : vw_C} (hc : clz[ci]? = some r) : u_Kn U r.1 r.2.1 r.2.2 (Γ.2.2.1.1 ci) (Γ.2.2.1.2 ci) := u_Kn_moved h.1.alike (hG.2.2.1 ci r hc)
theorem Glob.arr {Γ : Cx} {U : State} (hG : GOK Γ) (h : Glob Γ U) {k : Nat} {ty : FieldType} (hc : tyz[k]? = some ty) : ArrOfT U (Γ.2.2.2.1 k) ty ∧ va_RA U (Γ.2.2.2.1 k) ty :=
  ⟨arrOfT_moved h.1.alike (hG.2.2.2.1 k ty hc).1, va_RA.moved h.1.alike (hG.2.2.2.1 k ty hc).2⟩
/-- a later state of the same method -/
theorem Glob.later {Γ : Cx} {s T : State} {H : Heap} {locs : List Loc} (h : Glob Γ s) (hS : va_S (Fr Γ) s.heap H locs) (hT : T.heap = H) (hW : s.WarmedH T.vm) : Glob Γ T := by
  refine ⟨State.WarmedH.trans h.1 hW, by rw [hT]; exact Nat.le_trans h.2.1 hS.1, fun q hq => ?_⟩
  rw [hT, hS.2.1 q (Nat.lt_of_lt_of_le hq h.2.1) (fun z => absurd hq (Nat.not_lt.mpr z))]
  exact h.2.2 q hq
theorem pc_blind (Γ : Cx) (av : List Value) (h : AH) : FrameBlind (PcOf Γ av h) := by
  intro a U g mk q
  obtain ⟨q0, ⟨q1, q2, q3⟩, q4⟩ := q
  exact ⟨q0, ⟨q1, q2, q3⟩, q4⟩
/-! ===== a method's entry ===== -/
def ent (mx : Nat) (av : List Value) : Lcs := av.map some ++ List.replicate (mx - av.length) none
theorem lv_args_mem : ∀ (av : List Value) (k i : Nat) (v : Value), (∀ w ∈ av, w.category = 1) → av[i]? = some v → (k + i, v) ∈ lv_args k av
  | [], _, i, v, _, h => by simp at h
  | a :: l, k, i, v, hc, h => by
    have h1 : a.category = 1 := hc a List.mem_cons_self
    cases i with
    | zero =>
      rw [List.getElem?_cons_zero] at h
      cases h
      exact List.mem_cons_self
    | succ i =>
      rw [List.getElem?_cons_succ] at h
      have h2 := lv_args_mem l (k + 1) i v (fun w hw => hc w (List.mem_cons_of_mem _ hw)) h
      have e : k + 1 + i = k + (i + 1) := by omega
      rw [e] at h2
      show (k + (i + 1), v) ∈ (k, a) :: lv_args (if a.category = 2 then k + 2 else k + 1) l
      rw [if_neg (by rw [h1]; decide)]
      exact List.mem_cons_of_mem _ h2
theorem lg_sl_len : ∀ (av : List Value), (∀ w ∈ av, w.category = 1) → (lg_sl av).length = av.length
  | [], _ => rfl
  | a :: l, hc => by
    have h1 : a.category = 1 := hc a List.mem_cons_self
    have h2 := lg_sl_len l (fun w hw => hc w (List.mem_cons_of_mem _ hw))
    unfold lg_sl at h2 ⊢
    rw [List.flatMap_cons, if_neg (by rw [h1]; decide), List.length_append, h2]
    simp [Nat.add_comm]
theorem ent_VL {mx : Nat} {av : List Value} (hc : ∀ w ∈ av, w.category = 1) (hl : av.length ≤ mx) : VL mx ((lg_sl av ++ List.replicate (mx - (lg_sl av).length) Slot.unset).toArray) (ent mx av) := by
  have h := lv_entry av (n := mx) (by rw [lg_sl_len av hc]; exact hl)
  refine ⟨h.1, h.2.1, by simp [ent]; omega, fun i v hv => ?_⟩
  have h1 : i < av.length := by
    refine Nat.lt_of_not_le fun hge => ?_
    unfold ent at hv
    rw [List.getElem?_append_right (by simpa using hge)] at hv
    have h2 := List.mem_of_getElem? hv
    rw [List.mem_replicate] at h2
    cases h2.2
  unfold ent at hv
  rw [List.getElem?_append_left (by simpa using h1), List.getElem?_map] at hv
  cases e : av[i]? with
  | none => simp [e] at hv
  | some w =>
    simp [e] at hv
    subst hv
    have h3 := lv_args_mem av 0 i w hc e
    rw [Nat.zero_add] at h3
    exact h.2.2 (i, w) h3
/-- what is needed of a method, its name and its static facts: once a method -/
def COK (y : MethodName) (M : MI) (n : Nat) : Prop := plainName y.cls = true ∧ y.cls = M.1 ∧ y.name = M.2.2.2.2.1 ∧ (y.cls ≠ "java/lang/invoke/MethodHandle" ∧ y.cls ≠ "java/lang/invoke/VarHandle") ∧ (parseMethodDescriptor y.desc).map (fun d => d.parameters.length) = some n ∧ M.2.2.1 ≤ 45 ∧ cdw y M ∈ lw_tbl ∧ Cond.initialized y.cls ∈ lw_tbl
theorem sp_of {Γ : Cx} {y : MethodName} {M : MI} {n d mc ms : Nat} {av : List Value} {h : AH} {Q : PQ} {X : PX} {ls : Lcs} (hy : COK y M n) (hc : ∀ w ∈ av, w.category = 1) (hl : av.length ≤ M.2.2.1) (he : ent M.2.2.1 av = ls)
    (hV : V Γ M d mc ms Q X h mc ms 0 ls []) : Sp Γ y M d mc ms av h Q X := by
  intro hG
  subst he
  obtain ⟨h1, h2, h3, -, -, -, h7, -⟩ := hy
  have body : ∀ (p : Program) (e : Env) (s : State) (m : MethodId) (args : Array Value) (below : List Frame) (meth : Method) (c : Code) (s₁ : State), BodyLoose p Γ.1 y (headSpec [cdw y M] (roomOf d mc ms)) M.2.1 M.2.2.1 M.2.2.2.1 e s m args below meth c s₁ → c.maxLocals = M.2.2.1 → c.exceptionTable.toList = tableOf M.2.2.2.2.2 → PcOf Γ av h args s →
      W p Γ.1 e (headSpec [cdw y M] (roomOf d mc ms)).room s m args below meth c s.heap [] 0 0 (vx_MQ below (QcOf Γ Q) (XcOf Γ X) args s mc ms (Fr Γ)) (entryFrame m args M.2.2.1) := by
    intro p e s m args below meth c s₁ B hml ht hP
    obtain ⟨rfl, hGl, hR⟩ := hP
    rw [lg_entry_eq]
    exact hV p e _ s m _ below meth c s.heap [] 0 0 _
      ⟨B.exec, B.bytes, B.returns, hml, by rw [← h2]; exact findClass_of_methodNamed B.named, fun w hw hw2 => hGl.at hG hw hw2, hGl, B.notSynchronized, by rw [← h3]; exact (name_of_methodNamed B.named B.method).1, ht, hG, Nat.le_refl _, Nat.le_refl _, Nat.le_refl _, Nat.le_refl _⟩
      ⟨hR, va_S.rf, by omega, by omega⟩ (ent_VL hc hl)
  obtain ⟨own, cc, mx, rt, nm, hh⟩ := M
  dsimp only at body ⊢
  cases hh with
  | nil =>
    refine vx_ofW (cc := cc) (maxL := mx) (ret := rt) (ws' := []) h1 rfl fun p e s m args below meth c s₁ B hml ht hP => body p e s m args below meth c s₁ B hml ?_ hP
    cases he : c.exceptionTable.toList with
    | nil => rfl
    | cons a l => exact (ht a (by rw [he]; exact List.mem_cons_self)).elim
  | cons a l =>
    refine vx_ofWH (cc := cc) (maxL := mx) (ret := rt) (hh := a :: l) (ws' := []) h1 rfl fun p e s m args below meth c s₁ B hml hP => body p e s m args below meth c s₁ B hml ?_ hP
    exact vx_table (x := y) B (atoms_spec (ws := [cdw y (own, cc, mx, rt, nm, a :: l)]) B.pre _ List.mem_cons_self)
