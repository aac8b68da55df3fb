/-! V: the machine at a pc with locals vs, stack st and the cells ws; all else of the heap and of the frame is hidden. Rows over V are the kit's rows with the heap put away. -/
def lvh (ls : Array Slot) (nL : Nat) (vs : List Value) : Prop := ls.size = nL ∧ lv_wf ls ∧ (∀ v ∈ vs, v.category = 1) ∧ ∀ (i : Nat) (v : Value), vs[i]? = some v → ls[i]? = some (.val v)
def lvp : Nat → List Value → List (Nat × Value)
  | _, [] => []
  | i, v :: r => (i, v) :: lvp (i + 1) r
theorem lvp_mem : ∀ (vs : List Value) (b i : Nat) (v : Value), (i, v) ∈ lvp b vs ↔ b ≤ i ∧ vs[i - b]? = some v
  | [], b, i, v => by simp [lvp]
  | w :: r, b, i, v => by
    rw [lvp, List.mem_cons, lvp_mem r (b + 1) i v]
    constructor
    · rintro (h | ⟨h1, h2⟩)
      · cases h; simp
      · refine ⟨by omega, ?_⟩
        rw [show i - b = (i - (b + 1)) + 1 by omega, List.getElem?_cons_succ]; exact h2
    · rintro ⟨h1, h2⟩
      by_cases hb : i = b
      · subst hb; simp at h2; subst h2; exact Or.inl rfl
      · refine Or.inr ⟨by omega, ?_⟩
        rw [show i - b = (i - (b + 1)) + 1 by omega, List.getElem?_cons_succ] at h2; exact h2
theorem lvh.has {ls : Array Slot} {nL : Nat} {vs : List Value} (h : lvh ls nL vs) : lv_has ls nL (lvp 0 vs) :=
  ⟨h.1, h.2.1, fun q hq => by obtain ⟨i, v⟩ := q; exact h.2.2.2 i v (by simpa using ((lvp_mem vs 0 i v).mp hq).2)⟩
/-- a store into the locals -/
def sv (vs : List Value) (i : Nat) (v : Value) : List Value := if i < vs.length then vs.set i v else vs ++ [v]
theorem sv_get {vs : List Value} {i : Nat} {v : Value} (hi : i ≤ vs.length) (j : Nat) (w : Value) (h : (sv vs i v)[j]? = some w) : (j = i ∧ w = v) ∨ (j ≠ i ∧ vs[j]? = some w) := by
  unfold sv at h
  split at h
  · next hlt =>
    rw [List.getElem?_set] at h
    by_cases hj : i = j
    · subst hj; simp [hlt] at h; exact Or.inl ⟨rfl, h.symm⟩
    · simp [hj] at h; exact Or.inr ⟨fun e => hj e.symm, h⟩
  · next hge =>
    by_cases hj : j < vs.length
    · rw [List.getElem?_append_left hj] at h; exact Or.inr ⟨by omega, h⟩
    · rw [List.getElem?_append_right (by omega)] at h
      have : j - vs.length < 1 := (List.getElem?_eq_some_iff.mp h).1
      have e : j - vs.length = 0 := by omega
      rw [e] at h; simp at h
      exact Or.inl ⟨by omega, h.symm⟩
theorem lvh.store {ls' ls : Array Slot} {nL i : Nat} {vs vs' : List Value} {v : Value} (h : lvh ls nL vs) (hi : i ≤ vs.length) (hc : v.category = 1) (hv : sv vs i v = vs') (h' : lv_has ls' nL ((i, v) :: (lvp 0 vs).filter (fun q => !(q.1 == i) && !(q.1 + 1 == i && q.2.category == 2)))) : lvh ls' nL vs' := by
  subst hv
  refine ⟨h'.1, h'.2.1, fun w hw => ?_, fun j w hj => ?_⟩
  · obtain ⟨j, hj⟩ := List.getElem?_of_mem hw
    rcases sv_get hi j w hj with ⟨_, rfl⟩ | ⟨_, h2⟩
    · exact hc
    · exact h.2.2.1 w (List.mem_of_getElem? h2)
  · rcases sv_get hi j w hj with ⟨rfl, rfl⟩ | ⟨h1, h2⟩
    · exact h'.2.2 (j, w) List.mem_cons_self
    · refine h'.2.2 (j, w) (List.mem_cons_of_mem _ (List.mem_filter.mpr ⟨(lvp_mem vs 0 j w).mpr ⟨Nat.zero_le _, by simpa using h2⟩, ?_⟩))
      have := h.2.2.1 w (List.mem_of_getElem? h2)
      simp [h1, this]
theorem lvh.less {ls : Array Slot} {nL : Nat} {vs : List Value} (h : lvh ls nL vs) (k : Nat) {vs' : List Value} (hv : vs.take k = vs') : lvh ls nL vs' := by
  subst hv
  refine ⟨h.1, h.2.1, fun v hv => h.2.2.1 v (List.mem_of_mem_take hv), fun i v hi => ?_⟩
  rw [List.getElem?_take] at hi
  split at hi
  · exact h.2.2.2 i v hi
  · cases hi
/-- the cells' own addresses -/
def qA (ws : va_W) : Nat → Prop := fun q => ∃ (k : Nat) (e : va_E), ws[k]? = some (q, e)
/-- a room by its level -/
abbrev rmk (k : Nat) : Room := { frames := 2 * k + 2, cells := 0, slots := 0, locals := 100 * k + 100 }
/-- the words that hold on in a callee; those of nest mates are carried beside them -/
def gtb : List Cond := lw_tbl.filter goodWord
theorem gtb_in {w : Cond} (h : w ∈ lw_tbl) (hg : goodWord w = true) : w ∈ gtb := List.mem_filter.mpr ⟨h, hg⟩
theorem gtb_lay {C0 : String} {T : u_T} {N : Nat} (h : ∀ w ∈ u_ws C0 T N, w ∈ lw_tbl) : ∀ w ∈ u_ws C0 T N, w ∈ gtb := fun w hw => gtb_in (h w hw) (by
  obtain ⟨k, -, rfl⟩ := List.mem_map.mp hw
  unfold u_lay
  split <;> rfl)
abbrev nw_88 : Cond := .fieldLinkNest R_TT 88 R_Tree "key" "[I" R_TT
abbrev nw_142 : Cond := .methodLinkNest R_TT 142 y_Tree_compare R_TT
abbrev nw_28 : Cond := .methodLinkNest R_TT 28 y_Cur_init R_TT
def NwA (U : State) : Prop := va_Nw nw_88 U ∧ va_Nw nw_142 U ∧ va_Nw nw_28 U
theorem NwA.same {u U : State} (h : u.vm = U.vm) (z : NwA u) : NwA U := ⟨z.1.same rfl h, z.2.1.same rfl h, z.2.2.same rfl h⟩
theorem NwA.warm {s U : State} (hW : s.WarmedH U.vm) (z : NwA s) : NwA U := ⟨z.1.warmF hW, z.2.1.warmM hW, z.2.2.warmM hW⟩
/-- what is so in all of a method's body -/
def Cx (p : Program) (s : State) (m : MethodId) (args : Array Value) (meth : Method) (c : Code) (cc : ByteArray) (nL : Nat) (rt : Option FieldType) (own : String) (D : va_G) (kA : Nat → ClassId) : Prop :=
  p.tables.exec = Jvm.exec ∧ c.code = cc ∧ c.maxLocals = nL ∧ s.vm.findClass own = some m.cls ∧ (∀ w ∈ gtb, w.before args s = true) ∧ va_K D kcl (tyA kA) s ∧ meth.sig.returnType = rt ∧ meth.locks = false ∧ NwA s
def V (p : Program) (l : Launch) (e : Env) (R : Room) (s : State) (m : MethodId) (args : Array Value) (below : List Frame) (meth : Method) (c : Code) (D : va_G) (A : Nat → Prop) (nL cells slots : Nat) (Q : State → Prop) (pc : Nat) (vs st : List Value) (ws : va_W) : Prop :=
  ∀ (H : Heap) (locs : List Loc) (ls : Array Slot), va_P D kcl ws H → va_D A ws → va_S A s.heap H locs → lvh ls nL vs → W p l e R s m args below meth c H locs cells slots Q (F0 m pc ls st)
section VR
variable {p : Program} {l : Launch} {e : Env} {R : Room} {s : State} {m : MethodId} {args : Array Value} {below : List Frame} {meth : Method} {c : Code} {D : va_G} {A : Nat → Prop} {nL cells slots : Nat} {Q : State → Prop} {pc : Nat} {vs st : List Value} {ws : va_W} {cc : ByteArray} {rt : Option FieldType} {own : String} {kA : Nat → ClassId}
theorem v_less (k : Nat) {vs' : List Value} (hv : vs.take k = vs') (kk : V p l e R s m args below meth c D A nL cells slots Q pc vs' st ws) : V p l e R s m args below meth c D A nL cells slots Q pc vs st ws :=
  fun H locs ls h1 h2 h3 h4 => kk H locs ls h1 h2 h3 (h4.less k hv)
theorem v_pc {pc' : Nat} (h : pc = pc') (kk : V p l e R s m args below meth c D A nL cells slots Q pc' vs st ws) : V p l e R s m args below meth c D A nL cells slots Q pc vs st ws := h ▸ kk
theorem v_ws {ws' : va_W} (h : ws = ws') (kk : V p l e R s m args below meth c D A nL cells slots Q pc vs st ws') : V p l e R s m args below meth c D A nL cells slots Q pc vs st ws := h ▸ kk
theorem v_top {x y : Int32} (h : x = y) (kk : V p l e R s m args below meth c D A nL cells slots Q pc vs (.int y :: st) ws) : V p l e R s m args below meth c D A nL cells slots Q pc vs (.int x :: st) ws := h ▸ kk
theorem v_iconst (C : Cx p s m args meth c cc nL rt own D kA) {n : Int} (hdg : decode cc pc = .ok (.iconst n, 1)) (v : Int32) (hv : Int32.ofInt n = v) (kk : V p l e R s m args below meth c D A nL cells slots Q (pc + 1) vs (.int v :: st) ws) : V p l e R s m args below meth c D A nL cells slots Q pc vs st ws :=
  fun H locs ls h1 h2 h3 h4 => lv_iconst C.1 C.2.1 hdg hv (kk H locs ls h1 h2 h3 h4)
theorem v_bipush (C : Cx p s m args meth c cc nL rt own D kA) {n : Int} (hdg : decode cc pc = .ok (.bipush n, 2)) (v : Int32) (hv : (Int8.ofInt n).toInt32 = v) (kk : V p l e R s m args below meth c D A nL cells slots Q (pc + 2) vs (.int v :: st) ws) : V p l e R s m args below meth c D A nL cells slots Q pc vs st ws :=
  fun H locs ls h1 h2 h3 h4 => lv_bipush C.1 C.2.1 hdg hv (kk H locs ls h1 h2 h3 h4)
theorem v_sipush (C : Cx p s m args meth c cc nL rt own D kA) {n : Int} (hdg : decode cc pc = .ok (.sipush n, 3)) (v : Int32) (hv : (Int16.ofInt n).toInt32 = v) (kk : V p l e R s m args below meth c D A nL cells slots Q (pc + 3) vs (.int v :: st) ws) : V p l e R s m args below meth c D A nL cells slots Q pc vs st ws :=
  fun H locs ls h1 h2 h3 h4 => lv_sipush C.1 C.2.1 hdg hv (kk H locs ls h1 h2 h3 h4)
theorem v_ldc (C : Cx p s m args meth c cc nL rt own D kA) {index : Nat} {v : Int32} (hw : Cond.constant own index v ∈ lw_tbl) (hdg : decode cc pc = .ok (.ldc index, 2)) (kk : V p l e R s m args below meth c D A nL cells slots Q (pc + 2) vs (.int v :: st) ws) : V p l e R s m args below meth c D A nL cells slots Q pc vs st ws :=
  fun H locs ls h1 h2 h3 h4 => lv_ldc C.1 C.2.1 C.2.2.2.1 (C.2.2.2.2.1 _ (gtb_in hw rfl)) hdg (kk H locs ls h1 h2 h3 h4)
theorem v_ldcw (C : Cx p s m args meth c cc nL rt own D kA) {index : Nat} {v : Int32} (hw : Cond.constant own index v ∈ lw_tbl) (hdg : decode cc pc = .ok (.ldc_w index, 3)) (kk : V p l e R s m args below meth c D A nL cells slots Q (pc + 3) vs (.int v :: st) ws) : V p l e R s m args below meth c D A nL cells slots Q pc vs st ws :=
  fun H locs ls h1 h2 h3 h4 => lv_ldcw C.1 C.2.1 C.2.2.2.1 (C.2.2.2.2.1 _ (gtb_in hw rfl)) hdg (kk H locs ls h1 h2 h3 h4)
theorem v_iload_n (C : Cx p s m args meth c cc nL rt own D kA) {k : Fin 4} {x : Int32} (hdg : decode cc pc = .ok (.iload_n k, 1)) (hl : vs[(k : Nat)]? = some (.int x)) (kk : V p l e R s m args below meth c D A nL cells slots Q (pc + 1) vs (.int x :: st) ws) : V p l e R s m args below meth c D A nL cells slots Q pc vs st ws :=
  fun H locs ls h1 h2 h3 h4 => lv_iload_n C.1 C.2.1 hdg rfl (h4.2.2.2 _ _ hl) (kk H locs ls h1 h2 h3 h4)
theorem v_iload (C : Cx p s m args meth c cc nL rt own D kA) {i : Nat} {x : Int32} (hdg : decode cc pc = .ok (.iload i, 2)) (hl : vs[i]? = some (.int x)) (kk : V p l e R s m args below meth c D A nL cells slots Q (pc + 2) vs (.int x :: st) ws) : V p l e R s m args below meth c D A nL cells slots Q pc vs st ws :=
  fun H locs ls h1 h2 h3 h4 => lv_iload C.1 C.2.1 hdg (h4.2.2.2 _ _ hl) (kk H locs ls h1 h2 h3 h4)
theorem v_aload_n (C : Cx p s m args meth c cc nL rt own D kA) {k : Fin 4} {x : Nat} (hdg : decode cc pc = .ok (.aload_n k, 1)) (hl : vs[(k : Nat)]? = some (.ref x)) (kk : V p l e R s m args below meth c D A nL cells slots Q (pc + 1) vs (.ref x :: st) ws) : V p l e R s m args below meth c D A nL cells slots Q pc vs st ws :=
  fun H locs ls h1 h2 h3 h4 => lv_aload_n C.1 C.2.1 hdg rfl (h4.2.2.2 _ _ hl) (kk H locs ls h1 h2 h3 h4)
theorem v_aload (C : Cx p s m args meth c cc nL rt own D kA) {i : Nat} {x : Nat} (hdg : decode cc pc = .ok (.aload i, 2)) (hl : vs[i]? = some (.ref x)) (kk : V p l e R s m args below meth c D A nL cells slots Q (pc + 2) vs (.ref x :: st) ws) : V p l e R s m args below meth c D A nL cells slots Q pc vs st ws :=
  fun H locs ls h1 h2 h3 h4 => lv_aload C.1 C.2.1 hdg (h4.2.2.2 _ _ hl) (kk H locs ls h1 h2 h3 h4)
theorem v_istore_n (C : Cx p s m args meth c cc nL rt own D kA) {k : Fin 4} {x : Int32} (hdg : decode cc pc = .ok (.istore_n k, 1)) (hi : (k : Nat) ≤ vs.length ∧ (k : Nat) < nL) (vs' : List Value) (hv : sv vs k (.int x) = vs') (kk : V p l e R s m args below meth c D A nL cells slots Q (pc + 1) vs' st ws) : V p l e R s m args below meth c D A nL cells slots Q pc vs (.int x :: st) ws :=
  fun H locs ls h1 h2 h3 h4 => lv_istore_n C.1 C.2.1 hdg rfl h4.has hi.2 rfl (fun ls' h' => kk H locs ls' h1 h2 h3 (h4.store hi.1 rfl hv h'))
theorem v_istore (C : Cx p s m args meth c cc nL rt own D kA) {i : Nat} {x : Int32} (hdg : decode cc pc = .ok (.istore i, 2)) (hi : i ≤ vs.length ∧ i < nL) (vs' : List Value) (hv : sv vs i (.int x) = vs') (kk : V p l e R s m args below meth c D A nL cells slots Q (pc + 2) vs' st ws) : V p l e R s m args below meth c D A nL cells slots Q pc vs (.int x :: st) ws :=
  fun H locs ls h1 h2 h3 h4 => lv_istore C.1 C.2.1 hdg h4.has hi.2 rfl (fun ls' h' => kk H locs ls' h1 h2 h3 (h4.store hi.1 rfl hv h'))
theorem v_astore_n (C : Cx p s m args meth c cc nL rt own D kA) {k : Fin 4} {x : Nat} (hdg : decode cc pc = .ok (.astore_n k, 1)) (hi : (k : Nat) ≤ vs.length ∧ (k : Nat) < nL) (vs' : List Value) (hv : sv vs k (.ref x) = vs') (kk : V p l e R s m args below meth c D A nL cells slots Q (pc + 1) vs' st ws) : V p l e R s m args below meth c D A nL cells slots Q pc vs (.ref x :: st) ws :=
  fun H locs ls h1 h2 h3 h4 => lv_astore_n C.1 C.2.1 hdg rfl h4.has hi.2 rfl (fun ls' h' => kk H locs ls' h1 h2 h3 (h4.store hi.1 rfl hv h'))
theorem v_astore (C : Cx p s m args meth c cc nL rt own D kA) {i : Nat} {x : Nat} (hdg : decode cc pc = .ok (.astore i, 2)) (hi : i ≤ vs.length ∧ i < nL) (vs' : List Value) (hv : sv vs i (.ref x) = vs') (kk : V p l e R s m args below meth c D A nL cells slots Q (pc + 2) vs' st ws) : V p l e R s m args below meth c D A nL cells slots Q pc vs (.ref x :: st) ws :=
  fun H locs ls h1 h2 h3 h4 => lv_astore C.1 C.2.1 hdg h4.has hi.2 rfl (fun ls' h' => kk H locs ls' h1 h2 h3 (h4.store hi.1 rfl hv h'))
theorem v_iinc (C : Cx p s m args meth c cc nL rt own D kA) {i : Nat} {n : Int} {x : Int32} (hdg : decode cc pc = .ok (.iinc i n, 3)) (hl : vs[i]? = some (.int x)) (hi : i ≤ vs.length ∧ i < nL) (v : Int32) (hx : x + Int32.ofInt n = v) (vs' : List Value) (hv : sv vs i (.int v) = vs') (kk : V p l e R s m args below meth c D A nL cells slots Q (pc + 3) vs' st ws) : V p l e R s m args below meth c D A nL cells slots Q pc vs st ws :=
  fun H locs ls h1 h2 h3 h4 => by
    obtain ⟨k, hk⟩ := List.getElem?_of_mem ((lvp_mem vs 0 i (.int x)).mpr ⟨Nat.zero_le _, by simpa using hl⟩)
    exact lv_iinc C.1 C.2.1 hdg h4.has hk hx hi.2 rfl (fun ls' h' => kk H locs ls' h1 h2 h3 (h4.store hi.1 rfl hv h'))
theorem v_dup (C : Cx p s m args meth c cc nL rt own D kA) {va : Value} (hdg : decode cc pc = .ok (.dup, 1)) (hva : va.category = 1) (kk : V p l e R s m args below meth c D A nL cells slots Q (pc + 1) vs (va :: va :: st) ws) : V p l e R s m args below meth c D A nL cells slots Q pc vs (va :: st) ws :=
  fun H locs ls h1 h2 h3 h4 => lv_dup C.1 C.2.1 hdg hva (kk H locs ls h1 h2 h3 h4)
theorem v_pop (C : Cx p s m args meth c cc nL rt own D kA) {va : Value} (hdg : decode cc pc = .ok (.pop, 1)) (hva : va.category = 1) (kk : V p l e R s m args below meth c D A nL cells slots Q (pc + 1) vs st ws) : V p l e R s m args below meth c D A nL cells slots Q pc vs (va :: st) ws :=
  fun H locs ls h1 h2 h3 h4 => lv_pop C.1 C.2.1 hdg hva (kk H locs ls h1 h2 h3 h4)
theorem v_dup2 (C : Cx p s m args meth c cc nL rt own D kA) {va vb : Value} (hdg : decode cc pc = .ok (.dup2, 1)) (hva : va.category = 1) (hvb : vb.category = 1) (kk : V p l e R s m args below meth c D A nL cells slots Q (pc + 1) vs (va :: vb :: va :: vb :: st) ws) : V p l e R s m args below meth c D A nL cells slots Q pc vs (va :: vb :: st) ws :=
  fun H locs ls h1 h2 h3 h4 => lv_dup2_11 C.1 C.2.1 hdg hva hvb (kk H locs ls h1 h2 h3 h4)
theorem v_iadd (C : Cx p s m args meth c cc nL rt own D kA) {a b : Nat} (hdg : decode cc pc = .ok (.iadd, 1)) (kk : V p l e R s m args below meth c D A nL cells slots Q (pc + 1) vs (.int (nI (a + b)) :: st) ws) : V p l e R s m args below meth c D A nL cells slots Q pc vs (.int (nI b) :: .int (nI a) :: st) ws :=
  fun H locs ls h1 h2 h3 h4 => lv_iadd C.1 C.2.1 hdg (by rw [nI_add]; exact kk H locs ls h1 h2 h3 h4)
theorem v_imul (C : Cx p s m args meth c cc nL rt own D kA) {a b : Nat} (hdg : decode cc pc = .ok (.imul, 1)) (kk : V p l e R s m args below meth c D A nL cells slots Q (pc + 1) vs (.int (nI (a * b)) :: st) ws) : V p l e R s m args below meth c D A nL cells slots Q pc vs (.int (nI b) :: .int (nI a) :: st) ws :=
  fun H locs ls h1 h2 h3 h4 => lv_imul C.1 C.2.1 hdg (by rw [pk_mul]; exact kk H locs ls h1 h2 h3 h4)
theorem v_isub (C : Cx p s m args meth c cc nL rt own D kA) {a b : Nat} (hdg : decode cc pc = .ok (.isub, 1)) (h : b ≤ a) (kk : V p l e R s m args below meth c D A nL cells slots Q (pc + 1) vs (.int (nI (a - b)) :: st) ws) : V p l e R s m args below meth c D A nL cells slots Q pc vs (.int (nI b) :: .int (nI a) :: st) ws :=
  fun H locs ls h1 h2 h3 h4 => lv_isub C.1 C.2.1 hdg (by rw [pk_sub h]; exact kk H locs ls h1 h2 h3 h4)
theorem v_irem (C : Cx p s m args meth c cc nL rt own D kA) {a b : Nat} (hdg : decode cc pc = .ok (.irem, 1)) (ha : a < 2 ^ 31) (h0 : 0 < b) (hb : b < 2 ^ 31) (kk : V p l e R s m args below meth c D A nL cells slots Q (pc + 1) vs (.int (nI (a % b)) :: st) ws) : V p l e R s m args below meth c D A nL cells slots Q pc vs (.int (nI b) :: .int (nI a) :: st) ws :=
  fun H locs ls h1 h2 h3 h4 => lv_irem C.1 C.2.1 hdg (nI_ne0 h0 hb) (by rw [pk_rem ha h0 hb]; exact kk H locs ls h1 h2 h3 h4)
theorem v_iaddR (C : Cx p s m args meth c cc nL rt own D kA) {x y : Int32} (hdg : decode cc pc = .ok (.iadd, 1)) (kk : V p l e R s m args below meth c D A nL cells slots Q (pc + 1) vs (.int (x + y) :: st) ws) : V p l e R s m args below meth c D A nL cells slots Q pc vs (.int y :: .int x :: st) ws :=
  fun H locs ls h1 h2 h3 h4 => lv_iadd C.1 C.2.1 hdg (kk H locs ls h1 h2 h3 h4)
theorem v_isubR (C : Cx p s m args meth c cc nL rt own D kA) {x y : Int32} (hdg : decode cc pc = .ok (.isub, 1)) (kk : V p l e R s m args below meth c D A nL cells slots Q (pc + 1) vs (.int (x - y) :: st) ws) : V p l e R s m args below meth c D A nL cells slots Q pc vs (.int y :: .int x :: st) ws :=
  fun H locs ls h1 h2 h3 h4 => lv_isub C.1 C.2.1 hdg (kk H locs ls h1 h2 h3 h4)
theorem v_iandR (C : Cx p s m args meth c cc nL rt own D kA) {x y : Int32} (hdg : decode cc pc = .ok (.iand, 1)) (kk : V p l e R s m args below meth c D A nL cells slots Q (pc + 1) vs (.int (x &&& y) :: st) ws) : V p l e R s m args below meth c D A nL cells slots Q pc vs (.int y :: .int x :: st) ws :=
  fun H locs ls h1 h2 h3 h4 => lv_iand C.1 C.2.1 hdg (kk H locs ls h1 h2 h3 h4)
theorem v_iushrR (C : Cx p s m args meth c cc nL rt own D kA) {x y v : Int32} (hdg : decode cc pc = .ok (.iushr, 1)) (hv : (x.toUInt32 >>> (y.toUInt32 &&& Int32.toUInt32 31)).toInt32 = v) (kk : V p l e R s m args below meth c D A nL cells slots Q (pc + 1) vs (.int v :: st) ws) : V p l e R s m args below meth c D A nL cells slots Q pc vs (.int y :: .int x :: st) ws :=
  fun H locs ls h1 h2 h3 h4 => lv_iushr C.1 C.2.1 hdg hv (kk H locs ls h1 h2 h3 h4)
theorem v_goto (C : Cx p s m args meth c cc nL rt own D kA) {off : Int} (hdg : decode cc pc = .ok (.goto off, 3)) (tgt : Nat) (ht : (pc : Int) + off = (tgt : Int)) (kk : V p l e R s m args below meth c D A nL cells slots Q tgt vs st ws) : V p l e R s m args below meth c D A nL cells slots Q pc vs st ws :=
  fun H locs ls h1 h2 h3 h4 => lv_goto C.1 C.2.1 hdg ht (kk H locs ls h1 h2 h3 h4)
theorem v_icmp_eqR (C : Cx p s m args meth c cc nL rt own D kA) {x y : Int32} {off : Int} (hdg : decode cc pc = .ok (.if_icmp .eq off, 3)) (tgt : Nat) (ht : (pc : Int) + off = (tgt : Int)) (kt : x = y → V p l e R s m args below meth c D A nL cells slots Q tgt vs st ws) (kf : ¬ (x = y) → V p l e R s m args below meth c D A nL cells slots Q (pc + 3) vs st ws) : V p l e R s m args below meth c D A nL cells slots Q pc vs (.int y :: .int x :: st) ws :=
  fun H locs ls h1 h2 h3 h4 => lv_icmp_eq C.1 C.2.1 hdg ht (fun q => kt q H locs ls h1 h2 h3 h4) (fun q => kf q H locs ls h1 h2 h3 h4)
theorem v_icmp_eq (C : Cx p s m args meth c cc nL rt own D kA) {a b : Nat} {off : Int} (hdg : decode cc pc = .ok (.if_icmp .eq off, 3)) (tgt : Nat) (ht : (pc : Int) + off = (tgt : Int)) (ha : a < 2 ^ 31) (hb : b < 2 ^ 31) (kt : a = b → V p l e R s m args below meth c D A nL cells slots Q tgt vs st ws) (kf : a ≠ b → V p l e R s m args below meth c D A nL cells slots Q (pc + 3) vs st ws) : V p l e R s m args below meth c D A nL cells slots Q pc vs (.int (nI b) :: .int (nI a) :: st) ws :=
  v_icmp_eqR C hdg tgt ht (fun q => kt ((nI_eq ha hb).mp q)) (fun q => kf (fun z => q ((nI_eq ha hb).mpr z)))
theorem v_icmp_neR (C : Cx p s m args meth c cc nL rt own D kA) {x y : Int32} {off : Int} (hdg : decode cc pc = .ok (.if_icmp .ne off, 3)) (tgt : Nat) (ht : (pc : Int) + off = (tgt : Int)) (kt : ¬ x = y → V p l e R s m args below meth c D A nL cells slots Q tgt vs st ws) (kf : x = y → V p l e R s m args below meth c D A nL cells slots Q (pc + 3) vs st ws) : V p l e R s m args below meth c D A nL cells slots Q pc vs (.int y :: .int x :: st) ws :=
  fun H locs ls h1 h2 h3 h4 => lv_icmp_ne C.1 C.2.1 hdg ht (fun q => kt q H locs ls h1 h2 h3 h4) (fun q => kf q H locs ls h1 h2 h3 h4)
theorem v_icmp_ne (C : Cx p s m args meth c cc nL rt own D kA) {a b : Nat} {off : Int} (hdg : decode cc pc = .ok (.if_icmp .ne off, 3)) (tgt : Nat) (ht : (pc : Int) + off = (tgt : Int)) (ha : a < 2 ^ 31) (hb : b < 2 ^ 31) (kt : a ≠ b → V p l e R s m args below meth c D A nL cells slots Q tgt vs st ws) (kf : a = b → V p l e R s m args below meth c D A nL cells slots Q (pc + 3) vs st ws) : V p l e R s m args below meth c D A nL cells slots Q pc vs (.int (nI b) :: .int (nI a) :: st) ws :=
  v_icmp_neR C hdg tgt ht (fun q => kt (fun z => q ((nI_eq ha hb).mpr z))) (fun q => kf ((nI_eq ha hb).mp q))
theorem v_icmp_ltR (C : Cx p s m args meth c cc nL rt own D kA) {x y : Int32} {off : Int} (hdg : decode cc pc = .ok (.if_icmp .lt off, 3)) (tgt : Nat) (ht : (pc : Int) + off = (tgt : Int)) (kt : x < y → V p l e R s m args below meth c D A nL cells slots Q tgt vs st ws) (kf : ¬ (x < y) → V p l e R s m args below meth c D A nL cells slots Q (pc + 3) vs st ws) : V p l e R s m args below meth c D A nL cells slots Q pc vs (.int y :: .int x :: st) ws :=
  fun H locs ls h1 h2 h3 h4 => lv_icmp_lt C.1 C.2.1 hdg ht (fun q => kt q H locs ls h1 h2 h3 h4) (fun q => kf q H locs ls h1 h2 h3 h4)
theorem v_icmp_lt (C : Cx p s m args meth c cc nL rt own D kA) {a b : Nat} {off : Int} (hdg : decode cc pc = .ok (.if_icmp .lt off, 3)) (tgt : Nat) (ht : (pc : Int) + off = (tgt : Int)) (ha : a < 2 ^ 31) (hb : b < 2 ^ 31) (kt : a < b → V p l e R s m args below meth c D A nL cells slots Q tgt vs st ws) (kf : b ≤ a → V p l e R s m args below meth c D A nL cells slots Q (pc + 3) vs st ws) : V p l e R s m args below meth c D A nL cells slots Q pc vs (.int (nI b) :: .int (nI a) :: st) ws :=
  v_icmp_ltR C hdg tgt ht (fun q => kt ((nI_ltI ha hb).mp q)) (fun q => kf (Nat.le_of_not_lt (fun z => q ((nI_ltI ha hb).mpr z))))
theorem v_icmp_geR (C : Cx p s m args meth c cc nL rt own D kA) {x y : Int32} {off : Int} (hdg : decode cc pc = .ok (.if_icmp .ge off, 3)) (tgt : Nat) (ht : (pc : Int) + off = (tgt : Int)) (kt : y ≤ x → V p l e R s m args below meth c D A nL cells slots Q tgt vs st ws) (kf : ¬ (y ≤ x) → V p l e R s m args below meth c D A nL cells slots Q (pc + 3) vs st ws) : V p l e R s m args below meth c D A nL cells slots Q pc vs (.int y :: .int x :: st) ws :=
  fun H locs ls h1 h2 h3 h4 => lv_icmp_ge C.1 C.2.1 hdg ht (fun q => kt q H locs ls h1 h2 h3 h4) (fun q => kf q H locs ls h1 h2 h3 h4)
theorem v_icmp_ge (C : Cx p s m args meth c cc nL rt own D kA) {a b : Nat} {off : Int} (hdg : decode cc pc = .ok (.if_icmp .ge off, 3)) (tgt : Nat) (ht : (pc : Int) + off = (tgt : Int)) (ha : a < 2 ^ 31) (hb : b < 2 ^ 31) (kt : b ≤ a → V p l e R s m args below meth c D A nL cells slots Q tgt vs st ws) (kf : a < b → V p l e R s m args below meth c D A nL cells slots Q (pc + 3) vs st ws) : V p l e R s m args below meth c D A nL cells slots Q pc vs (.int (nI b) :: .int (nI a) :: st) ws :=
  v_icmp_geR C hdg tgt ht (fun q => kt ((nI_leI hb ha).mp q)) (fun q => kf (Nat.lt_of_not_le (fun z => q ((nI_leI hb ha).mpr z))))
theorem v_icmp_gtR (C : Cx p s m args meth c cc nL rt own D kA) {x y : Int32} {off : Int} (hdg : decode cc pc = .ok (.if_icmp .gt off, 3)) (tgt : Nat) (ht : (pc : Int) + off = (tgt : Int)) (kt : y < x → V p l e R s m args below meth c D A nL cells slots Q tgt vs st ws) (kf : ¬ (y < x) → V p l e R s m args below meth c D A nL cells slots Q (pc + 3) vs st ws) : V p l e R s m args below meth c D A nL cells slots Q pc vs (.int y :: .int x :: st) ws :=
  fun H locs ls h1 h2 h3 h4 => lv_icmp_gt C.1 C.2.1 hdg ht (fun q => kt q H locs ls h1 h2 h3 h4) (fun q => kf q H locs ls h1 h2 h3 h4)
theorem v_icmp_gt (C : Cx p s m args meth c cc nL rt own D kA) {a b : Nat} {off : Int} (hdg : decode cc pc = .ok (.if_icmp .gt off, 3)) (tgt : Nat) (ht : (pc : Int) + off = (tgt : Int)) (ha : a < 2 ^ 31) (hb : b < 2 ^ 31) (kt : b < a → V p l e R s m args below meth c D A nL cells slots Q tgt vs st ws) (kf : a ≤ b → V p l e R s m args below meth c D A nL cells slots Q (pc + 3) vs st ws) : V p l e R s m args below meth c D A nL cells slots Q pc vs (.int (nI b) :: .int (nI a) :: st) ws :=
  v_icmp_gtR C hdg tgt ht (fun q => kt ((nI_ltI hb ha).mp q)) (fun q => kf (Nat.le_of_not_lt (fun z => q ((nI_ltI hb ha).mpr z))))
theorem v_icmp_leR (C : Cx p s m args meth c cc nL rt own D kA) {x y : Int32} {off : Int} (hdg : decode cc pc = .ok (.if_icmp .le off, 3)) (tgt : Nat) (ht : (pc : Int) + off = (tgt : Int)) (kt : x ≤ y → V p l e R s m args below meth c D A nL cells slots Q tgt vs st ws) (kf : ¬ (x ≤ y) → V p l e R s m args below meth c D A nL cells slots Q (pc + 3) vs st ws) : V p l e R s m args below meth c D A nL cells slots Q pc vs (.int y :: .int x :: st) ws :=
  fun H locs ls h1 h2 h3 h4 => lv_icmp_le C.1 C.2.1 hdg ht (fun q => kt q H locs ls h1 h2 h3 h4) (fun q => kf q H locs ls h1 h2 h3 h4)
theorem v_icmp_le (C : Cx p s m args meth c cc nL rt own D kA) {a b : Nat} {off : Int} (hdg : decode cc pc = .ok (.if_icmp .le off, 3)) (tgt : Nat) (ht : (pc : Int) + off = (tgt : Int)) (ha : a < 2 ^ 31) (hb : b < 2 ^ 31) (kt : a ≤ b → V p l e R s m args below meth c D A nL cells slots Q tgt vs st ws) (kf : b < a → V p l e R s m args below meth c D A nL cells slots Q (pc + 3) vs st ws) : V p l e R s m args below meth c D A nL cells slots Q pc vs (.int (nI b) :: .int (nI a) :: st) ws :=
  v_icmp_leR C hdg tgt ht (fun q => kt ((nI_leI ha hb).mp q)) (fun q => kf (Nat.lt_of_not_le (fun z => q ((nI_leI ha hb).mpr z))))
theorem v_if_eqR (C : Cx p s m args meth c cc nL rt own D kA) {x : Int32} {off : Int} (hdg : decode cc pc = .ok (.ifCond .eq off, 3)) (tgt : Nat) (ht : (pc : Int) + off = (tgt : Int)) (kt : x = 0 → V p l e R s m args below meth c D A nL cells slots Q tgt vs st ws) (kf : ¬ (x = 0) → V p l e R s m args below meth c D A nL cells slots Q (pc + 3) vs st ws) : V p l e R s m args below meth c D A nL cells slots Q pc vs (.int x :: st) ws :=
  fun H locs ls h1 h2 h3 h4 => lv_if_eq C.1 C.2.1 hdg ht (fun q => kt q H locs ls h1 h2 h3 h4) (fun q => kf q H locs ls h1 h2 h3 h4)
theorem v_if_neR (C : Cx p s m args meth c cc nL rt own D kA) {x : Int32} {off : Int} (hdg : decode cc pc = .ok (.ifCond .ne off, 3)) (tgt : Nat) (ht : (pc : Int) + off = (tgt : Int)) (kt : ¬ x = 0 → V p l e R s m args below meth c D A nL cells slots Q tgt vs st ws) (kf : x = 0 → V p l e R s m args below meth c D A nL cells slots Q (pc + 3) vs st ws) : V p l e R s m args below meth c D A nL cells slots Q pc vs (.int x :: st) ws :=
  fun H locs ls h1 h2 h3 h4 => lv_if_ne C.1 C.2.1 hdg ht (fun q => kt q H locs ls h1 h2 h3 h4) (fun q => kf q H locs ls h1 h2 h3 h4)
theorem v_if_ltR (C : Cx p s m args meth c cc nL rt own D kA) {x : Int32} {off : Int} (hdg : decode cc pc = .ok (.ifCond .lt off, 3)) (tgt : Nat) (ht : (pc : Int) + off = (tgt : Int)) (kt : x < 0 → V p l e R s m args below meth c D A nL cells slots Q tgt vs st ws) (kf : ¬ (x < 0) → V p l e R s m args below meth c D A nL cells slots Q (pc + 3) vs st ws) : V p l e R s m args below meth c D A nL cells slots Q pc vs (.int x :: st) ws :=
  fun H locs ls h1 h2 h3 h4 => lv_if_lt C.1 C.2.1 hdg ht (fun q => kt q H locs ls h1 h2 h3 h4) (fun q => kf q H locs ls h1 h2 h3 h4)
theorem v_if_geR (C : Cx p s m args meth c cc nL rt own D kA) {x : Int32} {off : Int} (hdg : decode cc pc = .ok (.ifCond .ge off, 3)) (tgt : Nat) (ht : (pc : Int) + off = (tgt : Int)) (kt : 0 ≤ x → V p l e R s m args below meth c D A nL cells slots Q tgt vs st ws) (kf : ¬ (0 ≤ x) → V p l e R s m args below meth c D A nL cells slots Q (pc + 3) vs st ws) : V p l e R s m args below meth c D A nL cells slots Q pc vs (.int x :: st) ws :=
  fun H locs ls h1 h2 h3 h4 => lv_if_ge C.1 C.2.1 hdg ht (fun q => kt q H locs ls h1 h2 h3 h4) (fun q => kf q H locs ls h1 h2 h3 h4)
theorem v_if_gtR (C : Cx p s m args meth c cc nL rt own D kA) {x : Int32} {off : Int} (hdg : decode cc pc = .ok (.ifCond .gt off, 3)) (tgt : Nat) (ht : (pc : Int) + off = (tgt : Int)) (kt : 0 < x → V p l e R s m args below meth c D A nL cells slots Q tgt vs st ws) (kf : ¬ (0 < x) → V p l e R s m args below meth c D A nL cells slots Q (pc + 3) vs st ws) : V p l e R s m args below meth c D A nL cells slots Q pc vs (.int x :: st) ws :=
  fun H locs ls h1 h2 h3 h4 => lv_if_gt C.1 C.2.1 hdg ht (fun q => kt q H locs ls h1 h2 h3 h4) (fun q => kf q H locs ls h1 h2 h3 h4)
theorem v_if_leR (C : Cx p s m args meth c cc nL rt own D kA) {x : Int32} {off : Int} (hdg : decode cc pc = .ok (.ifCond .le off, 3)) (tgt : Nat) (ht : (pc : Int) + off = (tgt : Int)) (kt : x ≤ 0 → V p l e R s m args below meth c D A nL cells slots Q tgt vs st ws) (kf : ¬ (x ≤ 0) → V p l e R s m args below meth c D A nL cells slots Q (pc + 3) vs st ws) : V p l e R s m args below meth c D A nL cells slots Q pc vs (.int x :: st) ws :=
  fun H locs ls h1 h2 h3 h4 => lv_if_le C.1 C.2.1 hdg ht (fun q => kt q H locs ls h1 h2 h3 h4) (fun q => kf q H locs ls h1 h2 h3 h4)
theorem v_if_eq (C : Cx p s m args meth c cc nL rt own D kA) {a : Nat} {off : Int} (hdg : decode cc pc = .ok (.ifCond .eq off, 3)) (tgt : Nat) (ht : (pc : Int) + off = (tgt : Int)) (ha : a < 2 ^ 31) (kt : a = 0 → V p l e R s m args below meth c D A nL cells slots Q tgt vs st ws) (kf : a ≠ 0 → V p l e R s m args below meth c D A nL cells slots Q (pc + 3) vs st ws) : V p l e R s m args below meth c D A nL cells slots Q pc vs (.int (nI a) :: st) ws :=
  v_if_eqR C hdg tgt ht (fun q => kt ((nI_eq ha (by decide)).mp (by rw [q]; rfl))) (fun q => kf (fun z => q (by rw [z]; rfl)))
theorem v_if_ne (C : Cx p s m args meth c cc nL rt own D kA) {a : Nat} {off : Int} (hdg : decode cc pc = .ok (.ifCond .ne off, 3)) (tgt : Nat) (ht : (pc : Int) + off = (tgt : Int)) (ha : a < 2 ^ 31) (kt : a ≠ 0 → V p l e R s m args below meth c D A nL cells slots Q tgt vs st ws) (kf : a = 0 → V p l e R s m args below meth c D A nL cells slots Q (pc + 3) vs st ws) : V p l e R s m args below meth c D A nL cells slots Q pc vs (.int (nI a) :: st) ws :=
  v_if_neR C hdg tgt ht (fun q => kt (fun z => q (by rw [z]; rfl))) (fun q => kf ((nI_eq ha (by decide)).mp (by rw [q]; rfl)))
end VR
/-! cells: reading by membership, writing by place -/
def Wset (ws : va_W) (a : Nat) (e0 e1 : va_E) (ws' : va_W) : Prop := ∃ q0, ws[q0]? = some (a, e0) ∧ ws.set q0 (a, e1) = ws'
theorem Wset.mid (w0 w1 : va_W) (a : Nat) (e0 e1 : va_E) : Wset (w0 ++ (a, e0) :: w1) a e0 e1 (w0 ++ (a, e1) :: w1) :=
  ⟨w0.length, by simp, by simp⟩
theorem Wset.app {ws ws' : va_W} {a : Nat} {e0 e1 : va_E} (h : Wset ws a e0 e1 ws') (w1 : va_W) : Wset (ws ++ w1) a e0 e1 (ws' ++ w1) := by
  obtain ⟨q, h0, rfl⟩ := h
  have hl : q < ws.length := (List.getElem?_eq_some_iff.mp h0).1
  exact ⟨q, by rw [List.getElem?_append_left hl]; exact h0, by rw [List.set_append_left _ _ hl]⟩
theorem Wset.pre {ws ws' : va_W} {a : Nat} {e0 e1 : va_E} (h : Wset ws a e0 e1 ws') (w0 : va_W) : Wset (w0 ++ ws) a e0 e1 (w0 ++ ws') := by
  obtain ⟨q, h0, rfl⟩ := h
  refine ⟨w0.length + q, by rw [List.getElem?_append_right (by omega)]; simpa using h0, ?_⟩
  rw [List.set_append_right _ _ (by omega)]; simp
theorem va_P.setTo {D : va_G} {cl : List vw_C} {A : Nat → Prop} {ws : va_W} {q0 a : Nat} {e0 e e' : va_E} {H : Heap} (h : va_P D cl (ws.set q0 (a, e)) H) (hD : va_D A ws) (h0 : ws[q0]? = some (a, e0)) (he : va_at D cl (a, e) H → va_at D cl (a, e') H) : va_P D cl (ws.set q0 (a, e')) H := by
  intro k q hk
  have hl : q0 < ws.length := (List.getElem?_eq_some_iff.mp h0).1
  by_cases hq : q0 = k
  · subst hq
    rw [List.getElem?_set_self hl] at hk
    cases hk
    exact he (h q0 (a, e) (by rw [List.getElem?_set_self hl]))
  · rw [List.getElem?_set_ne hq] at hk
    exact h k q (by rw [List.getElem?_set_ne hq]; exact hk)
theorem cell_ext {cA : ClassId} {N : Nat} {f g : Nat → Int32} (h : ∀ j, j < N → g j = f j) : vp_cell cA (N, .inl f) = vp_cell cA (N, .inl g) := by
  rw [vp_cell_i, vp_cell_i]
  unfold arrV
  congr 1
  apply Array.ext
  · simp
  · intro i h1 h2
    simp at h1
    simp [h i h1]
section VF
variable {p : Program} {l : Launch} {e : Env} {R : Room} {s : State} {m : MethodId} {args : Array Value} {below : List Frame} {meth : Method} {c : Code} {D : va_G} {A : Nat → Prop} {nL cells slots : Nat} {Q : State → Prop} {pc : Nat} {vs st : List Value} {ws : va_W} {cc : ByteArray} {rt : Option FieldType} {own : String} {kA : Nat → ClassId}
theorem v_getf (C : Cx p s m args meth c cc nL rt own D kA) {C0 : String} {T : u_T} {N ci index a : Nat} {fs : List Value} (hin : ∀ w ∈ u_ws C0 T N, w ∈ lw_tbl) (hc : kcl[ci]? = some (C0, T, N)) (k : Nat) (hk : k < N) (he : (a, .inr (ci, fs)) ∈ ws) (hlink : Cond.fieldLink own index (T k).1 (T k).2.1 (T k).2.2.1 ∈ lw_tbl) (hdg : decode cc pc = .ok (.getfield index, 3)) (v : Value) (hv : fs[k]? = some v) (kk : V p l e R s m args below meth c D A nL cells slots Q (pc + 3) vs (v :: st) ws) : V p l e R s m args below meth c D A nL cells slots Q pc vs (.ref a :: st) ws := fun H locs ls h1 h2 h3 h4 => by
  obtain ⟨q0, h0⟩ := List.getElem?_of_mem he
  exact va_get C.1 C.2.1 C.2.2.2.2.1 (gtb_lay hin) C.2.2.2.1 C.2.2.2.2.2.1 h1 q0 h0 hc k hk (C.2.2.2.2.1 _ (gtb_in hlink rfl)) (fun _ h => h) hv hdg (kk H locs ls h1 h2 h3 h4)
theorem v_getfN (C : Cx p s m args meth c cc nL rt own D kA) {C0 host : String} {T : u_T} {N ci index a : Nat} {fs : List Value} (hin : ∀ w ∈ u_ws C0 T N, w ∈ lw_tbl) (hc : kcl[ci]? = some (C0, T, N)) (k : Nat) (hk : k < N) (he : (a, .inr (ci, fs)) ∈ ws) (hlink : va_Nw (Cond.fieldLinkNest own index (T k).1 (T k).2.1 (T k).2.2.1 host) s) (hdg : decode cc pc = .ok (.getfield index, 3)) (v : Value) (hv : fs[k]? = some v) (kk : V p l e R s m args below meth c D A nL cells slots Q (pc + 3) vs (v :: st) ws) : V p l e R s m args below meth c D A nL cells slots Q pc vs (.ref a :: st) ws := fun H locs ls h1 h2 h3 h4 => by
  obtain ⟨q0, h0⟩ := List.getElem?_of_mem he
  exact va_getN C.1 C.2.1 C.2.2.2.2.1 (gtb_lay hin) C.2.2.2.1 C.2.2.2.2.2.1 h1 q0 h0 hc k hk (va_Nw.use rfl hlink) (fun _ h => h) hv hdg (kk H locs ls h1 h2 h3 h4)
theorem v_putf (C : Cx p s m args meth c cc nL rt own D kA) {C0 : String} {T : u_T} {N ci index a : Nat} {fs fs' : List Value} {ws' : va_W} {v : Value} (hin : ∀ w ∈ u_ws C0 T N, w ∈ lw_tbl) {ty0 : Nat → FieldType} (hty : ∀ k, k < N → parseFieldDescriptor (T k).2.2.1 = some (ty0 k)) (hnm : ∀ a, a < N → ∀ b, b < N → a ≠ b → (T a).2.1 ≠ (T b).2.1) (hc : kcl[ci]? = some (C0, T, N)) (k : Nat) (hk : k < N) (he : Wset ws a (.inr (ci, fs)) (.inr (ci, fs')) ws') (hlink : Cond.fieldLink own index (T k).1 (T k).2.1 (T k).2.2.1 ∈ lw_tbl) (hdg : decode cc pc = .ok (.putfield index, 3)) (hfin : (T k).2.2.2 = false) (hn : narrow (ty0 k) v = v) (hfit : fits (ty0 k) v = true) (hl : k < fs.length) (hf : fs.set k v = fs') (kk : V p l e R s m args below meth c D A nL cells slots Q (pc + 3) vs st ws') : V p l e R s m args below meth c D A nL cells slots Q pc vs (v :: .ref a :: st) ws := fun H locs ls h1 h2 h3 h4 => by
  obtain ⟨q0, h0, rfl⟩ := he
  subst hf
  exact va_put C.1 C.2.1 C.2.2.2.2.1 (gtb_lay hin) ty0 hty hnm C.2.2.2.1 C.2.2.2.2.2.1 h1 h2 h3 q0 h0 hc k hk (C.2.2.2.2.1 _ (gtb_in hlink rfl)) (fun _ h => h) hfin (hty k hk) hn hfit hl hdg (fun H1 locs1 p1 d1 s1 => kk H1 locs1 ls p1 d1 s1 h4)
theorem v_iald (C : Cx p s m args meth c cc nL rt own D kA) {a N : Nat} {f : Nat → Int32} (he : (a, .inl (kA 0, N, .inl f)) ∈ ws) {i : Nat} (hi : i < N) (hN : N < 2 ^ 31) (hdg : decode cc pc = .ok (.iaload, 1)) (v : Int32) (hv : f i = v) (kk : V p l e R s m args below meth c D A nL cells slots Q (pc + 1) vs (.int v :: st) ws) : V p l e R s m args below meth c D A nL cells slots Q pc vs (.int (nI i) :: .ref a :: st) ws := fun H locs ls h1 h2 h3 h4 => by
  obtain ⟨q0, h0⟩ := List.getElem?_of_mem he
  subst hv
  refine va_iald C.1 C.2.1 C.2.2.2.2.2.1 h1 q0 0 h0 rfl (vp_in_nI hi hN) hdg ?_
  rw [nI_clamp (Nat.lt_trans hi hN)]
  exact kk H locs ls h1 h2 h3 h4
theorem v_zald (C : Cx p s m args meth c cc nL rt own D kA) {a N : Nat} {f : Nat → Int32} (he : (a, .inl (kA 1, N, .inl f)) ∈ ws) {i : Nat} (hi : i < N) (hN : N < 2 ^ 31) (hdg : decode cc pc = .ok (.baload, 1)) (v : Int32) (hv : f i = v) (kk : V p l e R s m args below meth c D A nL cells slots Q (pc + 1) vs (.int v :: st) ws) : V p l e R s m args below meth c D A nL cells slots Q pc vs (.int (nI i) :: .ref a :: st) ws := fun H locs ls h1 h2 h3 h4 => by
  obtain ⟨q0, h0⟩ := List.getElem?_of_mem he
  subst hv
  refine va_zald C.1 C.2.1 C.2.2.2.2.2.1 h1 q0 1 h0 rfl (vp_in_nI hi hN) hdg ?_
  rw [nI_clamp (Nat.lt_trans hi hN)]
  exact kk H locs ls h1 h2 h3 h4
theorem v_aald (C : Cx p s m args meth c cc nL rt own D kA) {a N : Nat} {f : Nat → Option Nat} {t0 : Nat} {cA : ClassId} {C0 : String} (he : (a, .inl (cA, N, .inr (.inr (.inr (.inr f))))) ∈ ws) (ht : (tyA kA)[t0]? = some (cA, .object C0)) {i : Nat} (hi : i < N) (hN : N < 2 ^ 31) (hdg : decode cc pc = .ok (.aaload, 1)) (v : Nat) (hv : f i = some v) (kk : V p l e R s m args below meth c D A nL cells slots Q (pc + 1) vs (.ref v :: st) ws) : V p l e R s m args below meth c D A nL cells slots Q pc vs (.int (nI i) :: .ref a :: st) ws := fun H locs ls h1 h2 h3 h4 => by
  obtain ⟨q0, h0⟩ := List.getElem?_of_mem he
  refine va_aldq C.1 C.2.1 C.2.2.2.2.2.1 h1 q0 t0 h0 ht (vp_in_nI hi hN) hdg ?_
  rw [nI_clamp (Nat.lt_trans hi hN), hv]
  exact kk H locs ls h1 h2 h3 h4
theorem v_alen (C : Cx p s m args meth c cc nL rt own D kA) {a N t0 : Nat} {cA : ClassId} {ty : FieldType} {x : vp_A} (he : (a, .inl (cA, x)) ∈ ws) (ht : (tyA kA)[t0]? = some (cA, ty)) (hN : x.1 = N) (hdg : decode cc pc = .ok (.arraylength, 1)) (kk : V p l e R s m args below meth c D A nL cells slots Q (pc + 1) vs (.int (nI N) :: st) ws) : V p l e R s m args below meth c D A nL cells slots Q pc vs (.ref a :: st) ws := fun H locs ls h1 h2 h3 h4 => by
  obtain ⟨q0, h0⟩ := List.getElem?_of_mem he
  subst hN
  exact va_alen C.1 C.2.1 C.2.2.2.2.2.1 h1 q0 t0 h0 ht rfl hdg (kk H locs ls h1 h2 h3 h4)
theorem v_iast (C : Cx p s m args meth c cc nL rt own D kA) {a N : Nat} {f f' : Nat → Int32} {ws' : va_W} (he : Wset ws a (.inl (kA 0, N, .inl f)) (.inl (kA 0, N, .inl f')) ws') {i : Nat} {x : Int32} (hi : i < N) (hN : N < 2 ^ 31) (hdg : decode cc pc = .ok (.iastore, 1)) (hf : ∀ j, j < N → f' j = if j = i then x else f j) (kk : V p l e R s m args below meth c D A nL cells slots Q (pc + 1) vs st ws') : V p l e R s m args below meth c D A nL cells slots Q pc vs (.int x :: .int (nI i) :: .ref a :: st) ws := fun H locs ls h1 h2 h3 h4 => by
  obtain ⟨q0, h0, rfl⟩ := he
  refine va_iast C.1 C.2.1 C.2.2.2.2.2.1 h1 h2 h3 q0 0 h0 rfl (vp_in_nI hi hN) hdg (fun H1 locs1 p1 d1 s1 => kk H1 locs1 ls (p1.setTo h2 h0 fun z => ?_) (h2.set h0) s1 h4)
  rw [nI_clamp (Nat.lt_trans hi hN)] at z
  show H1[a]? = some (vp_cell _ _)
  rw [← cell_ext (f := upd f i x) (g := f') (fun j hj => by rw [hf j hj]; rfl)]
  exact z
theorem v_zast (C : Cx p s m args meth c cc nL rt own D kA) {a N : Nat} {f f' : Nat → Int32} {ws' : va_W} (he : Wset ws a (.inl (kA 1, N, .inl f)) (.inl (kA 1, N, .inl f')) ws') {i : Nat} {x : Int32} (hi : i < N) (hN : N < 2 ^ 31) (hdg : decode cc pc = .ok (.bastore, 1)) (hx : vp_nar .boolean x = x) (hf : ∀ j, j < N → f' j = if j = i then x else f j) (kk : V p l e R s m args below meth c D A nL cells slots Q (pc + 1) vs st ws') : V p l e R s m args below meth c D A nL cells slots Q pc vs (.int x :: .int (nI i) :: .ref a :: st) ws := fun H locs ls h1 h2 h3 h4 => by
  obtain ⟨q0, h0, rfl⟩ := he
  refine va_zast C.1 C.2.1 C.2.2.2.2.2.1 h1 h2 h3 q0 1 h0 rfl (vp_in_nI hi hN) hdg (fun H1 locs1 p1 d1 s1 => kk H1 locs1 ls (p1.setTo h2 h0 fun z => ?_) (h2.set h0) s1 h4)
  rw [nI_clamp (Nat.lt_trans hi hN), hx] at z
  show H1[a]? = some (vp_cell _ _)
  rw [← cell_ext (f := upd f i x) (g := f') (fun j hj => by rw [hf j hj]; rfl)]
  exact z
theorem v_cpy (C : Cx p s m args meth c cc nL rt own D kA) {index a0 a n0 n1 : Nat} {f g g' : Nat → Int32} {ws' : va_W} (hlink : Cond.methodLink own index arraycopyName ∈ lw_tbl) (hR : 1 ≤ R.frames ∧ 60 ≤ R.locals) (hst : st.length ≤ 4) (hcat : ∀ v ∈ st, v.category = 1) (he0 : (a0, .inl (kA 0, n0, .inl f)) ∈ ws) (he : Wset ws a (.inl (kA 0, n1, .inl g)) (.inl (kA 0, n1, .inl g')) ws') {sp dp n : Nat} (h4' : sp + n ≤ n0) (h5' : dp + n ≤ n1) (hn0 : n0 < 2 ^ 31) (hn1 : n1 < 2 ^ 31) (hdg : decode cc pc = .ok (.invokestatic index, 3)) (hf : ∀ j, j < n1 → g' j = va_cpy f g sp dp n j) (kk : V p l e R s m args below meth c D A nL cells slots Q (pc + 3) vs st ws') : V p l e R s m args below meth c D A nL cells slots Q pc vs (.int (nI n) :: .int (nI dp) :: .ref a :: .int (nI sp) :: .ref a0 :: st) ws := fun H locs ls h1 h2 h3 h4 => by
  obtain ⟨q1, hq1, rfl⟩ := he
  obtain ⟨q0, hq0⟩ := List.getElem?_of_mem he0
  have e1 : (nI sp).toNatClampNeg = sp := nI_clamp (by omega)
  have e2 : (nI dp).toNatClampNeg = dp := nI_clamp (by omega)
  have e3 : (nI n).toNatClampNeg = n := nI_clamp (by omega)
  have hsum : (st.map fun v => v.category).sum ≤ 4 := by
    have : ∀ (l : List Value), (∀ v ∈ l, v.category = 1) → (l.map fun v => v.category).sum = l.length := by
      intro l; induction l with
      | nil => intro _; rfl
      | cons x r ih => intro h; simp [h x List.mem_cons_self, ih (fun v hv => h v (List.mem_cons_of_mem _ hv))]; omega
    rw [this st hcat]; exact hst
  refine va_copyi C.1 C.2.1 (by rw [C.2.2.1]; exact h4.1.symm) C.2.2.2.1 (C.2.2.2.2.1 _ (gtb_in hlink rfl)) (C.2.2.2.2.1 _ (gtb_in nt_Sys_arraycopy rfl)) (C.2.2.2.2.1 _ (gtb_in sc_Sys_arraycopy rfl)) (C.2.2.2.2.1 _ (gtb_in in_Sys rfl)) C.2.2.2.2.2.1 h1 h2 h3 q0 q1 0 0 hq0 hq1 rfl rfl rfl (nI_pos (by omega)) (nI_pos (by omega)) (nI_pos (by omega)) (by rw [e1, e3]; exact h4') (by rw [e2, e3]; exact h5') (fun i _ => rfl) hR.1 (Nat.le_trans (Nat.add_le_add hsum (Nat.le_refl _)) (Nat.le_trans (Nat.le_of_ble_eq_true rfl) hR.2)) hdg (fun H1 locs1 p1 d1 s1 => kk H1 locs1 ls (p1.setTo h2 hq1 fun z => ?_) (h2.set hq1) s1 h4)
  rw [e1, e2, e3] at z
  show H1[a]? = some (vp_cell _ _)
  rw [← cell_ext (f := va_cpy f g sp dp n) (g := g') (fun j hj => hf j hj)]
  exact z
end VF
/-! contracts -/
def QC (D : va_G) (ws : va_W) (Post : Option Value → va_W → Prop) : Array Value → State → Outcome → State → Prop := fun _ st oc t => (∃ (r : Option Value) (ws' : va_W), oc = .returned r ∧ Post r ws' ∧ va_P D kcl ws' t.heap ∧ va_D (qA ws) ws') ∧ va_F (qA ws) st t
def PrC (D : va_G) (kA : Nat → ClassId) (As : List Value) (ws : va_W) : Array Value → State → Prop := va_Pc As (fun U => va_P D kcl ws U.heap ∧ va_K D kcl (tyA kA) U ∧ va_D (fun _ => True) ws ∧ NwA U)
/-- the contract of a method that makes nothing: level k, arguments As, cells ws at its start, at its end cells ws' and answer r with Post r ws' -/
def Ct (l : Launch) (D : va_G) (kA : Nat → ClassId) (k : Nat) (y : MethodName) (b : ByteArray) (mL : Nat) (ret : Option FieldType) (As : List Value) (ws : va_W) (Post : Option Value → va_W → Prop) : Prop :=
  Met l y (Cond.code y b mL ret :: gtb) (rmk k) (PrC D kA As ws) (QC D ws Post) 0 0 (qA ws)
abbrev pI (P : Int32 → va_W → Prop) : Option Value → va_W → Prop := fun r w => ∃ x : Int32, r = some (.int x) ∧ P x w
abbrev pV (P : va_W → Prop) : Option Value → va_W → Prop := fun r w => r = none ∧ P w
abbrev pR (P : Nat → va_W → Prop) : Option Value → va_W → Prop := fun r w => ∃ x : Nat, r = some (.ref x) ∧ P x w
theorem lv_args_mem : ∀ (vs : List Value) (b : Nat), (∀ v ∈ vs, v.category = 1) → ∀ (i : Nat) (v : Value), vs[i]? = some v → (b + i, v) ∈ lv_args b vs
  | [], _, _, i, v, h => by simp at h
  | w :: r, b, hc, i, v, h => by
    have hw := hc w List.mem_cons_self
    rw [lv_args, if_neg (by rw [hw]; decide)]
    cases i with
    | zero => simp at h; subst h; exact List.mem_cons_self
    | succ i =>
      rw [List.getElem?_cons_succ] at h
      have := lv_args_mem r (b + 1) (fun v hv => hc v (List.mem_cons_of_mem _ hv)) i v h
      rw [show b + (i + 1) = b + 1 + i by omega]
      exact List.mem_cons_of_mem _ this
theorem lvh_entry {As : List Value} {n : Nat} (hlen : (lg_sl As).length ≤ n) (hc : ∀ v ∈ As, v.category = 1) : lvh ((lg_sl As ++ List.replicate (n - (lg_sl As).length) Slot.unset).toArray) n As := by
  have h := lv_entry As hlen
  exact ⟨h.1, h.2.1, hc, fun i v hi => h.2.2 (i, v) (by simpa using lv_args_mem As 0 hc i v hi)⟩
theorem cat_of {l : List Value} (h : (l.all fun v => v.category == 1) = true) : ∀ v ∈ l, v.category = 1 := fun v hv => by simpa using List.all_eq_true.mp h v hv
theorem ct_of {l : Launch} {D : va_G} {kA : Nat → ClassId} {k : Nat} {y : MethodName} {b : ByteArray} {mL : Nat} {ret : Option FieldType} {As : List Value} {ws : va_W} {Post : Option Value → va_W → Prop} (hy : plainName y.cls = true) (hlen : (lg_sl As).length ≤ mL) (hcat : (As.all fun v => v.category == 1) = true)
    (body : ∀ (p : Program) (e : Env) (s : State) (m : MethodId) (args : Array Value) (below : List Frame) (meth : Method) (c : Code), Cx p s m args meth c b mL ret y.cls D kA → V p l e (rmk k) s m args below meth c D (qA ws) mL 0 0 (MQ below (QC D ws Post) args s 0 0 (qA ws)) 0 As [] ws) : Ct l D kA k y b mL ret As ws Post := by
  refine Met.ofW (cc := b) (maxL := mL) (ret := ret) hy rfl ?_
  intro p e s m args below meth c s₁ B hml hv
  obtain ⟨rfl, hP, hK, hD0, hNw⟩ := hv
  have hts := atoms_spec (ws := Cond.code y b mL ret :: gtb) B.pre
  have hown : s.vm.findClass y.cls = some m.cls := findClass_of_methodNamed B.named
  rw [lg_entry_eq]
  exact body p e s m As.toArray below meth c ⟨B.exec, B.bytes, hml, hown, fun w hw => hts w (List.mem_cons_of_mem _ hw), hK, B.returns, B.notSynchronized, hNw⟩ s.heap [] _ hP ⟨hD0.1, fun k q hk => ⟨k, q.2, hk⟩⟩ va_S.rf (lvh_entry hlen (cat_of hcat))
/-- what a caller needs to know of a method -/
def CD (y : MethodName) (b : ByteArray) (mL : Nat) (ret : Option FieldType) (n : Nat) : Prop :=
  Cond.code y b mL ret ∈ lw_tbl ∧ Cond.initialized y.cls ∈ lw_tbl ∧ (y.cls ≠ "java/lang/invoke/MethodHandle" ∧ y.cls ≠ "java/lang/invoke/VarHandle") ∧ (parseMethodDescriptor y.desc).map (fun d => d.parameters.length) = some n
theorem good_tbl : ∀ w ∈ gtb, (w.onTables && w.keeps) = true ∨ ∃ ty, w = .arrayClass ty := fun _ hw => good_of_word (List.mem_filter.mp hw).2
theorem good_code {y : MethodName} {b : ByteArray} {mL : Nat} {ret : Option FieldType} (h : Cond.code y b mL ret ∈ lw_tbl) : GoodIn gtb (Cond.code y b mL ret :: gtb) := by
  intro w hw
  rcases List.mem_cons.mp hw with rfl | hw
  · exact ⟨gtb_in h rfl, good_tbl _ (gtb_in h rfl)⟩
  · exact ⟨hw, good_tbl w hw⟩
/-- the room that a call asks of the caller's -/
def Rm (k mL : Nat) (R : Room) : Prop := (rmk k).frames + 1 ≤ R.frames ∧ 8 + (mL + 11) + (rmk k).locals ≤ R.locals
theorem Rm.of {j k mL : Nat} (h : j < k) (hm : mL ≤ 81) : Rm j mL (rmk k) := by
  unfold Rm
  exact ⟨by show 2 * j + 2 + 1 ≤ 2 * k + 2; omega, by show 8 + (mL + 11) + (100 * j + 100) ≤ 100 * k + 100; omega⟩
theorem PrC.blind {D : va_G} {kA : Nat → ClassId} {As : List Value} {ws : va_W} : FrameBlind (PrC D kA As ws) :=
  fun a U g mk q => by obtain ⟨q0, qP, qK, qD, qN⟩ := q; exact ⟨q0, qP, va_K.moved (u := U) (U := U.calling g mk a) (Vm.Alike.refl U.vm) qK, qD, NwA.same (u := U) rfl qN⟩
/-- the frame rule: the callee's cells in the midst of the caller's -/
theorem w_mid {D : va_G} {A : Nat → Prop} {w0 wc w1 w' : va_W} {H H1 : Heap} (hP : va_P D kcl (w0 ++ (wc ++ w1)) H) (hD : va_D A (w0 ++ (wc ++ w1))) (hk : ∀ q : Nat, q < H.size → ¬ qA wc q → H1[q]? = H[q]?) (hP1 : va_P D kcl w' H1) (hD1 : va_D (qA wc) w') :
    va_P D kcl (w0 ++ (w' ++ w1)) H1 ∧ va_D A (w0 ++ (w' ++ w1)) := by
  have inc : ∀ (k : Nat) (q : Nat × va_E), wc[k]? = some q → (w0 ++ (wc ++ w1))[w0.length + k]? = some q := fun k q h => by
    rw [List.getElem?_append_right (by omega), Nat.add_sub_cancel_left, List.getElem?_append_left (List.getElem?_eq_some_iff.mp h).1]; exact h
  have in0 : ∀ (k : Nat) (q : Nat × va_E), w0[k]? = some q → (w0 ++ (wc ++ w1))[k]? = some q := fun k q h => by
    rw [List.getElem?_append_left (List.getElem?_eq_some_iff.mp h).1]; exact h
  have in1 : ∀ (k : Nat) (q : Nat × va_E), w1[k]? = some q → (w0 ++ (wc ++ w1))[w0.length + (wc.length + k)]? = some q := fun k q h => by
    rw [List.getElem?_append_right (by omega), Nat.add_sub_cancel_left, List.getElem?_append_right (by omega), Nat.add_sub_cancel_left]; exact h
  have ap0 : ∀ (k : Nat) (q : Nat × va_E), w0[k]? = some q → ¬ qA wc q.1 := fun k q h ⟨j, e, hj⟩ => by
    have := hD.1 _ _ _ _ (in0 k q h) (inc j _ hj) rfl
    have := (List.getElem?_eq_some_iff.mp h).1
    omega
  have ap1 : ∀ (k : Nat) (q : Nat × va_E), w1[k]? = some q → ¬ qA wc q.1 := fun k q h ⟨j, e, hj⟩ => by
    have := hD.1 _ _ _ _ (in1 k q h) (inc j _ hj) rfl
    have := (List.getElem?_eq_some_iff.mp hj).1
    omega
  refine ⟨va_P.app (fun k q h => (hP _ q (in0 k q h)).kept (hk _ (hP _ q (in0 k q h)).lt (ap0 k q h))) (va_P.app hP1 (fun k q h => (hP _ q (in1 k q h)).kept (hk _ (hP _ q (in1 k q h)).lt (ap1 k q h)))), ?_⟩
  refine va_D.app ⟨fun i j a b ha hb hab => ?_, fun k q h => hD.2 _ q (in0 k q h)⟩ (va_D.app ⟨hD1.1, fun k q h => ?_⟩ ⟨fun i j a b ha hb hab => ?_, fun k q h => hD.2 _ q (in1 k q h)⟩ (fun i j a b ha hb hab => ap1 j b hb (hab ▸ hD1.2 i a ha))) (fun i j a b ha hb hab => ?_)
  · exact hD.1 i j a b (in0 i a ha) (in0 j b hb) hab
  · obtain ⟨j, e, hj⟩ := hD1.2 k q h
    exact hD.2 _ (q.1, e) (inc j _ hj)
  · have := hD.1 _ _ _ _ (in1 i a ha) (in1 j b hb) hab
    omega
  · rcases List.mem_append.mp (List.mem_of_getElem? hb) with h | h
    · obtain ⟨k, h⟩ := List.getElem?_of_mem h
      exact ap0 i a ha (hab ▸ hD1.2 k b h)
    · obtain ⟨k, h⟩ := List.getElem?_of_mem h
      have := hD.1 _ _ _ _ (in0 i a ha) (in1 k b h) hab
      have := (List.getElem?_eq_some_iff.mp ha).1
      omega
section VC
variable {p : Program} {l : Launch} {e : Env} {R : Room} {s : State} {m : MethodId} {args : Array Value} {below : List Frame} {meth : Method} {c : Code} {D : va_G} {A : Nat → Prop} {nL cells slots : Nat} {Q : State → Prop} {pc : Nat} {vs st : List Value} {ws : va_W} {cc : ByteArray} {rt : Option FieldType} {own : String} {kA : Nat → ClassId}
theorem w_run {H : Heap} {locs : List Loc} {ls : Array Slot} {st0 rest : List Value} {w0 wc w1 : va_W} {Post : Option Value → va_W → Prop} {a : Array Value} (hr : va_Run p l e R s m args below meth c H locs cells slots 0 0 (F0 m pc ls st0) rest (QC D wc Post a) (qA wc)) (hP : va_P D kcl (w0 ++ (wc ++ w1)) H) (hD : va_D A (w0 ++ (wc ++ w1))) (hS : va_S A s.heap H locs)
    (kk : ∀ (r : Option Value) (w' : va_W) (H1 : Heap) (locs1 : List Loc), Post r w' → va_P D kcl (w0 ++ (w' ++ w1)) H1 → va_D A (w0 ++ (w' ++ w1)) → va_S A s.heap H1 locs1 → W p l e R s m args below meth c H1 locs1 cells slots Q (F0 m (pc + 3) ls (r.toList ++ rest))) : W p l e R s m args below meth c H locs cells slots Q (F0 m pc ls st0) := by
  intro T hT X
  obtain ⟨v, st₀, t, T', L, h0, X', hL, e1, e2, ⟨⟨r, w', hv, hp, hP1, hD1⟩, hz, hk⟩, st⟩ := hr T hT X
  cases hv
  rw [h0] at hz hk
  rw [← e1] at hP1 hz hk
  have hqA : ∀ q, qA wc q → A q := fun q ⟨k, e, h⟩ => hD.2 (w0.length + k) (q, e) (by rw [List.getElem?_append_right (by omega), Nat.add_sub_cancel_left, List.getElem?_append_left (List.getElem?_eq_some_iff.mp h).1]; exact h)
  obtain ⟨hP2, hD2⟩ := w_mid hP hD hk hP1 hD1
  obtain ⟨t2, a1, b1⟩ := kk _ w' T'.heap (locs ++ L) hp hP2 hD2 ⟨Nat.le_trans hS.1 hz, fun q h1 h2 => by rw [hk q (Nat.lt_of_lt_of_le h1 hS.1) (fun z => h2 (hqA q z))]; exact hS.2.1 q h1 h2, fun q hq => by
      rcases List.mem_append.mp hq with h | h
      · exact hS.2.2 q h
      · exact hqA _ (hL q h)⟩ T' rfl X'
  exact ⟨t2, st t2 a1, b1⟩
/-- the receiver is an object of that class, in the cells -/
def rcv (ws : va_W) (h : Nat) (cn : String) : Prop := ∃ (q0 ci : Nat) (fs : List Value) (q : vw_C), ws[q0]? = some (h, .inr (ci, fs)) ∧ kcl[ci]? = some q ∧ q.1 = cn
theorem cat_sum : ∀ (l : List Value), (∀ v ∈ l, v.category = 1) → (l.map fun v => v.category).sum = l.length
  | [], _ => rfl
  | x :: r, h => by simp [h x List.mem_cons_self, cat_sum r (fun v hv => h v (List.mem_cons_of_mem _ hv))]; omega
theorem call_b (C : Cx p s m args meth c cc nL rt own D kA) {k mL n index : Nat} {y : MethodName} {b : ByteArray} {ret : Option FieldType} (cd : CD y b mL ret n) (hl : Cond.methodLink own index y ∈ lw_tbl) (hR : Rm k mL R) : CallB R s args own index y b mL ret (Cond.code y b mL ret :: gtb) (rmk k) 0 0 n :=
  ⟨rfl, rfl, hR.1, hR.2, pay_in C.2.2.2.2.1 (good_code cd.1), List.mem_cons_self, C.2.2.2.2.1 _ (gtb_in cd.1 rfl), C.2.2.2.2.1 _ (gtb_in cd.2.1 rfl), cd.2.2.1, fun sig h => by have h2 := cd.2.2.2; rw [h] at h2; exact (Option.some.inj h2).symm, C.2.2.2.2.1 _ (gtb_in hl rfl)⟩
/-- a call of an object's method: the callee's cells wc stand between w0 and w1 -/
theorem v_callV (C : Cx p s m args meth c cc nL rt own D kA) {k mL n index h : Nat} {y : MethodName} {b : ByteArray} {ret : Option FieldType} {As st0 : List Value} {w0 wc w1 : va_W} {Post : Option Value → va_W → Prop} (hM : Ct l D kA k y b mL ret (.ref h :: As) wc Post) (cd : CD y b mL ret n) (him : Cond.instanceMethod y ∈ lw_tbl) (hse : Cond.selects y.cls y y ∈ lw_tbl) (hl : Cond.methodLink own index y ∈ lw_tbl) (hdg : decode cc pc = .ok (.invokevirtual index, 3)) (hR : Rm k mL R) (hr : rcv wc h y.cls) (hn : As.length = n) (hst : st0 = As.reverse ++ .ref h :: st) (hc : st.length ≤ 8 ∧ ∀ v ∈ st, v.category = 1) (hcl : cells ≤ R.cells ∧ slots ≤ R.slots)
    (kk : ∀ (r : Option Value) (w' : va_W), Post r w' → V p l e R s m args below meth c D A nL cells slots Q (pc + 3) vs (r.toList ++ st) (w0 ++ (w' ++ w1))) : V p l e R s m args below meth c D A nL cells slots Q pc vs st0 (w0 ++ (wc ++ w1)) := fun H locs ls h1 h2 h3 h4 => by
  obtain ⟨q0, ci, fs, q, hq0, hci, hq⟩ := hr
  have inc : ∀ (k : Nat) (q : Nat × va_E), wc[k]? = some q → (w0 ++ (wc ++ w1))[w0.length + k]? = some q := fun k q h => by
    rw [List.getElem?_append_right (by omega), Nat.add_sub_cancel_left, List.getElem?_append_left (List.getElem?_eq_some_iff.mp h).1]; exact h
  have hPc : va_P D kcl wc H := fun k q hk => h1 _ q (inc k q hk)
  have hDc : va_D (fun _ => True) wc := ⟨fun i j a b ha hb hab => by have := h2.1 _ _ _ _ (inc i a ha) (inc j b hb) hab; omega, fun _ _ _ => trivial⟩
  refine w_run (va_runV (As := As) (rest := st) (C := y.cls) ⟨C.1, C.2.1, C.2.2.1, C.2.2.2.1, C.2.2.2.2.1⟩ hM ⟨call_b C cd hl hR, C.2.2.2.2.1 _ (gtb_in him rfl), C.2.2.2.2.1 _ (gtb_in hse rfl)⟩ ⟨PrC.blind, by rw [← hq]; exact va_recv C.2.2.2.2.2.1 hPc hci hq0, fun U hU hW => ⟨rfl, by rw [hU]; exact hPc, va_K.moved hW.alike C.2.2.2.2.2.1, hDc, NwA.warm hW C.2.2.2.2.2.2.2.2⟩⟩ rfl hn h4.1 hst (lv_room (by rw [cat_sum st hc.2]; exact hc.1)) hdg ⟨hcl.1, hcl.2⟩) h1 h2 h3 (fun r w' H1 locs1 hp p1 d1 s1 => kk r w' hp H1 locs1 ls p1 d1 s1 h4)
theorem v_callVN (C : Cx p s m args meth c cc nL rt own D kA) {k mL n index h : Nat} {y : MethodName} {b : ByteArray} {ret : Option FieldType} {host : String} {As st0 : List Value} {w0 wc w1 : va_W} {Post : Option Value → va_W → Prop} (hM : Ct l D kA k y b mL ret (.ref h :: As) wc Post) (cd : CD y b mL ret n) (him : Cond.instanceMethod y ∈ lw_tbl) (hse : Cond.selects y.cls y y ∈ lw_tbl) (hl : va_Nw (Cond.methodLinkNest own index y host) s) (hdg : decode cc pc = .ok (.invokevirtual index, 3)) (hR : Rm k mL R) (hr : rcv wc h y.cls) (hn : As.length = n) (hst : st0 = As.reverse ++ .ref h :: st) (hc : st.length ≤ 8 ∧ ∀ v ∈ st, v.category = 1) (hcl : cells ≤ R.cells ∧ slots ≤ R.slots)
    (kk : ∀ (r : Option Value) (w' : va_W), Post r w' → V p l e R s m args below meth c D A nL cells slots Q (pc + 3) vs (r.toList ++ st) (w0 ++ (w' ++ w1))) : V p l e R s m args below meth c D A nL cells slots Q pc vs st0 (w0 ++ (wc ++ w1)) := fun H locs ls h1 h2 h3 h4 => by
  obtain ⟨q0, ci, fs, q, hq0, hci, hq⟩ := hr
  have inc : ∀ (k : Nat) (q : Nat × va_E), wc[k]? = some q → (w0 ++ (wc ++ w1))[w0.length + k]? = some q := fun k q h => by
    rw [List.getElem?_append_right (by omega), Nat.add_sub_cancel_left, List.getElem?_append_left (List.getElem?_eq_some_iff.mp h).1]; exact h
  have hPc : va_P D kcl wc H := fun k q hk => h1 _ q (inc k q hk)
  have hDc : va_D (fun _ => True) wc := ⟨fun i j a b ha hb hab => by have := h2.1 _ _ _ _ (inc i a ha) (inc j b hb) hab; omega, fun _ _ _ => trivial⟩
  refine w_run (va_runVN (As := As) (rest := st) (C := y.cls) (host := host) ⟨C.1, C.2.1, C.2.2.1, C.2.2.2.1, C.2.2.2.2.1⟩ hM ⟨⟨⟨rfl, rfl, hR.1, hR.2, pay_in C.2.2.2.2.1 (good_code cd.1), List.mem_cons_self⟩, C.2.2.2.2.1 _ (gtb_in cd.1 rfl), C.2.2.2.2.1 _ (gtb_in cd.2.1 rfl), cd.2.2.1, fun sig h => by have h2 := cd.2.2.2; rw [h] at h2; exact (Option.some.inj h2).symm, va_Nw.use rfl hl⟩, C.2.2.2.2.1 _ (gtb_in him rfl), C.2.2.2.2.1 _ (gtb_in hse rfl)⟩ ⟨PrC.blind, by rw [← hq]; exact va_recv C.2.2.2.2.2.1 hPc hci hq0, fun U hU hW => ⟨rfl, by rw [hU]; exact hPc, va_K.moved hW.alike C.2.2.2.2.2.1, hDc, NwA.warm hW C.2.2.2.2.2.2.2.2⟩⟩ rfl hn h4.1 hst (lv_room (by rw [cat_sum st hc.2]; exact hc.1)) hdg ⟨hcl.1, hcl.2⟩) h1 h2 h3 (fun r w' H1 locs1 hp p1 d1 s1 => kk r w' hp H1 locs1 ls p1 d1 s1 h4)
theorem v_callS (C : Cx p s m args meth c cc nL rt own D kA) {k mL n index : Nat} {y : MethodName} {b : ByteArray} {ret : Option FieldType} {As st0 : List Value} {w0 wc w1 : va_W} {Post : Option Value → va_W → Prop} (hM : Ct l D kA k y b mL ret As wc Post) (cd : CD y b mL ret n) (hsc : Cond.static y ∈ lw_tbl) (hl : Cond.methodLink own index y ∈ lw_tbl) (hdg : decode cc pc = .ok (.invokestatic index, 3)) (hR : Rm k mL R) (hn : As.length = n) (hst : st0 = As.reverse ++ st) (hc : st.length ≤ 8 ∧ ∀ v ∈ st, v.category = 1) (hcl : cells ≤ R.cells ∧ slots ≤ R.slots)
    (kk : ∀ (r : Option Value) (w' : va_W), Post r w' → V p l e R s m args below meth c D A nL cells slots Q (pc + 3) vs (r.toList ++ st) (w0 ++ (w' ++ w1))) : V p l e R s m args below meth c D A nL cells slots Q pc vs st0 (w0 ++ (wc ++ w1)) := fun H locs ls h1 h2 h3 h4 => by
  have inc : ∀ (k : Nat) (q : Nat × va_E), wc[k]? = some q → (w0 ++ (wc ++ w1))[w0.length + k]? = some q := fun k q h => by
    rw [List.getElem?_append_right (by omega), Nat.add_sub_cancel_left, List.getElem?_append_left (List.getElem?_eq_some_iff.mp h).1]; exact h
  have hPc : va_P D kcl wc H := fun k q hk => h1 _ q (inc k q hk)
  have hDc : va_D (fun _ => True) wc := ⟨fun i j a b ha hb hab => by have := h2.1 _ _ _ _ (inc i a ha) (inc j b hb) hab; omega, fun _ _ _ => trivial⟩
  refine w_run (va_runS (As := As) (rest := st) ⟨C.1, C.2.1, C.2.2.1, C.2.2.2.1, C.2.2.2.2.1⟩ hM ⟨call_b C cd hl hR, C.2.2.2.2.1 _ (gtb_in hsc rfl)⟩ ⟨PrC.blind, fun U hU hW => ⟨rfl, by rw [hU]; exact hPc, va_K.moved hW.alike C.2.2.2.2.2.1, hDc, NwA.warm hW C.2.2.2.2.2.2.2.2⟩⟩ rfl hn h4.1 hst (lv_room (by rw [cat_sum st hc.2]; exact hc.1)) hdg ⟨hcl.1, hcl.2⟩) h1 h2 h3 (fun r w' H1 locs1 hp p1 d1 s1 => kk r w' hp H1 locs1 ls p1 d1 s1 h4)
/-- ends -/
theorem v_iret (C : Cx p s m args meth c cc nL rt own D kA) {ws0 : va_W} {Post : Option Value → va_W → Prop} {v : Int32} (hrt : rt = some .int) (hdg : decode cc pc = .ok (.ireturn, 1)) (hp : Post (some (.int v)) ws) : V p l e R s m args below meth c D (qA ws0) nL cells slots (MQ below (QC D ws0 Post) args s cells slots (qA ws0)) pc vs [.int v] ws := fun H locs ls h1 h2 h3 h4 =>
  W.iret C.1 C.2.1 (by rw [C.2.2.2.2.2.2.1, hrt]) (fun t ht hW => ⟨⟨_, ws, rfl, hp, by rw [ht]; exact h1, h2⟩, h3.F ht⟩) h3.2.2 hdg C.2.2.2.2.2.2.2.1
theorem v_zret (C : Cx p s m args meth c cc nL rt own D kA) {ws0 : va_W} {Post : Option Value → va_W → Prop} {v : Int32} (hrt : rt = some .boolean) (hv : narrow .boolean (.int v) = .int v) (hdg : decode cc pc = .ok (.ireturn, 1)) (hp : Post (some (.int v)) ws) : V p l e R s m args below meth c D (qA ws0) nL cells slots (MQ below (QC D ws0 Post) args s cells slots (qA ws0)) pc vs [.int v] ws := fun H locs ls h1 h2 h3 h4 =>
  W.zret C.1 C.2.1 (by rw [C.2.2.2.2.2.2.1, hrt]) hv (fun t ht hW => ⟨⟨_, ws, rfl, hp, by rw [ht]; exact h1, h2⟩, h3.F ht⟩) h3.2.2 hdg C.2.2.2.2.2.2.2.1
theorem v_vret (C : Cx p s m args meth c cc nL rt own D kA) {ws0 : va_W} {Post : Option Value → va_W → Prop} (hrt : rt = none) (hdg : decode cc pc = .ok (.return_, 1)) (hp : Post none ws) : V p l e R s m args below meth c D (qA ws0) nL cells slots (MQ below (QC D ws0 Post) args s cells slots (qA ws0)) pc vs [] ws := fun H locs ls h1 h2 h3 h4 =>
  W.vret C.1 C.2.1 (by rw [C.2.2.2.2.2.2.1, hrt]) (fun t ht hW => ⟨⟨_, ws, rfl, hp, by rw [ht]; exact h1, h2⟩, h3.F ht⟩) h3.2.2 hdg C.2.2.2.2.2.2.2.1
theorem v_aret (C : Cx p s m args meth c cc nL rt own D kA) {ws0 : va_W} {Post : Option Value → va_W → Prop} {v : Nat} {cn : String} (hrt : rt = some (.object cn)) (hdg : decode cc pc = .ok (.areturn, 1)) (hp : Post (some (.ref v)) ws) : V p l e R s m args below meth c D (qA ws0) nL cells slots (MQ below (QC D ws0 Post) args s cells slots (qA ws0)) pc vs [.ref v] ws := fun H locs ls h1 h2 h3 h4 =>
  W.aret C.1 C.2.1 (by rw [C.2.2.2.2.2.2.1, hrt]) (Or.inl ⟨_, rfl⟩) (Or.inr ⟨_, rfl⟩) (fun t ht hW => ⟨⟨_, ws, rfl, hp, by rw [ht]; exact h1, h2⟩, h3.F ht⟩) h3.2.2 hdg C.2.2.2.2.2.2.2.1
/-- what a caller needs to know of an object's method, of a method of the class itself -/
def CV (y : MethodName) (b : ByteArray) (mL : Nat) (ret : Option FieldType) (n : Nat) : Prop := CD y b mL ret n ∧ Cond.instanceMethod y ∈ lw_tbl ∧ Cond.selects y.cls y y ∈ lw_tbl
def CSt (y : MethodName) (b : ByteArray) (mL : Nat) (ret : Option FieldType) (n : Nat) : Prop := CD y b mL ret n ∧ Cond.static y ∈ lw_tbl
def okSt (st : List Value) : Bool := Nat.ble st.length 8 && st.all fun v => v.category == 1
theorem okSt.to {st : List Value} (h : okSt st = true) : st.length ≤ 8 ∧ ∀ v ∈ st, v.category = 1 := by
  unfold okSt at h
  rw [Bool.and_eq_true] at h
  exact ⟨Nat.le_of_ble_eq_true h.1, cat_of h.2⟩
/-- calls inside a method that makes nothing; the callee's cells are all -/
theorem v_cI (C : Cx p s m args meth c cc nL rt own D kA) {K k mL n index h : Nat} {y : MethodName} {b : ByteArray} {ret : Option FieldType} {As st0 : List Value} {P : Int32 → va_W → Prop} (hM : Ct l D kA k y b mL ret (.ref h :: As) ws (pI P)) (cv : CV y b mL ret n) (hl : Cond.methodLink own index y ∈ lw_tbl) (hdg : decode cc pc = .ok (.invokevirtual index, 3)) (hj : k < K ∧ mL ≤ 81) (hr : rcv ws h y.cls) (hst : As.length = n ∧ st0 = As.reverse ++ .ref h :: st) (hc : okSt st = true) (kk : ∀ (x : Int32) (w' : va_W), P x w' → V p l e (rmk K) s m args below meth c D A nL 0 0 Q (pc + 3) vs (.int x :: st) w') : V p l e (rmk K) s m args below meth c D A nL 0 0 Q pc vs st0 ws := by
  have h0 : ws = [] ++ (ws ++ []) := by simp
  rw [h0]
  refine v_callV C hM cv.1 cv.2.1 cv.2.2 hl hdg (Rm.of hj.1 hj.2) hr hst.1 hst.2 (okSt.to hc) ⟨Nat.zero_le _, Nat.zero_le _⟩ (fun r w' hp => ?_)
  obtain ⟨x, rfl, hp⟩ := hp
  have h1 : w' = [] ++ (w' ++ []) := by simp
  rw [← h1]
  exact kk x w' hp
theorem v_cV (C : Cx p s m args meth c cc nL rt own D kA) {K k mL n index h : Nat} {y : MethodName} {b : ByteArray} {ret : Option FieldType} {As st0 : List Value} {P : va_W → Prop} (hM : Ct l D kA k y b mL ret (.ref h :: As) ws (pV P)) (cv : CV y b mL ret n) (hl : Cond.methodLink own index y ∈ lw_tbl) (hdg : decode cc pc = .ok (.invokevirtual index, 3)) (hj : k < K ∧ mL ≤ 81) (hr : rcv ws h y.cls) (hst : As.length = n ∧ st0 = As.reverse ++ .ref h :: st) (hc : okSt st = true) (kk : ∀ (w' : va_W), P w' → V p l e (rmk K) s m args below meth c D A nL 0 0 Q (pc + 3) vs st w') : V p l e (rmk K) s m args below meth c D A nL 0 0 Q pc vs st0 ws := by
  have h0 : ws = [] ++ (ws ++ []) := by simp
  rw [h0]
  refine v_callV C hM cv.1 cv.2.1 cv.2.2 hl hdg (Rm.of hj.1 hj.2) hr hst.1 hst.2 (okSt.to hc) ⟨Nat.zero_le _, Nat.zero_le _⟩ (fun r w' hp => ?_)
  obtain ⟨rfl, hp⟩ := hp
  have h1 : w' = [] ++ (w' ++ []) := by simp
  rw [← h1]
  exact kk w' hp
/-- a static method without cells -/
theorem v_cS (C : Cx p s m args meth c cc nL rt own D kA) {K k mL n index : Nat} {y : MethodName} {b : ByteArray} {ret : Option FieldType} {As st0 : List Value} {P : Int32 → Prop} (hM : Ct l D kA k y b mL ret As [] (pI fun x w => P x ∧ w = [])) (cv : CSt y b mL ret n) (hl : Cond.methodLink own index y ∈ lw_tbl) (hdg : decode cc pc = .ok (.invokestatic index, 3)) (hj : k < K ∧ mL ≤ 81) (hst : As.length = n ∧ st0 = As.reverse ++ st) (hc : okSt st = true) (kk : ∀ (x : Int32), P x → V p l e (rmk K) s m args below meth c D A nL 0 0 Q (pc + 3) vs (.int x :: st) ws) : V p l e (rmk K) s m args below meth c D A nL 0 0 Q pc vs st0 ws := by
  have h0 : ws = ws ++ ([] ++ []) := by simp
  rw [h0]
  refine v_callS C hM cv.1 cv.2 hl hdg (Rm.of hj.1 hj.2) hst.1 hst.2 (okSt.to hc) ⟨Nat.zero_le _, Nat.zero_le _⟩ (fun r w' hp => ?_)
  obtain ⟨x, rfl, hp, rfl⟩ := hp
  rw [← h0]
  exact kk x hp
end VC
theorem inc1 (n : Nat) : nI n + Int32.ofInt 1 = nI (n + 1) := nI_1 n
theorem dec1 {n : Nat} (h : 0 < n) : nI n + Int32.ofInt (-1) = nI (n - 1) := sb_m1 h
