/-! methods that make cells -/
def AO2 (U : State) : Prop := va_AO "TripleTrees$Tree" U ∧ va_AO "TripleTrees$Cursor" U
theorem AO2.moved {u U : State} (h : u.vm.Alike U.vm) (z : AO2 u) : AO2 U := ⟨z.1.moved h, z.2.moved h⟩
def PrA (D : va_G) (kA : Nat → ClassId) (As : List Value) (ws : va_W) (sz : Nat) : Array Value → State → Prop := va_Pc As (fun U => va_P D kcl ws U.heap ∧ va_K D kcl (tyA kA) U ∧ va_D (fun _ => True) ws ∧ NwA U ∧ AO2 U ∧ U.heap.size = sz)
def QA (D : va_G) (ws : va_W) (sz : Nat) (Post : Option Value → va_W → Prop) : Array Value → State → Outcome → State → Prop := fun _ st oc t => (∃ (r : Option Value) (ws' : va_W), oc = .returned r ∧ Post r ws' ∧ va_P D kcl ws' t.heap ∧ va_D (va_A ws sz) ws') ∧ va_F (va_A ws sz) st t
/-- the contract of a method that makes mc cells of ms slots, with sz cells on the heap at its start -/
def CtA (l : Launch) (D : va_G) (kA : Nat → ClassId) (rm : Room) (mc ms sz : Nat) (y : MethodName) (b : ByteArray) (mL : Nat) (ret : Option FieldType) (As : List Value) (ws : va_W) (Post : Option Value → va_W → Prop) : Prop :=
  Met l y (Cond.code y b mL ret :: gtb) rm (PrA D kA As ws sz) (QA D ws sz Post) mc ms (va_A ws sz)
theorem PrA.blind {D : va_G} {kA : Nat → ClassId} {As : List Value} {ws : va_W} {sz : Nat} : FrameBlind (PrA D kA As ws sz) :=
  fun a U g mk q => by obtain ⟨q0, qP, qK, qD, qN, qO, qS⟩ := q; exact ⟨q0, qP, va_K.moved (u := U) (U := U.calling g mk a) (Vm.Alike.refl U.vm) qK, qD, NwA.same (u := U) rfl qN, AO2.moved (u := U) (U := U.calling g mk a) (Vm.Alike.refl U.vm) qO, qS⟩
theorem ct_ofA {l : Launch} {D : va_G} {kA : Nat → ClassId} {rm : Room} {mc ms sz : Nat} {y : MethodName} {b : ByteArray} {mL : Nat} {ret : Option FieldType} {As : List Value} {ws : va_W} {Post : Option Value → va_W → Prop} (hy : plainName y.cls = true) (hlen : (lg_sl As).length ≤ mL) (hcat : (As.all fun v => v.category == 1) = true)
    (body : ∀ (p : Program) (e : Env) (s : State) (m : MethodId) (args : Array Value) (below : List Frame) (meth : Method) (c : Code), Cx p s m args meth c b mL ret y.cls D kA → AO2 s → meth.name = y.name → (∀ q, s.heap.size ≤ q → va_A ws sz q) → V p l e rm s m args below meth c D (va_A ws sz) mL 0 0 (MQ below (QA D ws sz Post) args s mc ms (va_A ws sz)) 0 As [] ws) : CtA l D kA rm mc ms sz y b mL ret As ws Post := by
  refine Met.ofW (cc := b) (maxL := mL) (ret := ret) hy rfl ?_
  intro p e s m args below meth c s₁ B hml hv
  obtain ⟨rfl, hP, hK, hD0, hNw, hAO, hsz⟩ := hv
  have hts := atoms_spec (ws := Cond.code y b mL ret :: gtb) B.pre
  have hown : s.vm.findClass y.cls = some m.cls := findClass_of_methodNamed B.named
  rw [lg_entry_eq]
  exact body p e s m As.toArray below meth c ⟨B.exec, B.bytes, hml, hown, fun w hw => hts w (List.mem_cons_of_mem _ hw), hK, B.returns, B.notSynchronized, hNw⟩ hAO (name_of_methodNamed B.named B.method).1 (fun q hq => Or.inr (hsz ▸ hq)) s.heap [] _ hP hD0.self va_S.rf (lvh_entry hlen (cat_of hcat))
/-- the frame rule where the callee makes cells -/
theorem w_midA {D : va_G} {A : Nat → Prop} {w0 wc w' : va_W} {H H1 : Heap} (hP : va_P D kcl (w0 ++ wc) H) (hD : va_D A (w0 ++ wc)) (hk : ∀ q : Nat, q < H.size → ¬ va_A wc H.size q → H1[q]? = H[q]?) (hF : ∀ q, va_A wc H.size q → A q) (hP1 : va_P D kcl w' H1) (hD1 : va_D (va_A wc H.size) w') : va_P D kcl (w0 ++ w') H1 ∧ va_D A (w0 ++ w') := by
  have inc : ∀ (k : Nat) (q : Nat × va_E), wc[k]? = some q → (w0 ++ wc)[w0.length + k]? = some q := fun k q h => by
    rw [List.getElem?_append_right (by omega), Nat.add_sub_cancel_left]; exact h
  have in0 : ∀ (k : Nat) (q : Nat × va_E), w0[k]? = some q → (w0 ++ wc)[k]? = some q := fun k q h => by
    rw [List.getElem?_append_left (List.getElem?_eq_some_iff.mp h).1]; exact h
  have ap0 : ∀ (k : Nat) (q : Nat × va_E), w0[k]? = some q → ¬ va_A wc H.size q.1 := fun k q h z => by
    rcases z with ⟨j, e, hj⟩ | z
    · have := hD.1 _ _ _ _ (in0 k q h) (inc j _ hj) rfl
      have := (List.getElem?_eq_some_iff.mp h).1
      omega
    · have := (hP _ q (in0 k q h)).lt
      omega
  refine ⟨va_P.app (fun k q h => (hP _ q (in0 k q h)).kept (hk _ (hP _ q (in0 k q h)).lt (ap0 k q h))) hP1, va_D.app ⟨fun i j a b ha hb hab => hD.1 i j a b (in0 i a ha) (in0 j b hb) hab, fun k q h => hD.2 _ q (in0 k q h)⟩ ⟨hD1.1, fun k q h => hF _ (hD1.2 k q h)⟩ (fun i j a b ha hb hab => ap0 i a ha (hab ▸ hD1.2 j b hb))⟩
section VA
variable {p : Program} {l : Launch} {e : Env} {R : Room} {s : State} {m : MethodId} {args : Array Value} {below : List Frame} {meth : Method} {c : Code} {D : va_G} {A : Nat → Prop} {nL cells slots : Nat} {Q : State → Prop} {pc : Nat} {vs st : List Value} {ws : va_W} {cc : ByteArray} {rt : Option FieldType} {own : String} {kA : Nat → ClassId}
theorem v_cells {a b : Nat} (ha : cells = a) (hb : slots = b) (kk : V p l e R s m args below meth c D A nL a b Q pc vs st ws) : V p l e R s m args below meth c D A nL cells slots Q pc vs st ws := by subst ha hb; exact kk
theorem v_perm {ws' : va_W} (h : ws.Perm ws') (kk : V p l e R s m args below meth c D A nL cells slots Q pc vs st ws') : V p l e R s m args below meth c D A nL cells slots Q pc vs st ws := fun H locs ls h1 h2 h3 h4 => by
  refine kk H locs ls (fun k q hk => ?_) ⟨?_, fun k q hk => ?_⟩ h3 h4
  · obtain ⟨j, hj⟩ := List.getElem?_of_mem (h.mem_iff.mpr (List.mem_of_getElem? hk))
    exact h1 j q hj
  · have hn : (ws.map Prod.fst).Nodup := List.pairwise_iff_getElem.mpr (fun i j hi hj hij e => by
      have hi' : i < ws.length := by simpa using hi
      have hj' : j < ws.length := by simpa using hj
      rw [List.getElem_map, List.getElem_map] at e
      have := h2.1 i j _ _ (List.getElem?_eq_getElem hi') (List.getElem?_eq_getElem hj') e
      omega)
    have hn' : (ws'.map Prod.fst).Nodup := (h.map _).nodup_iff.mp hn
    intro i j a b ha hb hab
    have hi := (List.getElem?_eq_some_iff.mp ha).1
    have hj := (List.getElem?_eq_some_iff.mp hb).1
    rcases Nat.lt_trichotomy i j with z | z | z
    · exact absurd (by rw [List.getElem_map, List.getElem_map, (List.getElem?_eq_some_iff.mp ha).2, (List.getElem?_eq_some_iff.mp hb).2]; exact hab) (List.pairwise_iff_getElem.mp hn' i j (by simpa using hi) (by simpa using hj) z)
    · exact z
    · exact absurd (by rw [List.getElem_map, List.getElem_map, (List.getElem?_eq_some_iff.mp ha).2, (List.getElem?_eq_some_iff.mp hb).2]; exact hab.symm) (List.pairwise_iff_getElem.mp hn' j i (by simpa using hj) (by simpa using hi) z)
  · obtain ⟨j, hj⟩ := List.getElem?_of_mem (h.mem_iff.mpr (List.mem_of_getElem? hk))
    exact h2.2 j q hj
/-- Object's own constructor -/
theorem v_obj (C : Cx p s m args meth c cc nL rt own D kA) {index a : Nat} (hl : Cond.methodLink own index objectInit ∈ lw_tbl) (hdg : decode cc pc = .ok (.invokespecial index, 3)) (hR : 1 ≤ R.frames ∧ 20 ≤ R.locals) (hc : okSt st = true) (kk : V p l e R s m args below meth c D A nL cells slots Q (pc + 3) vs st ws) : V p l e R s m args below meth c D A nL cells slots Q pc vs (.ref a :: st) ws := fun H locs ls h1 h2 h3 h4 =>
  W.objInit C.1 C.2.1 C.2.2.2.1 (C.2.2.2.2.1 _ (gtb_in hl rfl)) (C.2.2.2.2.1 _ (gtb_in im_Obj_init rfl)) (C.2.2.2.2.1 _ (gtb_in co_Obj rfl)) rfl (by rw [C.2.2.1]; exact h4.1) rfl hdg hR.1 (Nat.le_trans (Nat.add_le_add_right (lv_room (by rw [cat_sum st (okSt.to hc).2]; exact (okSt.to hc).1)) 12) hR.2) (kk H locs ls h1 h2 h3 h4)
theorem kA_eq {t0 : Nat} {cA : ClassId} {ty : FieldType} {U : State} (ht : (tyA kA)[t0]? = some (kA t0, ty)) (h : va_K D kcl (tyA kA ++ [(cA, ty)]) U) : cA = kA t0 := by
  have hl : t0 < (tyA kA).length := (List.getElem?_eq_some_iff.mp ht).1
  have h1 := (h.2 t0 _ (by rw [List.getElem?_append_left hl]; exact ht)).2
  have h2 := (h.2 4 (cA, ty) (by rfl)).2
  cases ty with
  | object C =>
    obtain ⟨_, _, -, -, -, f1⟩ := h1
    obtain ⟨_, _, -, -, -, f2⟩ := h2
    exact Option.some.inj (f2.symm.trans f1)
  | _ => exact Option.some.inj ((show U.vm.findClass _ = some cA from h2).symm.trans h1)
theorem v_newi (C : Cx p s m args meth c cc nL rt own D kA) (hA : ∀ q, s.heap.size ≤ q → A q) {n : Nat} (hn : n < 2 ^ 27) (hc : cells + 1 ≤ R.cells) (hs : slots + n ≤ R.slots) (hdg : decode cc pc = .ok (.newarray .int, 2)) (kk : ∀ q, V p l e R s m args below meth c D A nL (cells + 1) (slots + n) Q (pc + 2) vs (.ref q :: st) (ws ++ [(q, .inl (kA 0, n, .inl (fun _ => 0)))])) : V p l e R s m args below meth c D A nL cells slots Q pc vs (.int (nI n) :: st) ws := fun H locs ls h1 h2 h3 h4 =>
  va_newa (atype := .int) (ty := .int) (a0 := (n, .inl (fun _ => 0))) C.1 C.2.1 (C.2.2.2.2.1 _ (gtb_in ac_int rfl)) rfl C.2.2.2.2.2.1 h1 h2 h3 hA (fun _ => rfl) (nI_pos (by omega)) (nI_clamp (by omega)) (by show n * 4 ≤ _; omega) hc hs hdg (fun q cA H1 k1 p1 d1 s1 => by
    obtain rfl := kA_eq (t0 := 0) rfl k1
    exact kk q H1 locs ls p1 d1 s1 h4)
theorem v_newz (C : Cx p s m args meth c cc nL rt own D kA) (hA : ∀ q, s.heap.size ≤ q → A q) {n : Nat} (hn : n < 2 ^ 27) (hc : cells + 1 ≤ R.cells) (hs : slots + n ≤ R.slots) (hdg : decode cc pc = .ok (.newarray .boolean, 2)) (kk : ∀ q, V p l e R s m args below meth c D A nL (cells + 1) (slots + n) Q (pc + 2) vs (.ref q :: st) (ws ++ [(q, .inl (kA 1, n, .inl (fun _ => 0)))])) : V p l e R s m args below meth c D A nL cells slots Q pc vs (.int (nI n) :: st) ws := fun H locs ls h1 h2 h3 h4 =>
  va_newa (atype := .boolean) (ty := .boolean) (a0 := (n, .inl (fun _ => 0))) C.1 C.2.1 (C.2.2.2.2.1 _ (gtb_in ac_boolean rfl)) rfl C.2.2.2.2.2.1 h1 h2 h3 hA (fun _ => rfl) (nI_pos (by omega)) (nI_clamp (by omega)) (by show n * 1 ≤ _; omega) hc hs hdg (fun q cA H1 k1 p1 d1 s1 => by
    obtain rfl := kA_eq (t0 := 1) rfl k1
    exact kk q H1 locs ls p1 d1 s1 h4)
theorem v_newq (C : Cx p s m args meth c cc nL rt own D kA) (hA : ∀ q, s.heap.size ≤ q → A q) {n index t0 : Nat} {cn : String} (ht : (tyA kA)[t0]? = some (kA t0, .object cn)) (hao : va_AO cn s) (hcl : Cond.classLink own index cn ∈ lw_tbl) (hn : n < 2 ^ 27) (hc : cells + 1 ≤ R.cells) (hs : slots + n ≤ R.slots) (hdg : decode cc pc = .ok (.anewarray index, 3)) (kk : ∀ q, V p l e R s m args below meth c D A nL (cells + 1) (slots + n) Q (pc + 3) vs (.ref q :: st) (ws ++ [(q, .inl (kA t0, n, .inr (.inr (.inr (.inr (fun _ => none))))))])) : V p l e R s m args below meth c D A nL cells slots Q pc vs (.int (nI n) :: st) ws := fun H locs ls h1 h2 h3 h4 =>
  va_newq C.1 C.2.1 C.2.2.2.1 (C.2.2.2.2.1 _ (gtb_in hcl rfl)) hao C.2.2.2.2.2.1 h1 h2 h3 hA (nI_pos (by omega)) (nI_clamp (by omega)) (by omega) hc hs hdg (fun q cA H1 k1 p1 d1 s1 => by
    obtain rfl := kA_eq ht k1
    exact kk q H1 locs ls p1 d1 s1 h4)
theorem v_new (C : Cx p s m args meth c cc nL rt own D kA) (hA : ∀ q, s.heap.size ≤ q → A q) {C0 : String} {T : u_T} {N ci index : Nat} (hin : ∀ w ∈ u_ws C0 T N, w ∈ lw_tbl) {ty0 : Nat → FieldType} (hty : ∀ k, k < N → parseFieldDescriptor (T k).2.2.1 = some (ty0 k)) (hc0 : kcl[ci]? = some (C0, T, N)) (hcl : Cond.classLink own index C0 ∈ lw_tbl) (hit : Cond.instantiable C0 N ∈ lw_tbl) (hini : Cond.initialized C0 ∈ lw_tbl) (fs : List Value) (hfs : ∀ j, j < N → defaultValue (ty0 j) = vp_V fs j) (hc : cells + 1 ≤ R.cells) (hs : slots + N ≤ R.slots) (hdg : decode cc pc = .ok (.new index, 3)) (kk : ∀ q, V p l e R s m args below meth c D A nL (cells + 1) (slots + N) Q (pc + 3) vs (.ref q :: st) (ws ++ [(q, .inr (ci, fs))])) : V p l e R s m args below meth c D A nL cells slots Q pc vs st ws := fun H locs ls h1 h2 h3 h4 =>
  va_new C.1 C.2.1 C.2.2.2.2.1 (gtb_lay hin) ty0 hty C.2.2.2.1 (C.2.2.2.2.1 _ (gtb_in hcl rfl)) (C.2.2.2.2.1 _ (gtb_in hit rfl)) (C.2.2.2.2.1 _ (gtb_in hini rfl)) C.2.2.2.2.2.1 h1 h2 h3 hA hc0 hfs hc hs hdg (fun q H1 p1 d1 s1 => kk q H1 locs ls p1 d1 s1 h4)
theorem v_putF (C : Cx p s m args meth c cc nL rt own D kA) (hnm : meth.name = "<init>") {C0 : String} {T : u_T} {N ci index a : Nat} {fs fs' : List Value} {ws' : va_W} {v : Value} (hin : ∀ w ∈ u_ws C0 T N, w ∈ lw_tbl) {ty0 : Nat → FieldType} (hty : ∀ k, k < N → parseFieldDescriptor (T k).2.2.1 = some (ty0 k)) (hnms : ∀ a, a < N → ∀ b, b < N → a ≠ b → (T a).2.1 ≠ (T b).2.1) (hc : kcl[ci]? = some (C0, T, N)) (k : Nat) (hk : k < N) (he : Wset ws a (.inr (ci, fs)) (.inr (ci, fs')) ws') (hlink : Cond.fieldLink own index (T k).1 (T k).2.1 (T k).2.2.1 ∈ lw_tbl) (hdg : decode cc pc = .ok (.putfield index, 3)) (hfin : (T k).2.2.2 = true) (hdecl : (T k).1 = own) (hn : narrow (ty0 k) v = v) (hfit : fits (ty0 k) v = true) (hl : k < fs.length) (hf : fs.set k v = fs') (kk : V p l e R s m args below meth c D A nL cells slots Q (pc + 3) vs st ws') : V p l e R s m args below meth c D A nL cells slots Q pc vs (v :: .ref a :: st) ws := fun H locs ls h1 h2 h3 h4 => by
  obtain ⟨q0, h0, rfl⟩ := he
  subst hf
  exact va_putF C.1 C.2.1 C.2.2.2.2.1 (gtb_lay hin) ty0 hty hnms C.2.2.2.1 C.2.2.2.2.2.1 h1 h2 h3 q0 h0 hc k hk (C.2.2.2.2.1 _ (gtb_in hlink rfl)) (fun _ h => h) hfin hnm hdecl (hty k hk) hn hfit hl hdg (fun H1 locs1 p1 d1 s1 => kk H1 locs1 ls p1 d1 s1 h4)
theorem v_aast (C : Cx p s m args meth c cc nL rt own D kA) {a N t0 v ci i : Nat} {f : Nat → Option Nat} {r : vw_C} {fs : List Value} {ws' : va_W} (he : Wset ws a (.inl (kA t0, N, .inr (.inr (.inr (.inr f))))) (.inl (kA t0, N, .inr (.inr (.inr (.inr (va_up f i (some v))))))) ws') (ht : (tyA kA)[t0]? = some (kA t0, .object r.1)) (hv : (v, .inr (ci, fs)) ∈ ws) (hc : kcl[ci]? = some r) (hi : i < N) (hN : N < 2 ^ 31) (hdg : decode cc pc = .ok (.aastore, 1)) (kk : V p l e R s m args below meth c D A nL cells slots Q (pc + 1) vs st ws') : V p l e R s m args below meth c D A nL cells slots Q pc vs (.ref v :: .int (nI i) :: .ref a :: st) ws := fun H locs ls h1 h2 h3 h4 => by
  obtain ⟨q0, h0, rfl⟩ := he
  obtain ⟨qk, hqk⟩ := List.getElem?_of_mem hv
  refine va_astq C.1 C.2.1 C.2.2.2.2.2.1 h1 h2 h3 q0 t0 qk ci h0 ht hqk hc (vp_in_nI hi hN) hdg (fun H1 locs1 p1 d1 s1 => ?_)
  rw [nI_clamp (Nat.lt_trans hi hN)] at p1 d1
  exact kk H1 locs1 ls p1 d1 s1 h4
theorem w_runA {H : Heap} {locs : List Loc} {ls : Array Slot} {st0 rest : List Value} {w0 wc : va_W} {mc ms : Nat} {Post : Option Value → va_W → Prop} {a : Array Value} (hr : va_Run p l e R s m args below meth c H locs cells slots mc ms (F0 m pc ls st0) rest (QA D wc H.size Post a) (va_A wc H.size)) (hP : va_P D kcl (w0 ++ wc) H) (hD : va_D A (w0 ++ wc)) (hS : va_S A s.heap H locs) (hA : ∀ q, s.heap.size ≤ q → A q)
    (kk : ∀ (r : Option Value) (w' : va_W) (H1 : Heap) (locs1 : List Loc), Post r w' → va_P D kcl (w0 ++ w') H1 → va_D A (w0 ++ w') → va_S A s.heap H1 locs1 → W p l e R s m args below meth c H1 locs1 (cells + mc) (slots + ms) Q (F0 m (pc + 3) ls (r.toList ++ rest))) : W p l e R s m args below meth c H locs cells slots Q (F0 m pc ls st0) := by
  intro T hT X
  obtain ⟨v, st₀, t, T', L, h0, X', hL, e1, e2, ⟨⟨r, w', hv, hp, hP1, hD1⟩, hz, hk⟩, st⟩ := hr T hT X
  cases hv
  rw [h0] at hz hk
  rw [← e1] at hP1 hz hk
  have hF : ∀ q, va_A wc H.size q → A q := fun q z => by
    rcases z with ⟨k, e, h⟩ | z
    · exact hD.2 (w0.length + k) (q, e) (by rw [List.getElem?_append_right (by omega), Nat.add_sub_cancel_left]; exact h)
    · exact hA q (Nat.le_trans hS.1 z)
  obtain ⟨hP2, hD2⟩ := w_midA hP hD hk hF hP1 hD1
  obtain ⟨t2, a1, b1⟩ := kk _ w' T'.heap (locs ++ L) hp hP2 hD2 ⟨Nat.le_trans hS.1 hz, fun q h1 h2 => by rw [hk q (Nat.lt_of_lt_of_le h1 hS.1) (fun z => h2 (hF q z))]; exact hS.2.1 q h1 h2, fun q hq => by
      rcases List.mem_append.mp hq with h | h
      · exact hS.2.2 q h
      · exact hF _ (hL q h)⟩ T' rfl X'
  exact ⟨t2, st t2 a1, b1⟩
/-- a constructor's call: the new object's cells stand last -/
theorem v_callI (C : Cx p s m args meth c cc nL rt own D kA) (hO : AO2 s) (hA : ∀ q, s.heap.size ≤ q → A q) {mL mc ms index q : Nat} {rm : Room} {y : MethodName} {b : ByteArray} {w0 wc : va_W} {P : va_W → Prop} (hM : ∀ sz, CtA l D kA rm mc ms sz y b mL none [.ref q] wc (pV P)) (hrm : rm.cells = mc ∧ rm.slots = ms ∧ rm.frames + 1 ≤ R.frames ∧ 8 + (mL + 11) + rm.locals ≤ R.locals) (cd : CD y b mL none 0) (hnm : y.name = "<init>") (him : Cond.instanceMethod y ∈ lw_tbl) (hl : Cond.methodLink own index y ∈ lw_tbl) (hdg : decode cc pc = .ok (.invokespecial index, 3)) (hc : okSt st = true) (hcl : cells + mc ≤ R.cells ∧ slots + ms ≤ R.slots)
    (kk : ∀ w', P w' → V p l e R s m args below meth c D A nL (cells + mc) (slots + ms) Q (pc + 3) vs st (w0 ++ w')) : V p l e R s m args below meth c D A nL cells slots Q pc vs (.ref q :: st) (w0 ++ wc) := fun H locs ls h1 h2 h3 h4 => by
  have inc : ∀ (k : Nat) (q : Nat × va_E), wc[k]? = some q → (w0 ++ wc)[w0.length + k]? = some q := fun k q h => by
    rw [List.getElem?_append_right (by omega), Nat.add_sub_cancel_left]; exact h
  have hPc : va_P D kcl wc H := fun k q hk => h1 _ q (inc k q hk)
  have hDc : va_D (fun _ => True) wc := ⟨fun i j a b ha hb hab => by have := h2.1 _ _ _ _ (inc i a ha) (inc j b hb) hab; omega, fun _ _ _ => trivial⟩
  refine w_runA (va_runI (As := []) (rest := st) ⟨C.1, C.2.1, C.2.2.1, C.2.2.2.1, C.2.2.2.2.1⟩ (hM H.size) ⟨⟨hrm.1, hrm.2.1, hrm.2.2.1, hrm.2.2.2, pay_in C.2.2.2.2.1 (good_code cd.1), List.mem_cons_self, C.2.2.2.2.1 _ (gtb_in cd.1 rfl), C.2.2.2.2.1 _ (gtb_in cd.2.1 rfl), cd.2.2.1, fun sig h => by have h2 := cd.2.2.2; rw [h] at h2; exact (Option.some.inj h2).symm, C.2.2.2.2.1 _ (gtb_in hl rfl)⟩, hnm, C.2.2.2.2.1 _ (gtb_in him rfl)⟩ ⟨PrA.blind, fun U hU hW => ⟨rfl, by rw [hU]; exact hPc, va_K.moved hW.alike C.2.2.2.2.2.1, hDc, NwA.warm hW C.2.2.2.2.2.2.2.2, AO2.moved hW.alike hO, by rw [hU]⟩⟩ rfl rfl h4.1 rfl (lv_room (by rw [cat_sum st (okSt.to hc).2]; exact (okSt.to hc).1)) hdg hcl) h1 h2 h3 hA (fun r w' H1 locs1 hp p1 d1 s1 => ?_)
  obtain ⟨rfl, hp⟩ := hp
  exact kk w' hp H1 locs1 ls p1 d1 s1 h4
theorem v_callIN (C : Cx p s m args meth c cc nL rt own D kA) (hO : AO2 s) (hA : ∀ q, s.heap.size ≤ q → A q) {mL mc ms index q : Nat} {rm : Room} {y : MethodName} {b : ByteArray} {host : String} {w0 wc : va_W} {P : va_W → Prop} (hM : ∀ sz, CtA l D kA rm mc ms sz y b mL none [.ref q] wc (pV P)) (hrm : rm.cells = mc ∧ rm.slots = ms ∧ rm.frames + 1 ≤ R.frames ∧ 8 + (mL + 11) + rm.locals ≤ R.locals) (cd : CD y b mL none 0) (hnm : y.name = "<init>") (him : Cond.instanceMethod y ∈ lw_tbl) (hl : va_Nw (Cond.methodLinkNest own index y host) s) (hdg : decode cc pc = .ok (.invokespecial index, 3)) (hc : okSt st = true) (hcl : cells + mc ≤ R.cells ∧ slots + ms ≤ R.slots)
    (kk : ∀ w', P w' → V p l e R s m args below meth c D A nL (cells + mc) (slots + ms) Q (pc + 3) vs st (w0 ++ w')) : V p l e R s m args below meth c D A nL cells slots Q pc vs (.ref q :: st) (w0 ++ wc) := fun H locs ls h1 h2 h3 h4 => by
  have inc : ∀ (k : Nat) (q : Nat × va_E), wc[k]? = some q → (w0 ++ wc)[w0.length + k]? = some q := fun k q h => by
    rw [List.getElem?_append_right (by omega), Nat.add_sub_cancel_left]; exact h
  have hPc : va_P D kcl wc H := fun k q hk => h1 _ q (inc k q hk)
  have hDc : va_D (fun _ => True) wc := ⟨fun i j a b ha hb hab => by have := h2.1 _ _ _ _ (inc i a ha) (inc j b hb) hab; omega, fun _ _ _ => trivial⟩
  refine w_runA (va_runIN (As := []) (rest := st) (host := host) ⟨C.1, C.2.1, C.2.2.1, C.2.2.2.1, C.2.2.2.2.1⟩ (hM H.size) ⟨⟨⟨hrm.1, hrm.2.1, hrm.2.2.1, hrm.2.2.2, pay_in C.2.2.2.2.1 (good_code cd.1), List.mem_cons_self⟩, C.2.2.2.2.1 _ (gtb_in cd.1 rfl), C.2.2.2.2.1 _ (gtb_in cd.2.1 rfl), cd.2.2.1, fun sig h => by have h2 := cd.2.2.2; rw [h] at h2; exact (Option.some.inj h2).symm, va_Nw.use rfl hl⟩, hnm, C.2.2.2.2.1 _ (gtb_in him rfl)⟩ ⟨PrA.blind, fun U hU hW => ⟨rfl, by rw [hU]; exact hPc, va_K.moved hW.alike C.2.2.2.2.2.1, hDc, NwA.warm hW C.2.2.2.2.2.2.2.2, AO2.moved hW.alike hO, by rw [hU]⟩⟩ rfl rfl h4.1 rfl (lv_room (by rw [cat_sum st (okSt.to hc).2]; exact (okSt.to hc).1)) hdg hcl) h1 h2 h3 hA (fun r w' H1 locs1 hp p1 d1 s1 => ?_)
  obtain ⟨rfl, hp⟩ := hp
  exact kk w' hp H1 locs1 ls p1 d1 s1 h4
theorem v_vretA (C : Cx p s m args meth c cc nL rt own D kA) {ws0 : va_W} {sz : Nat} {Post : Option Value → va_W → Prop} (hrt : rt = none) (hdg : decode cc pc = .ok (.return_, 1)) (hp : Post none ws) : V p l e R s m args below meth c D (va_A ws0 sz) nL cells slots (MQ below (QA D ws0 sz Post) args s cells slots (va_A ws0 sz)) pc vs [] ws := fun H locs ls h1 h2 h3 h4 =>
  W.vret C.1 C.2.1 (by rw [C.2.2.2.2.2.2.1, hrt]) (fun t ht hW => ⟨⟨_, ws, rfl, hp, by rw [ht]; exact h1, h2⟩, h3.F ht⟩) h3.2.2 hdg C.2.2.2.2.2.2.2.1
end VA
