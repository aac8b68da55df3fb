/-! the picture of TripleTrees: three trees, ten cursors (8 own, 9 other) -/
abbrev TS : Type := (Nat → Nd) × (Nat → Nat)
def scf (fr rt ky up fl fp : Nat) : Nat → Nat
  | 0 => fr
  | 1 => rt
  | 2 => ky
  | 3 => up
  | 4 => fl
  | _ => fp
def cu (o v r td pa lf pl hs nw : Nat) : Nat → Nat
  | 0 => o
  | 1 => v
  | 2 => r
  | 3 => td
  | 4 => pa
  | 5 => lf
  | 6 => pl
  | 7 => hs
  | _ => nw
def tws (kA : Nat → ClassId) (h : Nat) (a : Nat → Nat) (x : TS) : va_W := tw kA h a x.1 (x.2 0) (x.2 1) (x.2 2) (x.2 3) (x.2 4) (x.2 5)
def cw (kA : Nat → ClassId) (h : Nat) (ca : Nat → Nat) (c : Nat → Nat) : va_W :=
  [(h, .inr (1, [.int (nI (c 0)), .int (nI (c 1)), .int (nI (c 2)), .int (nI (c 3)), .ref (ca 0), .int (nI (c 5)), .int (nI (c 6)), .int (nI (c 7)), .ref (ca 1)])), (ca 0, .inl (kA 0, 3, .inl (dc (c 4)))), (ca 1, .inl (kA 0, 3, .inl (dc (c 8))))]
def xh (kA : Nat → ClassId) (ad : Nat → Nat → Nat) (sz ch mc : Nat) (mt : Nat → Int32) (fa : Nat → Nat) : va_W :=
  [(ad 0 0, .inr (2, [.ref (ad 0 1), .ref (ad 0 2), .int (nI sz), .int (nI ch), .ref (ad 0 3), .ref (ad 0 4), .int (nI mc), .ref (ad 2 8), .ref (ad 2 9)])), (ad 0 1, .inl (kA 2, 3, .inr (.inr (.inr (.inr (fun t => some (ad 1 t))))))), (ad 0 2, .inl (kA 3, 8, .inr (.inr (.inr (.inr (fun c => some (ad 2 c))))))), (ad 0 3, .inl (kA 0, 1500, .inl mt)), (ad 0 4, .inl (kA 0, 1500, .inl (fun j => nI (fa j))))]
def xw (kA : Nat → ClassId) (ad : Nat → Nat → Nat) (sz ch mc : Nat) (T : Nat → TS) (Cu : Nat → Nat → Nat) (mt : Nat → Int32) (fa : Nat → Nat) : va_W :=
  xh kA ad sz ch mc mt fa ++ (seg (fun t => tws kA (ad 1 t) (ad (3 + t)) (T t)) 0 3 ++ seg (fun c => cw kA (ad 2 c) (ad (6 + c)) (Cu c)) 0 10)
theorem up_eta {β : Type} (F : Nat → β) (w : Nat) : va_up F w (F w) = F := by
  funext j
  by_cases h : j = w
  · subst h; rw [va_up_self]
  · rw [va_up_ne _ _ h]
theorem seg_up {α β : Type} (g : Nat → β → List α) (F : Nat → β) {n w : Nat} (hw : w < n) (x : β) : seg (fun j => g j (va_up F w x j)) 0 n = seg (fun j => g j (F j)) 0 w ++ (g w x ++ seg (fun j => g j (F j)) (w + 1) (n - (w + 1))) := by
  rw [seg_at _ hw, va_up_self]
  congr 1
  · refine seg_congr _ _ _ (fun j hj => ?_)
    show g (0 + j) (va_up F w x (0 + j)) = _
    rw [va_up_ne _ _ (by omega)]
  · congr 1
    refine seg_congr _ _ _ (fun j hj => ?_)
    show g (w + 1 + j) (va_up F w x (w + 1 + j)) = _
    rw [va_up_ne _ _ (by omega)]
section XW
variable {kA : Nat → ClassId} {ad : Nat → Nat → Nat} {sz ch mc : Nat} {T : Nat → TS} {Cu : Nat → Nat → Nat} {mt : Nat → Int32} {fa : Nat → Nat}
theorem xw_T {t : Nat} (ht : t < 3) : ∃ w0 w1, ∀ x, xw kA ad sz ch mc (va_up T t x) Cu mt fa = w0 ++ (tws kA (ad 1 t) (ad (3 + t)) x ++ w1) := by
  refine ⟨xh kA ad sz ch mc mt fa ++ seg (fun t => tws kA (ad 1 t) (ad (3 + t)) (T t)) 0 t, seg (fun t => tws kA (ad 1 t) (ad (3 + t)) (T t)) (t + 1) (3 - (t + 1)) ++ seg (fun c => cw kA (ad 2 c) (ad (6 + c)) (Cu c)) 0 10, fun x => ?_⟩
  unfold xw
  rw [seg_up (fun t x => tws kA (ad 1 t) (ad (3 + t)) x) T ht x]
  simp only [List.append_assoc]
theorem xw_C {c : Nat} (hc : c < 10) : ∃ w0 w1, ∀ x, xw kA ad sz ch mc T (va_up Cu c x) mt fa = w0 ++ (cw kA (ad 2 c) (ad (6 + c)) x ++ w1) := by
  refine ⟨xh kA ad sz ch mc mt fa ++ (seg (fun t => tws kA (ad 1 t) (ad (3 + t)) (T t)) 0 3 ++ seg (fun c => cw kA (ad 2 c) (ad (6 + c)) (Cu c)) 0 c), seg (fun c => cw kA (ad 2 c) (ad (6 + c)) (Cu c)) (c + 1) (10 - (c + 1)), fun x => ?_⟩
  unfold xw
  rw [seg_up (fun c x => cw kA (ad 2 c) (ad (6 + c)) x) Cu hc x]
  simp only [List.append_assoc]
theorem xm_T {t : Nat} (ht : t < 3) {x : TS} {e : Nat × va_E} (he : e ∈ tws kA (ad 1 t) (ad (3 + t)) x) : e ∈ xw kA ad sz ch mc (va_up T t x) Cu mt fa := by
  obtain ⟨w0, w1, h⟩ := xw_T (kA := kA) (ad := ad) (sz := sz) (ch := ch) (mc := mc) (T := T) (Cu := Cu) (mt := mt) (fa := fa) ht
  rw [h]
  exact List.mem_append_right _ (List.mem_append_left _ he)
theorem xm_C {c : Nat} (hc : c < 10) {x : Nat → Nat} {e : Nat × va_E} (he : e ∈ cw kA (ad 2 c) (ad (6 + c)) x) : e ∈ xw kA ad sz ch mc T (va_up Cu c x) mt fa := by
  obtain ⟨w0, w1, h⟩ := xw_C (kA := kA) (ad := ad) (sz := sz) (ch := ch) (mc := mc) (T := T) (Cu := Cu) (mt := mt) (fa := fa) hc
  rw [h]
  exact List.mem_append_right _ (List.mem_append_left _ he)
theorem xm_T0 {t : Nat} (ht : t < 3) {e : Nat × va_E} (he : e ∈ tws kA (ad 1 t) (ad (3 + t)) (T t)) : e ∈ xw kA ad sz ch mc T Cu mt fa := by
  have := xm_T (sz := sz) (ch := ch) (mc := mc) (T := T) (Cu := Cu) (mt := mt) (fa := fa) ht he
  rw [up_eta] at this; exact this
theorem xm_C0 {c : Nat} (hc : c < 10) {e : Nat × va_E} (he : e ∈ cw kA (ad 2 c) (ad (6 + c)) (Cu c)) : e ∈ xw kA ad sz ch mc T Cu mt fa := by
  have := xm_C (sz := sz) (ch := ch) (mc := mc) (T := T) (Cu := Cu) (mt := mt) (fa := fa) hc he
  rw [up_eta] at this; exact this
theorem xs_T {t : Nat} (ht : t < 3) {x x' : TS} {a : Nat} {e0 e1 : va_E} (h : Wset (tws kA (ad 1 t) (ad (3 + t)) x) a e0 e1 (tws kA (ad 1 t) (ad (3 + t)) x')) : Wset (xw kA ad sz ch mc (va_up T t x) Cu mt fa) a e0 e1 (xw kA ad sz ch mc (va_up T t x') Cu mt fa) := by
  obtain ⟨w0, w1, e⟩ := xw_T (kA := kA) (ad := ad) (sz := sz) (ch := ch) (mc := mc) (T := T) (Cu := Cu) (mt := mt) (fa := fa) ht
  rw [e, e]
  exact (h.app w1).pre w0
theorem xs_C {c : Nat} (hc : c < 10) {x x' : Nat → Nat} {a : Nat} {e0 e1 : va_E} (h : Wset (cw kA (ad 2 c) (ad (6 + c)) x) a e0 e1 (cw kA (ad 2 c) (ad (6 + c)) x')) : Wset (xw kA ad sz ch mc T (va_up Cu c x) mt fa) a e0 e1 (xw kA ad sz ch mc T (va_up Cu c x') mt fa) := by
  obtain ⟨w0, w1, e⟩ := xw_C (kA := kA) (ad := ad) (sz := sz) (ch := ch) (mc := mc) (T := T) (Cu := Cu) (mt := mt) (fa := fa) hc
  rw [e, e]
  exact (h.app w1).pre w0
theorem xw_rcv : rcv (xw kA ad sz ch mc T Cu mt fa) (ad 0 0) R_TT := ⟨0, 2, _, _, rfl, rfl, rfl⟩
/-- the same cells, the cursor's numbers told apart -/
theorem xw_cu (c : Nat) : xw kA ad sz ch mc T Cu mt fa = xw kA ad sz ch mc T (va_up Cu c (cu (Cu c 0) (Cu c 1) (Cu c 2) (Cu c 3) (Cu c 4) (Cu c 5) (Cu c 6) (Cu c 7) (Cu c 8))) mt fa := by
  unfold xw
  congr 2
  refine seg_congr _ _ _ (fun j hj => ?_)
  by_cases h : 0 + j = c
  · rw [h, va_up_self]; rfl
  · rw [va_up_ne _ _ h]
theorem xw_ts (t : Nat) : xw kA ad sz ch mc T Cu mt fa = xw kA ad sz ch mc (va_up T t ((T t).1, scf ((T t).2 0) ((T t).2 1) ((T t).2 2) ((T t).2 3) ((T t).2 4) ((T t).2 5))) Cu mt fa := by
  unfold xw
  congr 2
  refine seg_congr _ _ _ (fun j hj => ?_)
  by_cases h : 0 + j = t
  · rw [h, va_up_self]; rfl
  · rw [va_up_ne _ _ h]
end XW
/-- the trees hold the lists; the lists stay in trees whose nodes and roots stay -/
def XI (T : Nat → TS) (dd : Nat → Nat) (LL : Nat → List Nat) : Prop := ∀ t, t < 3 → TI (T t).1 ((T t).2 0) ((T t).2 1) (dd t) (LL t)
def Sm (T T' : Nat → TS) : Prop := ∀ t, (T' t).1 = (T t).1 ∧ (T' t).2 0 = (T t).2 0 ∧ (T' t).2 1 = (T t).2 1
theorem Sm.rf (T : Nat → TS) : Sm T T := fun _ => ⟨rfl, rfl, rfl⟩
theorem Sm.tr {T T' T'' : Nat → TS} (h : Sm T T') (h' : Sm T' T'') : Sm T T'' := fun t => ⟨(h' t).1.trans (h t).1, (h' t).2.1.trans (h t).2.1, (h' t).2.2.trans (h t).2.2⟩
theorem Sm.XI {T T' : Nat → TS} {dd : Nat → Nat} {LL : Nat → List Nat} (h : Sm T T') (hx : XI T dd LL) : XI T' dd LL := fun t ht => by rw [(h t).1, (h t).2.1, (h t).2.2]; exact hx t ht
theorem Sm.up {T : Nat → TS} {t : Nat} {x : TS} (h1 : x.1 = (T t).1) (h2 : x.2 0 = (T t).2 0) (h3 : x.2 1 = (T t).2 1) : Sm T (va_up T t x) := fun j => by
  by_cases h : j = t
  · subst h; rw [va_up_self]; exact ⟨h1, h2, h3⟩
  · rw [va_up_ne _ _ h]; exact ⟨rfl, rfl, rfl⟩
/-- the tree's key is another -/
def kset (x : TS) (ky : Nat) : TS := (x.1, scf (x.2 0) (x.2 1) ky (x.2 3) (x.2 4) (x.2 5))
theorem Sm.ks (T : Nat → TS) (t ky : Nat) : Sm T (va_up T t (kset (T t) ky)) := Sm.up rfl rfl rfl
/-- the position j in the tree's list: at the leaf lf, place pl -/
def ps (x : TS) (d : Nat) (L : List Nat) (lf pl j : Nat) : Prop := (lf = NONE ∧ j = L.length) ∨ ∃ A B, lvO x.1 d (x.2 1) = A ++ lf :: B ∧ pl ≤ nc (x.1 lf) ∧ j = (A.flatMap (ksO x.1)).length + pl
theorem ps.sm {x x' : TS} {d : Nat} {L : List Nat} {lf pl j : Nat} (h : ps x d L lf pl j) (h1 : x'.1 = x.1) (h2 : x'.2 1 = x.2 1) : ps x' d L lf pl j := by unfold ps at *; rw [h1, h2]; exact h
section VX
variable {p : Program} {l : Launch} {e : Env} {s : State} {m : MethodId} {args : Array Value} {below : List Frame} {meth : Method} {c : Code} {D : va_G} {A : Nat → Prop} {nL : Nat} {Q : State → Prop} {pc : Nat} {vs st : List Value} {ws : va_W} {cc : ByteArray} {rt : Option FieldType} {own : String} {kA : Nat → ClassId} {ad : Nat → Nat → Nat} {sz ch mc : Nat} {T : Nat → TS} {Cu : Nat → Nat → Nat} {mt : Nat → Int32} {fa : Nat → Nat}
/-- a call that answers a reference; the callee's cells are all -/
theorem v_cR (C : Cx p s m args meth c cc nL rt own D kA) {K k mL n index h : Nat} {y : MethodName} {b : ByteArray} {ret : Option FieldType} {As st0 : List Value} {P : Nat → va_W → Prop} (hM : Ct l D kA k y b mL ret (.ref h :: As) ws (pR P)) (cv : CV y b mL ret n) (hl : Cond.methodLink own index y ∈ lw_tbl) (hdg : decode cc pc = .ok (.invokevirtual index, 3)) (hj : k < K ∧ mL ≤ 81) (hr : rcv ws h y.cls) (hst : As.length = n ∧ st0 = As.reverse ++ .ref h :: st) (hc : okSt st = true) (kk : ∀ (x : Nat) (w' : va_W), P x w' → V p l e (rmk K) s m args below meth c D A nL 0 0 Q (pc + 3) vs (.ref x :: st) w') : V p l e (rmk K) s m args below meth c D A nL 0 0 Q pc vs st0 ws := by
  have h0 : ws = [] ++ (ws ++ []) := by simp
  rw [h0]
  refine v_callV C hM cv.1 cv.2.1 cv.2.2 hl hdg (Rm.of hj.1 hj.2) hr hst.1 hst.2 (okSt.to hc) ⟨Nat.zero_le _, Nat.zero_le _⟩ (fun r w' hp => ?_)
  obtain ⟨x, rfl, hp⟩ := hp
  have h1 : w' = [] ++ (w' ++ []) := by simp
  rw [← h1]
  exact kk x w' hp
/-- a static method that looks at all cells -/
theorem v_cSw (C : Cx p s m args meth c cc nL rt own D kA) {K k mL n index : Nat} {y : MethodName} {b : ByteArray} {ret : Option FieldType} {As st0 : List Value} {P : Int32 → va_W → Prop} (hM : Ct l D kA k y b mL ret As ws (pI P)) (cv : CSt y b mL ret n) (hl : Cond.methodLink own index y ∈ lw_tbl) (hdg : decode cc pc = .ok (.invokestatic index, 3)) (hj : k < K ∧ mL ≤ 81) (hst : As.length = n ∧ st0 = As.reverse ++ st) (hc : okSt st = true) (kk : ∀ (x : Int32) (w' : va_W), P x w' → V p l e (rmk K) s m args below meth c D A nL 0 0 Q (pc + 3) vs (.int x :: st) w') : V p l e (rmk K) s m args below meth c D A nL 0 0 Q pc vs st0 ws := by
  have h0 : ws = [] ++ (ws ++ []) := by simp
  rw [h0]
  refine v_callS C hM cv.1 cv.2 hl hdg (Rm.of hj.1 hj.2) hst.1 hst.2 (okSt.to hc) ⟨Nat.zero_le _, Nat.zero_le _⟩ (fun r w' hp => ?_)
  obtain ⟨x, rfl, hp⟩ := hp
  have h1 : w' = [] ++ (w' ++ []) := by simp
  rw [← h1]
  exact kk x w' hp
/-- a call of a method of the tree t -/
theorem v_tI (C : Cx p s m args meth c cc nL rt own D kA) {K k mL n index t : Nat} (ht : t < 3) {x : TS} {y : MethodName} {b : ByteArray} {ret : Option FieldType} {As st0 : List Value} {P : Int32 → va_W → Prop} (hM : Ct l D kA k y b mL ret (.ref (ad 1 t) :: As) (tws kA (ad 1 t) (ad (3 + t)) x) (pI P)) (cv : CV y b mL ret n) (hl : Cond.methodLink own index y ∈ lw_tbl) (hdg : decode cc pc = .ok (.invokevirtual index, 3)) (hj : k < K ∧ mL ≤ 81) (hr : y.cls = R_Tree) (hst : As.length = n ∧ st0 = As.reverse ++ .ref (ad 1 t) :: st) (hc : okSt st = true) (kk : ∀ (v : Int32) (w' : va_W), P v w' → ∃ x', w' = tws kA (ad 1 t) (ad (3 + t)) x' ∧ V p l e (rmk K) s m args below meth c D A nL 0 0 Q (pc + 3) vs (.int v :: st) (xw kA ad sz ch mc (va_up T t x') Cu mt fa)) : V p l e (rmk K) s m args below meth c D A nL 0 0 Q pc vs st0 (xw kA ad sz ch mc (va_up T t x) Cu mt fa) := by
  obtain ⟨w0, w1, he⟩ := xw_T (kA := kA) (ad := ad) (sz := sz) (ch := ch) (mc := mc) (T := T) (Cu := Cu) (mt := mt) (fa := fa) ht
  rw [he]
  refine v_callV C hM cv.1 cv.2.1 cv.2.2 hl hdg (Rm.of hj.1 hj.2) (by rw [hr]; exact tw_rcv) hst.1 hst.2 (okSt.to hc) ⟨Nat.zero_le _, Nat.zero_le _⟩ (fun r w' hp => ?_)
  obtain ⟨v, rfl, hp⟩ := hp
  obtain ⟨x', rfl, hv⟩ := kk v w' hp
  rw [he] at hv
  exact hv
theorem v_tIN (C : Cx p s m args meth c cc nL rt own D kA) {K k mL n index t : Nat} (ht : t < 3) {x : TS} {y : MethodName} {b : ByteArray} {ret : Option FieldType} {host : String} {As st0 : List Value} {P : Int32 → va_W → Prop} (hM : Ct l D kA k y b mL ret (.ref (ad 1 t) :: As) (tws kA (ad 1 t) (ad (3 + t)) x) (pI P)) (cv : CV y b mL ret n) (hl : va_Nw (Cond.methodLinkNest own index y host) s) (hdg : decode cc pc = .ok (.invokevirtual index, 3)) (hj : k < K ∧ mL ≤ 81) (hr : y.cls = R_Tree) (hst : As.length = n ∧ st0 = As.reverse ++ .ref (ad 1 t) :: st) (hc : okSt st = true) (kk : ∀ (v : Int32) (w' : va_W), P v w' → ∃ x', w' = tws kA (ad 1 t) (ad (3 + t)) x' ∧ V p l e (rmk K) s m args below meth c D A nL 0 0 Q (pc + 3) vs (.int v :: st) (xw kA ad sz ch mc (va_up T t x') Cu mt fa)) : V p l e (rmk K) s m args below meth c D A nL 0 0 Q pc vs st0 (xw kA ad sz ch mc (va_up T t x) Cu mt fa) := by
  obtain ⟨w0, w1, he⟩ := xw_T (kA := kA) (ad := ad) (sz := sz) (ch := ch) (mc := mc) (T := T) (Cu := Cu) (mt := mt) (fa := fa) ht
  rw [he]
  refine v_callVN C hM cv.1 cv.2.1 cv.2.2 hl hdg (Rm.of hj.1 hj.2) (by rw [hr]; exact tw_rcv) hst.1 hst.2 (okSt.to hc) ⟨Nat.zero_le _, Nat.zero_le _⟩ (fun r w' hp => ?_)
  obtain ⟨v, rfl, hp⟩ := hp
  obtain ⟨x', rfl, hv⟩ := kk v w' hp
  rw [he] at hv
  exact hv
theorem v_tV (C : Cx p s m args meth c cc nL rt own D kA) {K k mL n index t : Nat} (ht : t < 3) {x : TS} {y : MethodName} {b : ByteArray} {ret : Option FieldType} {As st0 : List Value} {P : va_W → Prop} (hM : Ct l D kA k y b mL ret (.ref (ad 1 t) :: As) (tws kA (ad 1 t) (ad (3 + t)) x) (pV P)) (cv : CV y b mL ret n) (hl : Cond.methodLink own index y ∈ lw_tbl) (hdg : decode cc pc = .ok (.invokevirtual index, 3)) (hj : k < K ∧ mL ≤ 81) (hr : y.cls = R_Tree) (hst : As.length = n ∧ st0 = As.reverse ++ .ref (ad 1 t) :: st) (hc : okSt st = true) (kk : ∀ (w' : va_W), P w' → ∃ x', w' = tws kA (ad 1 t) (ad (3 + t)) x' ∧ V p l e (rmk K) s m args below meth c D A nL 0 0 Q (pc + 3) vs st (xw kA ad sz ch mc (va_up T t x') Cu mt fa)) : V p l e (rmk K) s m args below meth c D A nL 0 0 Q pc vs st0 (xw kA ad sz ch mc (va_up T t x) Cu mt fa) := by
  obtain ⟨w0, w1, he⟩ := xw_T (kA := kA) (ad := ad) (sz := sz) (ch := ch) (mc := mc) (T := T) (Cu := Cu) (mt := mt) (fa := fa) ht
  rw [he]
  refine v_callV C hM cv.1 cv.2.1 cv.2.2 hl hdg (Rm.of hj.1 hj.2) (by rw [hr]; exact tw_rcv) hst.1 hst.2 (okSt.to hc) ⟨Nat.zero_le _, Nat.zero_le _⟩ (fun r w' hp => ?_)
  obtain ⟨rfl, hp⟩ := hp
  obtain ⟨x', rfl, hv⟩ := kk w' hp
  rw [he] at hv
  exact hv
end VX
