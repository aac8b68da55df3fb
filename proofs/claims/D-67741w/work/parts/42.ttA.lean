def sh (x : Int32) (k : Nat) : Int32 := (x.toUInt32 >>> ((nI k).toUInt32 &&& Int32.toUInt32 31)).toInt32
def bc1 (x : Int32) : Int32 := x - (sh x 1 &&& 1431655765)
def bc2 (x : Int32) : Int32 := (x &&& 858993459) + (sh x 2 &&& 858993459)
def bc3 (x : Int32) : Int32 := (x + sh x 4) &&& 252645135
def bc4 (x : Int32) : Int32 := x + sh x 8
def bc5 (x : Int32) : Int32 := x + sh x 16
theorem bc_all : ∀ m, m < 8 → bc5 (bc4 (bc3 (bc2 (bc1 (nI m))))) &&& nI 63 = nI (bcn m) := by decide

set_option maxHeartbeats 800000 in
set_option maxRecDepth 20000 in
theorem c_Int_bitCount (l : Launch) (D : va_G) (kA : Nat → ClassId) (m : Nat) (hm : m < 8) : Ct l D kA 0 y_Int_bitCount b_Int_bitCount 1 (some .int) [.int (nI m)] [] (pI fun x w => x = nI (bcn m) ∧ w = []) := by
  refine ct_of (by decide) (Nat.le_of_ble_eq_true rfl) rfl ?_
  intro pg en s0 m0 args below meth cod C
  refine v_iload_n C d_Int_bitCount_0 rfl ?_
  refine v_iload_n C d_Int_bitCount_1 rfl ?_
  refine v_iconst C d_Int_bitCount_2 (nI 1) (by decide) ?_
  refine v_iushrR C d_Int_bitCount_3 rfl ?_
  refine v_ldcw C cn_Int_265 d_Int_bitCount_4 ?_
  refine v_iandR C d_Int_bitCount_7 ?_
  refine v_isubR C d_Int_bitCount_8 ?_
  refine v_istore_n C d_Int_bitCount_9 ⟨Nat.le_of_ble_eq_true rfl, Nat.le_of_ble_eq_true rfl⟩ [.int (bc1 (nI m))] rfl ?_
  refine v_iload_n C d_Int_bitCount_10 rfl ?_
  refine v_ldcw C cn_Int_266 d_Int_bitCount_11 ?_
  refine v_iandR C d_Int_bitCount_14 ?_
  refine v_iload_n C d_Int_bitCount_15 rfl ?_
  refine v_iconst C d_Int_bitCount_16 (nI 2) (by decide) ?_
  refine v_iushrR C d_Int_bitCount_17 rfl ?_
  refine v_ldcw C cn_Int_266 d_Int_bitCount_18 ?_
  refine v_iandR C d_Int_bitCount_21 ?_
  refine v_iaddR C d_Int_bitCount_22 ?_
  refine v_istore_n C d_Int_bitCount_23 ⟨Nat.le_of_ble_eq_true rfl, Nat.le_of_ble_eq_true rfl⟩ [.int (bc2 (bc1 (nI m)))] rfl ?_
  refine v_iload_n C d_Int_bitCount_24 rfl ?_
  refine v_iload_n C d_Int_bitCount_25 rfl ?_
  refine v_iconst C d_Int_bitCount_26 (nI 4) (by decide) ?_
  refine v_iushrR C d_Int_bitCount_27 rfl ?_
  refine v_iaddR C d_Int_bitCount_28 ?_
  refine v_ldcw C cn_Int_267 d_Int_bitCount_29 ?_
  refine v_iandR C d_Int_bitCount_32 ?_
  refine v_istore_n C d_Int_bitCount_33 ⟨Nat.le_of_ble_eq_true rfl, Nat.le_of_ble_eq_true rfl⟩ [.int (bc3 (bc2 (bc1 (nI m))))] rfl ?_
  refine v_iload_n C d_Int_bitCount_34 rfl ?_
  refine v_iload_n C d_Int_bitCount_35 rfl ?_
  refine v_bipush C d_Int_bitCount_36 (nI 8) (by decide) ?_
  refine v_iushrR C d_Int_bitCount_38 rfl ?_
  refine v_iaddR C d_Int_bitCount_39 ?_
  refine v_istore_n C d_Int_bitCount_40 ⟨Nat.le_of_ble_eq_true rfl, Nat.le_of_ble_eq_true rfl⟩ [.int (bc4 (bc3 (bc2 (bc1 (nI m)))))] rfl ?_
  refine v_iload_n C d_Int_bitCount_41 rfl ?_
  refine v_iload_n C d_Int_bitCount_42 rfl ?_
  refine v_bipush C d_Int_bitCount_43 (nI 16) (by decide) ?_
  refine v_iushrR C d_Int_bitCount_45 rfl ?_
  refine v_iaddR C d_Int_bitCount_46 ?_
  refine v_istore_n C d_Int_bitCount_47 ⟨Nat.le_of_ble_eq_true rfl, Nat.le_of_ble_eq_true rfl⟩ [.int (bc5 (bc4 (bc3 (bc2 (bc1 (nI m))))))] rfl ?_
  refine v_iload_n C d_Int_bitCount_48 rfl ?_
  refine v_bipush C d_Int_bitCount_49 (nI 63) (by decide) ?_
  refine v_iandR C d_Int_bitCount_51 ?_
  exact v_iret C rfl d_Int_bitCount_52 (⟨_, rfl, bc_all m hm, rfl⟩)

set_option maxHeartbeats 800000 in
set_option maxRecDepth 20000 in
theorem c_TT_orderOf (l : Launch) (D : va_G) (kA : Nat → ClassId) (m : Nat) (hm : m < 8) : Ct l D kA 0 y_TT_orderOf b_TT_orderOf 1 (some .int) [.int (nI m)] [] (pI fun x w => x = nI (oo m) ∧ w = []) := by
  refine ct_of (by decide) (Nat.le_of_ble_eq_true rfl) rfl ?_
  intro pg en s0 m0 args below meth cod C
  refine v_iload_n C d_TT_orderOf_0 rfl ?_
  refine v_iconst C d_TT_orderOf_1 (nI 2) (by decide) ?_
  refine v_icmp_eq C d_TT_orderOf_2 11 (by decide) (by omega) (by omega) (fun c1 => ?_) (fun c1 => ?_)
  · subst c1
    refine v_iconst C d_TT_orderOf_11 (nI 1) (by decide) ?_
    refine v_goto C d_TT_orderOf_12 30 (by decide) ?_
    exact v_iret C rfl d_TT_orderOf_30 (⟨_, rfl, rfl, rfl⟩)
  · refine v_iload_n C d_TT_orderOf_5 rfl ?_
    refine v_bipush C d_TT_orderOf_6 (nI 6) (by decide) ?_
    refine v_icmp_ne C d_TT_orderOf_8 15 (by decide) (by omega) (by omega) (fun c2 => ?_) (fun c2 => ?_)
    · refine v_iload_n C d_TT_orderOf_15 rfl ?_
      refine v_iconst C d_TT_orderOf_16 (nI 4) (by decide) ?_
      refine v_icmp_eq C d_TT_orderOf_17 25 (by decide) (by omega) (by omega) (fun c3 => ?_) (fun c3 => ?_)
      · subst c3
        refine v_iconst C d_TT_orderOf_25 (nI 2) (by decide) ?_
        refine v_goto C d_TT_orderOf_26 30 (by decide) ?_
        exact v_iret C rfl d_TT_orderOf_30 (⟨_, rfl, rfl, rfl⟩)
      · refine v_iload_n C d_TT_orderOf_20 rfl ?_
        refine v_iconst C d_TT_orderOf_21 (nI 5) (by decide) ?_
        refine v_icmp_ne C d_TT_orderOf_22 29 (by decide) (by omega) (by omega) (fun c4 => ?_) (fun c4 => ?_)
        · refine v_iconst C d_TT_orderOf_29 (nI 0) (by decide) ?_
          exact v_iret C rfl d_TT_orderOf_30 (⟨_, rfl, by rw [oo_0 c1 c2 c3 c4], rfl⟩)
        · subst c4
          refine v_iconst C d_TT_orderOf_25 (nI 2) (by decide) ?_
          refine v_goto C d_TT_orderOf_26 30 (by decide) ?_
          exact v_iret C rfl d_TT_orderOf_30 (⟨_, rfl, rfl, rfl⟩)
    · subst c2
      refine v_iconst C d_TT_orderOf_11 (nI 1) (by decide) ?_
      refine v_goto C d_TT_orderOf_12 30 (by decide) ?_
      exact v_iret C rfl d_TT_orderOf_30 (⟨_, rfl, rfl, rfl⟩)

set_option maxHeartbeats 800000 in
set_option maxRecDepth 20000 in
theorem c_TT_isMask (l : Launch) (D : va_G) (kA : Nat → ClassId) (v : Int32) : Ct l D kA 0 y_TT_isMask b_TT_isMask 1 (some .boolean) [.int v] [] (pI fun x w => ((∃ m1, m1 < 8 ∧ v = nI m1 ∧ x = 1) ∨ ((∀ m2, m2 < 8 → v ≠ nI m2) ∧ x = 0)) ∧ w = []) := by
  refine ct_of (by decide) (Nat.le_of_ble_eq_true rfl) rfl ?_
  intro pg en s0 m0 args below meth cod C
  rcases pk_ix v (n := 8) (by omega) with hv | hv | ⟨m1, hm1, rfl⟩
  · refine v_iload_n C d_TT_isMask_0 rfl ?_
    refine v_if_ltR C d_TT_isMask_1 14 (by decide) (fun c0 => ?_) (fun c0 => False.elim (by exact c0 hv))
    refine v_iconst C d_TT_isMask_14 (nI 0) (by decide) ?_
    exact v_zret C rfl (rfl) d_TT_isMask_15 (⟨_, rfl, Or.inr ⟨fun m2 z => nI_ne_neg hv (by omega), rfl⟩, rfl⟩)
  · refine v_iload_n C d_TT_isMask_0 rfl ?_
    refine v_if_ltR C d_TT_isMask_1 14 (by decide) (fun c0 => False.elim (by exact nI_ge_n0 hv (by decide) c0)) (fun c0 => ?_)
    refine v_iload_n C d_TT_isMask_4 rfl ?_
    refine v_bipush C d_TT_isMask_5 (nI 8) (by decide) ?_
    refine v_icmp_geR C d_TT_isMask_7 14 (by decide) (fun c1 => ?_) (fun c1 => False.elim (by exact c1 hv))
    refine v_iconst C d_TT_isMask_14 (nI 0) (by decide) ?_
    exact v_zret C rfl (rfl) d_TT_isMask_15 (⟨_, rfl, Or.inr ⟨fun m2 z => nI_ge_ne hv z (by decide), rfl⟩, rfl⟩)
  · refine v_iload_n C d_TT_isMask_0 rfl ?_
    refine v_if_ltR C d_TT_isMask_1 14 (by decide) (fun c0 => False.elim (by exact nI_pos (by omega) c0)) (fun c0 => ?_)
    refine v_iload_n C d_TT_isMask_4 rfl ?_
    refine v_bipush C d_TT_isMask_5 (nI 8) (by decide) ?_
    refine v_icmp_ge C d_TT_isMask_7 14 (by decide) (by omega) (by omega) (fun c1 => False.elim (by omega)) (fun c1 => ?_)
    refine v_iconst C d_TT_isMask_10 (nI 1) (by decide) ?_
    refine v_goto C d_TT_isMask_11 15 (by decide) ?_
    exact v_zret C rfl (rfl) d_TT_isMask_15 (⟨_, rfl, Or.inl ⟨m1, hm1, rfl, rfl⟩, rfl⟩)

set_option maxHeartbeats 800000 in
set_option maxRecDepth 20000 in
theorem c_TT_tell (l : Launch) (D : va_G) (kA : Nat → ClassId) (ad : Nat → Nat → Nat) (sz ch mc : Nat) (T : Nat → TS) (Cu : Nat → Nat → Nat) (mt : Nat → Int32) (fa : Nat → Nat) (t : Nat) (vs vp vo : Int32) (ht : t < 3) : Ct l D kA 1 y_TT_tell b_TT_tell 6 (some (.object "TripleTrees$Tree")) [.ref (ad 0 0), .int (nI t), .int vs, .int vp, .int vo] (xw kA ad sz ch mc T Cu mt fa) (pR fun r w => r = ad 1 t ∧ w = (xw kA ad sz ch mc (va_up T t (kset (T t) (ec t vs vp vo))) Cu mt fa)) := by
  refine ct_of (by decide) (Nat.le_of_ble_eq_true rfl) rfl ?_
  intro pg en s0 m0 args below meth cod C
  refine v_aload_n C d_TT_tell_0 rfl ?_
  refine v_getf C i_TT (ci := 2) rfl 0 (by decide) (List.mem_of_getElem? (i := 0) rfl) fl_TT_9 d_TT_tell_1 (.ref (ad 0 1)) rfl ?_
  refine v_iload_n C d_TT_tell_4 rfl ?_
  refine v_aald C (List.mem_of_getElem? (i := 1) rfl) (t0 := 2) rfl (by omega) (by decide) d_TT_tell_5 (ad 1 t) rfl ?_
  refine v_astore C d_TT_tell_6 ⟨Nat.le_of_ble_eq_true rfl, Nat.le_of_ble_eq_true rfl⟩ [.ref (ad 0 0), .int (nI t), .int vs, .int vp, .int vo, .ref (ad 1 t)] rfl ?_
  refine v_ws (xw_ts t) ?_
  refine v_iload_n C d_TT_tell_8 rfl ?_
  refine v_if_ne C d_TT_tell_9 24 (by decide) (by omega) (fun c0 => ?_) (fun c0 => ?_)
  · refine v_iload_n C d_TT_tell_24 rfl ?_
    refine v_iconst C d_TT_tell_25 (nI 1) (by decide) ?_
    refine v_icmp_ne C d_TT_tell_26 41 (by decide) (by omega) (by omega) (fun c1 => ?_) (fun c1 => ?_)
    · obtain rfl : t = 2 := by omega
      refine v_aload C d_TT_tell_41 rfl ?_
      refine v_iload C d_TT_tell_43 rfl ?_
      refine v_iload_n C d_TT_tell_45 rfl ?_
      refine v_iload_n C d_TT_tell_46 rfl ?_
      refine v_tV C (by decide) (x := ((T 2).1, scf ((T 2).2 0) ((T 2).2 1) ((T 2).2 2) ((T 2).2 3) ((T 2).2 4) ((T 2).2 5))) (As := [.int vo, .int vs, .int vp]) (st := []) (c_Tree_tell l D kA (ad 1 2) (ad (3 + 2)) ((T 2).1) ((T 2).2 0) ((T 2).2 1) ((T 2).2 2) ((T 2).2 3) ((T 2).2 4) ((T 2).2 5) vo vs vp) cv_Tree_tell ml_TT_37 d_TT_tell_47 ⟨by omega, by decide⟩ rfl ⟨rfl, rfl⟩ rfl ?_
      rintro _ rfl
      refine ⟨((T 2).1, scf ((T 2).2 0) ((T 2).2 1) (enc vo vs vp) ((T 2).2 3) ((T 2).2 4) ((T 2).2 5)), rfl, ?_⟩
      refine v_aload C d_TT_tell_50 rfl ?_
      exact v_aret C rfl d_TT_tell_52 (⟨_, rfl, rfl, rfl⟩)
    · subst c1
      refine v_aload C d_TT_tell_29 rfl ?_
      refine v_iload_n C d_TT_tell_31 rfl ?_
      refine v_iload C d_TT_tell_32 rfl ?_
      refine v_iload_n C d_TT_tell_34 rfl ?_
      refine v_tV C (by decide) (x := ((T 1).1, scf ((T 1).2 0) ((T 1).2 1) ((T 1).2 2) ((T 1).2 3) ((T 1).2 4) ((T 1).2 5))) (As := [.int vp, .int vo, .int vs]) (st := []) (c_Tree_tell l D kA (ad 1 1) (ad (3 + 1)) ((T 1).1) ((T 1).2 0) ((T 1).2 1) ((T 1).2 2) ((T 1).2 3) ((T 1).2 4) ((T 1).2 5) vp vo vs) cv_Tree_tell ml_TT_37 d_TT_tell_35 ⟨by omega, by decide⟩ rfl ⟨rfl, rfl⟩ rfl ?_
      rintro _ rfl
      refine ⟨((T 1).1, scf ((T 1).2 0) ((T 1).2 1) (enc vp vo vs) ((T 1).2 3) ((T 1).2 4) ((T 1).2 5)), rfl, ?_⟩
      refine v_goto C d_TT_tell_38 50 (by decide) ?_
      refine v_aload C d_TT_tell_50 rfl ?_
      exact v_aret C rfl d_TT_tell_52 (⟨_, rfl, rfl, rfl⟩)
  · subst c0
    refine v_aload C d_TT_tell_12 rfl ?_
    refine v_iload_n C d_TT_tell_14 rfl ?_
    refine v_iload_n C d_TT_tell_15 rfl ?_
    refine v_iload C d_TT_tell_16 rfl ?_
    refine v_tV C (by decide) (x := ((T 0).1, scf ((T 0).2 0) ((T 0).2 1) ((T 0).2 2) ((T 0).2 3) ((T 0).2 4) ((T 0).2 5))) (As := [.int vs, .int vp, .int vo]) (st := []) (c_Tree_tell l D kA (ad 1 0) (ad (3 + 0)) ((T 0).1) ((T 0).2 0) ((T 0).2 1) ((T 0).2 2) ((T 0).2 3) ((T 0).2 4) ((T 0).2 5) vs vp vo) cv_Tree_tell ml_TT_37 d_TT_tell_18 ⟨by omega, by decide⟩ rfl ⟨rfl, rfl⟩ rfl ?_
    rintro _ rfl
    refine ⟨((T 0).1, scf ((T 0).2 0) ((T 0).2 1) (enc vs vp vo) ((T 0).2 3) ((T 0).2 4) ((T 0).2 5)), rfl, ?_⟩
    refine v_goto C d_TT_tell_21 50 (by decide) ?_
    refine v_aload C d_TT_tell_50 rfl ?_
    exact v_aret C rfl d_TT_tell_52 (⟨_, rfl, rfl, rfl⟩)

set_option maxHeartbeats 800000 in
set_option maxRecDepth 20000 in
theorem c_TT_holds (l : Launch) (D : va_G) (kA : Nat → ClassId) (ad : Nat → Nat → Nat) (sz ch mc : Nat) (T : Nat → TS) (Cu : Nat → Nat → Nat) (mt : Nat → Int32) (fa : Nat → Nat) (dd : Nat → Nat) (LL : Nat → List Nat) (vs vp vo : Int32) (hX : XI T dd LL) : Ct l D kA 5 y_TT_holds b_TT_holds 4 (some .boolean) [.ref (ad 0 0), .int vs, .int vp, .int vo] (xw kA ad sz ch mc T Cu mt fa) (pI fun x w => x = (if ec 0 vs vp vo ∈ LL 0 then 1 else 0) ∧ ∃ T', Sm T T' ∧ w = (xw kA ad sz ch mc T' Cu mt fa)) := by
  refine ct_of (by decide) (Nat.le_of_ble_eq_true rfl) rfl ?_
  intro pg en s0 m0 args below meth cod C
  refine v_aload_n C d_TT_holds_0 rfl ?_
  refine v_iconst C d_TT_holds_1 (nI 0) (by decide) ?_
  refine v_iload_n C d_TT_holds_2 rfl ?_
  refine v_iload_n C d_TT_holds_3 rfl ?_
  refine v_iload_n C d_TT_holds_4 rfl ?_
  refine v_cR C (As := [.int (nI 0), .int vs, .int vp, .int vo]) (st := []) (c_TT_tell l D kA ad sz ch mc T Cu mt fa 0 vs vp vo (by decide)) cv_TT_tell ml_TT_41 d_TT_holds_5 ⟨by omega, by decide⟩ xw_rcv ⟨rfl, rfl⟩ rfl ?_
  rintro _ _ ⟨rfl, rfl⟩
  refine v_tI C (by decide) (x := ((T 0).1, scf ((T 0).2 0) ((T 0).2 1) (ec 0 vs vp vo) ((T 0).2 3) ((T 0).2 4) ((T 0).2 5))) (As := []) (st := []) (c_Tree_has l D kA (ad 1 0) (ad (3 + 0)) ((T 0).1) ((T 0).2 0) ((T 0).2 1) (ec 0 vs vp vo) ((T 0).2 3) ((T 0).2 4) ((T 0).2 5) (dd 0) (LL 0) (hX 0 (by decide)) (ec_lt _ _ _ _)) cv_Tree_has ml_TT_44 d_TT_holds_8 ⟨by omega, by decide⟩ rfl ⟨rfl, rfl⟩ rfl ?_
  rintro _ _ ⟨rfl, rfl⟩
  refine ⟨((T 0).1, scf ((T 0).2 0) ((T 0).2 1) (ec 0 vs vp vo) ((T 0).2 3) ((T 0).2 4) ((T 0).2 5)), rfl, ?_⟩
  exact v_zret C rfl (by split <;> rfl) d_TT_holds_11 (⟨_, rfl, rfl, _, Sm.ks _ _ _, rfl⟩)
