theorem XI.up {T : Nat → TS} {dd : Nat → Nat} {LL : Nat → List Nat} (h : XI T dd LL) {k d : Nat} {x : TS} {L : List Nat} (hx : TI x.1 (x.2 0) (x.2 1) d L) : XI (va_up T k x) (va_up dd k d) (va_up LL k L) := fun t ht => by
  by_cases e : t = k
  · subst e; rw [va_up_self, va_up_self, va_up_self]; exact hx
  · rw [va_up_ne _ _ e, va_up_ne _ _ e, va_up_ne _ _ e]; exact h t ht

set_option maxHeartbeats 800000 in
set_option maxRecDepth 20000 in
theorem c_TT_add (l : Launch) (D : va_G) (kA : Nat → ClassId) (ad : Nat → Nat → Nat) (sz ch mc : Nat) (T : Nat → TS) (Cu : Nat → Nat → Nat) (mt : Nat → Int32) (fa : Nat → Nat) (dd : Nat → Nat) (LL : Nat → List Nat) (vs vp vo : Int32) (hX : XI T dd LL) (hLI : LI LL) (hsz : sz = (LL 0).length) (hL : (LL 0).length ≤ 520) : Ct l D kA 141 y_TT_add b_TT_add 5 (some .int) [.ref (ad 0 0), .int vs, .int vp, .int vo] (xw kA ad sz ch mc T Cu mt fa) (pI fun x w => (ec 0 vs vp vo ∈ LL 0 ∧ x = 0 ∧ ∃ T', Sm T T' ∧ w = (xw kA ad sz ch mc T' Cu mt fa)) ∨ (ec 0 vs vp vo ∉ LL 0 ∧ x = 1 ∧ ∃ (T' : Nat → TS) (dd' : Nat → Nat) (LL' : Nat → List Nat), w = (xw kA ad (sz + 1) (ch + 1) mc T' Cu mt fa) ∧ XI T' dd' LL' ∧ ∀ t, t < 3 → Ins (ec t vs vp vo) (LL t) (LL' t))) := by
  refine ct_of (by decide) (Nat.le_of_ble_eq_true rfl) rfl ?_
  intro pg en s0 m0 args below meth cod C
  refine v_aload_n C d_TT_add_0 rfl ?_
  refine v_iconst C d_TT_add_1 (nI 0) (by decide) ?_
  refine v_iload_n C d_TT_add_2 rfl ?_
  refine v_iload_n C d_TT_add_3 rfl ?_
  refine v_iload_n C d_TT_add_4 rfl ?_
  refine v_cR C (As := [.int (nI 0), .int vs, .int vp, .int vo]) (st := []) (c_TT_tell l D kA ad sz ch mc T Cu mt fa 0 vs vp vo (by decide)) cv_TT_tell ml_TT_41 d_TT_add_5 ⟨by omega, by decide⟩ xw_rcv ⟨rfl, rfl⟩ rfl ?_
  rintro _ _ ⟨rfl, rfl⟩
  refine v_tI C (by decide) (x := ((T 0).1, scf ((T 0).2 0) ((T 0).2 1) (ec 0 vs vp vo) ((T 0).2 3) ((T 0).2 4) ((T 0).2 5))) (As := []) (st := []) (c_Tree_has l D kA (ad 1 0) (ad (3 + 0)) ((T 0).1) ((T 0).2 0) ((T 0).2 1) (ec 0 vs vp vo) ((T 0).2 3) ((T 0).2 4) ((T 0).2 5) (dd 0) (LL 0) (hX 0 (by decide)) (ec_lt _ _ _ _)) cv_Tree_has ml_TT_44 d_TT_add_8 ⟨by omega, by decide⟩ rfl ⟨rfl, rfl⟩ rfl ?_
  rintro _ _ ⟨rfl, rfl⟩
  refine ⟨((T 0).1, scf ((T 0).2 0) ((T 0).2 1) (ec 0 vs vp vo) ((T 0).2 3) ((T 0).2 4) ((T 0).2 5)), rfl, ?_⟩
  have hm := hLI.2
  by_cases h0 : ec 0 vs vp vo ∈ LL 0
  · rw [if_pos h0]
    refine v_if_eqR C d_TT_add_11 16 (by decide) (fun c0 => False.elim (by exact absurd c0 (by decide))) (fun c0 => ?_)
    refine v_iconst C d_TT_add_14 (nI 0) (by decide) ?_
    exact v_iret C rfl d_TT_add_15 (⟨_, rfl, Or.inl ⟨h0, rfl, _, Sm.ks _ _ _, rfl⟩⟩)
  · rw [if_neg h0]
    refine v_if_eqR C d_TT_add_11 16 (by decide) (fun c0 => ?_) (fun c0 => False.elim (by exact c0 rfl))
    refine v_aload_n C d_TT_add_16 rfl ?_
    refine v_getf C i_TT (ci := 2) rfl 2 (by decide) (List.mem_of_getElem? (i := 0) rfl) fl_TT_48 d_TT_add_17 (.int (nI sz)) rfl ?_
    refine v_sipush C d_TT_add_20 (nI 700) (by decide) ?_
    refine v_icmp_ne C d_TT_add_23 29 (by decide) (by omega) (by omega) (fun c1 => ?_) (fun c1 => False.elim (by omega))
    refine v_iconst C d_TT_add_29 (nI 0) (by decide) ?_
    refine v_istore C d_TT_add_30 ⟨Nat.le_of_ble_eq_true rfl, Nat.le_of_ble_eq_true rfl⟩ [.ref (ad 0 0), .int vs, .int vp, .int vo, .int (nI 0)] rfl ?_
    have lp : ∀ (t9 : Nat) (k : Nat) (T1 : Nat → TS) (dd1 : Nat → Nat) (LL1 : Nat → List Nat), 3 - k < t9 → k ≤ 3 → XI T1 dd1 LL1 → (∀ t, t < k → Ins (ec t vs vp vo) (LL t) (LL1 t)) → (∀ t, k ≤ t → t < 3 → LL1 t = LL t) → V pg l en (rmk 141) s0 m0 args below meth cod D (qA (xw kA ad sz ch mc T Cu mt fa)) 5 0 0 (MQ below (QC D (xw kA ad sz ch mc T Cu mt fa) (pI fun x w => (ec 0 vs vp vo ∈ LL 0 ∧ x = 0 ∧ ∃ T', Sm T T' ∧ w = (xw kA ad sz ch mc T' Cu mt fa)) ∨ (ec 0 vs vp vo ∉ LL 0 ∧ x = 1 ∧ ∃ (T' : Nat → TS) (dd' : Nat → Nat) (LL' : Nat → List Nat), w = (xw kA ad (sz + 1) (ch + 1) mc T' Cu mt fa) ∧ XI T' dd' LL' ∧ ∀ t, t < 3 → Ins (ec t vs vp vo) (LL t) (LL' t)))) args s0 0 0 (qA (xw kA ad sz ch mc T Cu mt fa))) 32 [.ref (ad 0 0), .int vs, .int vp, .int vo, .int (nI k)] [] (xw kA ad sz ch mc T1 Cu mt fa) := by
      intro t9
      induction t9 with
      | zero => intro k T1 dd1 LL1 hk; omega
      | succ t9 ih =>
        intro k T1 dd1 LL1 hk hk3 hX1 hd he
        refine v_iload C d_TT_add_32 rfl ?_
        refine v_iconst C d_TT_add_34 (nI 3) (by decide) ?_
        refine v_icmp_ge C d_TT_add_35 56 (by decide) (by omega) (by omega) (fun ck => ?_) (fun ck => ?_)
        · obtain rfl : k = 3 := by omega
          refine v_aload_n C d_TT_add_56 rfl ?_
          refine v_dup C d_TT_add_57 rfl ?_
          refine v_getf C i_TT (ci := 2) rfl 2 (by decide) (List.mem_of_getElem? (i := 0) rfl) fl_TT_48 d_TT_add_58 (.int (nI sz)) rfl ?_
          refine v_iconst C d_TT_add_61 (nI 1) (by decide) ?_
          refine v_iadd C d_TT_add_62 ?_
          refine v_putf C i_TT (ci := 2) (ws' := (xw kA ad (sz + 1) ch mc T1 Cu mt fa)) t_TT_ok n_TT rfl 2 (by decide) ⟨0, rfl, rfl⟩ fl_TT_48 d_TT_add_63 rfl (rfl) (rfl) (Nat.le_of_ble_eq_true rfl) rfl ?_
          refine v_aload_n C d_TT_add_66 rfl ?_
          refine v_dup C d_TT_add_67 rfl ?_
          refine v_getf C i_TT (ci := 2) rfl 3 (by decide) (List.mem_of_getElem? (i := 0) rfl) fl_TT_55 d_TT_add_68 (.int (nI ch)) rfl ?_
          refine v_iconst C d_TT_add_71 (nI 1) (by decide) ?_
          refine v_iadd C d_TT_add_72 ?_
          refine v_putf C i_TT (ci := 2) (ws' := (xw kA ad (sz + 1) (ch + 1) mc T1 Cu mt fa)) t_TT_ok n_TT rfl 3 (by decide) ⟨0, rfl, rfl⟩ fl_TT_55 d_TT_add_73 rfl (rfl) (rfl) (Nat.le_of_ble_eq_true rfl) rfl ?_
          refine v_iconst C d_TT_add_76 (nI 1) (by decide) ?_
          exact v_iret C rfl d_TT_add_77 (⟨_, rfl, Or.inr ⟨h0, rfl, T1, dd1, LL1, rfl, hX1, hd⟩⟩)
        · refine v_aload_n C d_TT_add_38 rfl ?_
          refine v_iload C d_TT_add_39 rfl ?_
          refine v_iload_n C d_TT_add_41 rfl ?_
          refine v_iload_n C d_TT_add_42 rfl ?_
          refine v_iload_n C d_TT_add_43 rfl ?_
          refine v_cR C (As := [.int (nI k), .int vs, .int vp, .int vo]) (st := []) (c_TT_tell l D kA ad sz ch mc T1 Cu mt fa k vs vp vo ck) cv_TT_tell ml_TT_41 d_TT_add_44 ⟨by omega, by decide⟩ xw_rcv ⟨rfl, rfl⟩ rfl ?_
          rintro _ _ ⟨rfl, rfl⟩
          have hkL := he k (Nat.le_refl k) ck
          have hlen := (hLI.1 k ck).2.2
          refine v_tV C ck (x := ((T1 k).1, scf ((T1 k).2 0) ((T1 k).2 1) (ec k vs vp vo) ((T1 k).2 3) ((T1 k).2 4) ((T1 k).2 5))) (As := []) (st := []) (c_Tree_add l D kA (ad 1 k) (ad (3 + k)) ((T1 k).1) ((T1 k).2 0) ((T1 k).2 1) (ec k vs vp vo) ((T1 k).2 3) ((T1 k).2 4) ((T1 k).2 5) (dd1 k) (LL1 k) (hX1 k ck) (ec_lt _ _ _ _) (by rw [hkL]; exact fun z => h0 ((hm k _ _ _ ck).mp z)) (by rw [hkL]; omega)) cv_Tree_add ml_TT_52 d_TT_add_47 ⟨by omega, by decide⟩ rfl ⟨rfl, rfl⟩ rfl ?_
          rintro _ ⟨N2, fr2, rt2, u2, d2, L2, rfl, hT2, hI2⟩
          refine ⟨(N2, scf fr2 rt2 (ec k vs vp vo) u2 ((T1 k).2 4) ((T1 k).2 5)), rfl, ?_⟩
          refine v_iinc C d_TT_add_50 rfl ⟨Nat.le_of_ble_eq_true rfl, Nat.le_of_ble_eq_true rfl⟩ (nI (k + 1)) (inc1 _) [.ref (ad 0 0), .int vs, .int vp, .int vo, .int (nI (k + 1))] rfl ?_
          refine v_goto C d_TT_add_53 32 (by decide) ?_
          refine ih (k + 1) _ (va_up dd1 k d2) (va_up LL1 k L2) (by omega) (by omega) (XI.up hX1 hT2) (fun t ht => ?_) (fun t h1 h2 => ?_)
          · by_cases e : t = k
            · subst e; rw [va_up_self, ← hkL]; exact hI2
            · rw [va_up_ne _ _ e]; exact hd t (by omega)
          · rw [va_up_ne _ _ (by omega)]; exact he t (by omega) h2
    exact lp 4 0 _ dd LL (by omega) (by omega) (Sm.XI (Sm.ks _ _ _) hX) (fun t ht => absurd ht (Nat.not_lt_zero t)) (fun t _ _ => rfl)

set_option maxHeartbeats 800000 in
set_option maxRecDepth 20000 in
theorem c_TT_remove (l : Launch) (D : va_G) (kA : Nat → ClassId) (ad : Nat → Nat → Nat) (sz ch mc : Nat) (T : Nat → TS) (Cu : Nat → Nat → Nat) (mt : Nat → Int32) (fa : Nat → Nat) (dd : Nat → Nat) (LL : Nat → List Nat) (vs vp vo : Int32) (hX : XI T dd LL) (hLI : LI LL) (hsz : sz = (LL 0).length) (hL : (LL 0).length ≤ 520) : Ct l D kA 141 y_TT_remove b_TT_remove 5 (some .boolean) [.ref (ad 0 0), .int vs, .int vp, .int vo] (xw kA ad sz ch mc T Cu mt fa) (pI fun x w => (ec 0 vs vp vo ∉ LL 0 ∧ x = 0 ∧ ∃ T', Sm T T' ∧ w = (xw kA ad sz ch mc T' Cu mt fa)) ∨ (ec 0 vs vp vo ∈ LL 0 ∧ x = 1 ∧ ∃ (T' : Nat → TS) (dd' : Nat → Nat) (LL' : Nat → List Nat), w = (xw kA ad (sz - 1) (ch + 1) mc T' Cu mt fa) ∧ XI T' dd' LL' ∧ ∀ t, t < 3 → Del (ec t vs vp vo) (LL t) (LL' t))) := by
  refine ct_of (by decide) (Nat.le_of_ble_eq_true rfl) rfl ?_
  intro pg en s0 m0 args below meth cod C
  refine v_aload_n C d_TT_remove_0 rfl ?_
  refine v_iconst C d_TT_remove_1 (nI 0) (by decide) ?_
  refine v_iload_n C d_TT_remove_2 rfl ?_
  refine v_iload_n C d_TT_remove_3 rfl ?_
  refine v_iload_n C d_TT_remove_4 rfl ?_
  refine v_cR C (As := [.int (nI 0), .int vs, .int vp, .int vo]) (st := []) (c_TT_tell l D kA ad sz ch mc T Cu mt fa 0 vs vp vo (by decide)) cv_TT_tell ml_TT_41 d_TT_remove_5 ⟨by omega, by decide⟩ xw_rcv ⟨rfl, rfl⟩ rfl ?_
  rintro _ _ ⟨rfl, rfl⟩
  refine v_tI C (by decide) (x := ((T 0).1, scf ((T 0).2 0) ((T 0).2 1) (ec 0 vs vp vo) ((T 0).2 3) ((T 0).2 4) ((T 0).2 5))) (As := []) (st := []) (c_Tree_has l D kA (ad 1 0) (ad (3 + 0)) ((T 0).1) ((T 0).2 0) ((T 0).2 1) (ec 0 vs vp vo) ((T 0).2 3) ((T 0).2 4) ((T 0).2 5) (dd 0) (LL 0) (hX 0 (by decide)) (ec_lt _ _ _ _)) cv_Tree_has ml_TT_44 d_TT_remove_8 ⟨by omega, by decide⟩ rfl ⟨rfl, rfl⟩ rfl ?_
  rintro _ _ ⟨rfl, rfl⟩
  refine ⟨((T 0).1, scf ((T 0).2 0) ((T 0).2 1) (ec 0 vs vp vo) ((T 0).2 3) ((T 0).2 4) ((T 0).2 5)), rfl, ?_⟩
  have hm := hLI.2
  by_cases h0 : ec 0 vs vp vo ∈ LL 0
  · rw [if_pos h0]
    refine v_if_neR C d_TT_remove_11 16 (by decide) (fun c0 => ?_) (fun c0 => False.elim (by exact absurd c0 (by decide)))
    refine v_iconst C d_TT_remove_16 (nI 0) (by decide) ?_
    refine v_istore C d_TT_remove_17 ⟨Nat.le_of_ble_eq_true rfl, Nat.le_of_ble_eq_true rfl⟩ [.ref (ad 0 0), .int vs, .int vp, .int vo, .int (nI 0)] rfl ?_
    have lp : ∀ (t9 : Nat) (k : Nat) (T1 : Nat → TS) (dd1 : Nat → Nat) (LL1 : Nat → List Nat), 3 - k < t9 → k ≤ 3 → XI T1 dd1 LL1 → (∀ t, t < k → Del (ec t vs vp vo) (LL t) (LL1 t)) → (∀ t, k ≤ t → t < 3 → LL1 t = LL t) → V pg l en (rmk 141) s0 m0 args below meth cod D (qA (xw kA ad sz ch mc T Cu mt fa)) 5 0 0 (MQ below (QC D (xw kA ad sz ch mc T Cu mt fa) (pI fun x w => (ec 0 vs vp vo ∉ LL 0 ∧ x = 0 ∧ ∃ T', Sm T T' ∧ w = (xw kA ad sz ch mc T' Cu mt fa)) ∨ (ec 0 vs vp vo ∈ LL 0 ∧ x = 1 ∧ ∃ (T' : Nat → TS) (dd' : Nat → Nat) (LL' : Nat → List Nat), w = (xw kA ad (sz - 1) (ch + 1) mc T' Cu mt fa) ∧ XI T' dd' LL' ∧ ∀ t, t < 3 → Del (ec t vs vp vo) (LL t) (LL' t)))) args s0 0 0 (qA (xw kA ad sz ch mc T Cu mt fa))) 19 [.ref (ad 0 0), .int vs, .int vp, .int vo, .int (nI k)] [] (xw kA ad sz ch mc T1 Cu mt fa) := by
      intro t9
      induction t9 with
      | zero => intro k T1 dd1 LL1 hk; omega
      | succ t9 ih =>
        intro k T1 dd1 LL1 hk hk3 hX1 hd he
        refine v_iload C d_TT_remove_19 rfl ?_
        refine v_iconst C d_TT_remove_21 (nI 3) (by decide) ?_
        refine v_icmp_ge C d_TT_remove_22 43 (by decide) (by omega) (by omega) (fun ck => ?_) (fun ck => ?_)
        · obtain rfl : k = 3 := by omega
          have hpos : 0 < (LL 0).length := List.length_pos_of_mem h0
          refine v_aload_n C d_TT_remove_43 rfl ?_
          refine v_dup C d_TT_remove_44 rfl ?_
          refine v_getf C i_TT (ci := 2) rfl 2 (by decide) (List.mem_of_getElem? (i := 0) rfl) fl_TT_48 d_TT_remove_45 (.int (nI sz)) rfl ?_
          refine v_iconst C d_TT_remove_48 (nI 1) (by decide) ?_
          refine v_isub C d_TT_remove_49 (by omega) ?_
          refine v_putf C i_TT (ci := 2) (ws' := (xw kA ad (sz - 1) ch mc T1 Cu mt fa)) t_TT_ok n_TT rfl 2 (by decide) ⟨0, rfl, rfl⟩ fl_TT_48 d_TT_remove_50 rfl (rfl) (rfl) (Nat.le_of_ble_eq_true rfl) rfl ?_
          refine v_aload_n C d_TT_remove_53 rfl ?_
          refine v_dup C d_TT_remove_54 rfl ?_
          refine v_getf C i_TT (ci := 2) rfl 3 (by decide) (List.mem_of_getElem? (i := 0) rfl) fl_TT_55 d_TT_remove_55 (.int (nI ch)) rfl ?_
          refine v_iconst C d_TT_remove_58 (nI 1) (by decide) ?_
          refine v_iadd C d_TT_remove_59 ?_
          refine v_putf C i_TT (ci := 2) (ws' := (xw kA ad (sz - 1) (ch + 1) mc T1 Cu mt fa)) t_TT_ok n_TT rfl 3 (by decide) ⟨0, rfl, rfl⟩ fl_TT_55 d_TT_remove_60 rfl (rfl) (rfl) (Nat.le_of_ble_eq_true rfl) rfl ?_
          refine v_iconst C d_TT_remove_63 (nI 1) (by decide) ?_
          exact v_zret C rfl (rfl) d_TT_remove_64 (⟨_, rfl, Or.inr ⟨h0, rfl, T1, dd1, LL1, rfl, hX1, hd⟩⟩)
        · refine v_aload_n C d_TT_remove_25 rfl ?_
          refine v_iload C d_TT_remove_26 rfl ?_
          refine v_iload_n C d_TT_remove_28 rfl ?_
          refine v_iload_n C d_TT_remove_29 rfl ?_
          refine v_iload_n C d_TT_remove_30 rfl ?_
          refine v_cR C (As := [.int (nI k), .int vs, .int vp, .int vo]) (st := []) (c_TT_tell l D kA ad sz ch mc T1 Cu mt fa k vs vp vo ck) cv_TT_tell ml_TT_41 d_TT_remove_31 ⟨by omega, by decide⟩ xw_rcv ⟨rfl, rfl⟩ rfl ?_
          rintro _ _ ⟨rfl, rfl⟩
          have hkL := he k (Nat.le_refl k) ck
          have hlen := (hLI.1 k ck).2.2
          refine v_tV C ck (x := ((T1 k).1, scf ((T1 k).2 0) ((T1 k).2 1) (ec k vs vp vo) ((T1 k).2 3) ((T1 k).2 4) ((T1 k).2 5))) (As := []) (st := []) (c_Tree_remove l D kA (ad 1 k) (ad (3 + k)) ((T1 k).1) ((T1 k).2 0) ((T1 k).2 1) (ec k vs vp vo) ((T1 k).2 3) ((T1 k).2 4) ((T1 k).2 5) (dd1 k) (LL1 k) (hX1 k ck) (ec_lt _ _ _ _) (by rw [hkL]; exact (hm k _ _ _ ck).mpr h0) (by rw [hkL]; omega)) cv_Tree_remove ml_TT_58 d_TT_remove_34 ⟨by omega, by decide⟩ rfl ⟨rfl, rfl⟩ rfl ?_
          rintro _ ⟨N2, fr2, rt2, d2, L2, rfl, hT2, hI2⟩
          refine ⟨(N2, scf fr2 rt2 (ec k vs vp vo) ((T1 k).2 3) ((T1 k).2 4) ((T1 k).2 5)), rfl, ?_⟩
          refine v_iinc C d_TT_remove_37 rfl ⟨Nat.le_of_ble_eq_true rfl, Nat.le_of_ble_eq_true rfl⟩ (nI (k + 1)) (inc1 _) [.ref (ad 0 0), .int vs, .int vp, .int vo, .int (nI (k + 1))] rfl ?_
          refine v_goto C d_TT_remove_40 19 (by decide) ?_
          refine ih (k + 1) _ (va_up dd1 k d2) (va_up LL1 k L2) (by omega) (by omega) (XI.up hX1 hT2) (fun t ht => ?_) (fun t h1 h2 => ?_)
          · by_cases e : t = k
            · subst e; rw [va_up_self, ← hkL]; exact hI2
            · rw [va_up_ne _ _ e]; exact hd t (by omega)
          · rw [va_up_ne _ _ (by omega)]; exact he t (by omega) h2
    exact lp 4 0 _ dd LL (by omega) (by omega) (Sm.XI (Sm.ks _ _ _) hX) (fun t ht => absurd ht (Nat.not_lt_zero t)) (fun t _ _ => rfl)
  · rw [if_neg h0]
    refine v_if_neR C d_TT_remove_11 16 (by decide) (fun c0 => False.elim (by exact c0 rfl)) (fun c0 => ?_)
    refine v_iconst C d_TT_remove_14 (nI 0) (by decide) ?_
    exact v_zret C rfl (rfl) d_TT_remove_15 (⟨_, rfl, Or.inl ⟨h0, rfl, _, Sm.ks _ _ _, rfl⟩⟩)
