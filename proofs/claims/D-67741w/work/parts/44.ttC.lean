theorem xw_cux {kA : Nat → ClassId} {ad : Nat → Nat → Nat} {sz ch mc : Nat} {T : Nat → TS} {Cu : Nat → Nat → Nat} {mt : Nat → Int32} {fa : Nat → Nat} (c : Nat) (X : Nat → Nat) : xw kA ad sz ch mc T (va_up Cu c X) mt fa = xw kA ad sz ch mc T (va_up Cu c (cu (X 0) (X 1) (X 2) (X 3) (X 4) (X 5) (X 6) (X 7) (X 8))) mt fa := by
  have h := xw_cu (kA := kA) (ad := ad) (sz := sz) (ch := ch) (mc := mc) (T := T) (Cu := va_up Cu c X) (mt := mt) (fa := fa) c
  rw [va_up_self, bx_uu] at h
  exact h
theorem lowk_lt (td K : Nat) : lowk td K < TOP := enc_lt _ _ _
theorem lowk_dc (td K : Nat) {i : Nat} (hi : i < 3) : dc (lowk td K) i = if i < td then dc K i else MN := by
  unfold lowk
  exact dc_en3 (fun i => if i < td then dc K i else MN) hi
/-- another code, one part new -/
theorem en_up (x k : Nat) (v : Int32) : ∃ y, (∀ j, j < 3 → dc y j = if j = k then v else dc x j) ∧ y < TOP := ⟨en3 (fun j => if j = k then v else dc x j), fun j hj => dc_en3 _ hj, en3_lt _⟩

set_option maxHeartbeats 800000 in
set_option maxRecDepth 20000 in
theorem c_TT_partOf (l : Launch) (D : va_G) (kA : Nat → ClassId) (ad : Nat → Nat → Nat) (sz ch mc : Nat) (T : Nat → TS) (Cu : Nat → Nat → Nat) (mt : Nat → Int32) (fa : Nat → Nat) (c i : Nat) (X : Nat → Nat) (hc : c < 10) (ht : X 2 < 3) (hi : i < 3) : Ct l D kA 0 y_TT_partOf b_TT_partOf 2 (some .int) [.ref (ad 2 c), .int (nI i)] (xw kA ad sz ch mc T (va_up Cu c X) mt fa) (pI fun x w => x = dc (X 8) (po (X 2) i) ∧ w = (xw kA ad sz ch mc T (va_up Cu c X) mt fa)) := by
  refine ct_of (by decide) (Nat.le_of_ble_eq_true rfl) rfl ?_
  intro pg en s0 m0 args below meth cod C
  refine v_ws (xw_cux c X) ?_
  refine v_aload_n C d_TT_partOf_0 rfl ?_
  refine v_getf C i_Cur (ci := 1) rfl 8 (by decide) (xm_C hc (List.mem_of_getElem? (i := 0) rfl)) fl_TT_114 d_TT_partOf_1 (.ref (ad (6 + c) 1)) rfl ?_
  refine v_iload_n C d_TT_partOf_4 rfl ?_
  refine v_iconst C d_TT_partOf_5 (nI 3) (by decide) ?_
  refine v_iadd C d_TT_partOf_6 ?_
  refine v_aload_n C d_TT_partOf_7 rfl ?_
  refine v_getf C i_Cur (ci := 1) rfl 2 (by decide) (xm_C hc (List.mem_of_getElem? (i := 0) rfl)) fl_TT_72 d_TT_partOf_8 (.int (nI (X 2))) rfl ?_
  refine v_isub C d_TT_partOf_11 (by omega) ?_
  refine v_iconst C d_TT_partOf_12 (nI 3) (by decide) ?_
  refine v_irem C d_TT_partOf_13 (by omega) (by omega) (by omega) ?_
  refine v_iald C (xm_C hc (List.mem_of_getElem? (i := 2) rfl)) (by omega) (by decide) d_TT_partOf_14 (dc (X 8) (((i + 3) - (X 2)) % 3)) (rfl) ?_
  exact v_iret C rfl d_TT_partOf_15 (⟨_, rfl, rfl, (xw_cux c X).symm⟩)

set_option maxHeartbeats 800000 in
set_option maxRecDepth 20000 in
theorem c_TT_begin (l : Launch) (D : va_G) (kA : Nat → ClassId) (ad : Nat → Nat → Nat) (sz ch mc : Nat) (T : Nat → TS) (Cu : Nat → Nat → Nat) (mt : Nat → Int32) (fa : Nat → Nat) (dd : Nat → Nat) (LL : Nat → List Nat) (c m : Nat) (X : Nat → Nat) (vs vp vo : Int32) (hX : XI T dd LL) (hc : c < 10) (hm : m < 8) : Ct l D kA 4 y_TT_begin b_TT_begin 8 none [.ref (ad 0 0), .ref (ad 2 c), .int (nI m), .int vs, .int vp, .int vo] (xw kA ad sz ch mc T (va_up Cu c X) mt fa) (pV fun w => ∃ (T' : Nat → TS) (X' : Nat → Nat), Sm T T' ∧ w = (xw kA ad sz ch mc T' (va_up Cu c X') mt fa) ∧ X' 0 = 1 ∧ X' 1 = ch ∧ X' 2 = oo m ∧ X' 3 = bcn m ∧ X' 4 = ec (oo m) vs vp vo ∧ X' 7 = 0 ∧ ps (T (oo m)) (dd (oo m)) (LL (oo m)) (X' 5) (X' 6) (blw (LL (oo m)) (lowk (bcn m) (ec (oo m) vs vp vo)))) := by
  refine ct_of (by decide) (Nat.le_of_ble_eq_true rfl) rfl ?_
  intro pg en s0 m0 args below meth cod C
  refine v_ws (xw_cux c X) ?_
  refine v_aload_n C d_TT_begin_0 rfl ?_
  refine v_iconst C d_TT_begin_1 (nI 1) (by decide) ?_
  refine v_putf C i_Cur (ci := 1) (ws' := (xw kA ad sz ch mc T (va_up Cu c (cu 1 (X 1) (X 2) (X 3) (X 4) (X 5) (X 6) (X 7) (X 8))) mt fa)) t_Cur_ok n_Cur rfl 0 (by decide) (xs_C hc ⟨0, rfl, rfl⟩) fl_TT_61 d_TT_begin_2 rfl (rfl) (rfl) (Nat.le_of_ble_eq_true rfl) rfl ?_
  refine v_aload_n C d_TT_begin_5 rfl ?_
  refine v_aload_n C d_TT_begin_6 rfl ?_
  refine v_getf C i_TT (ci := 2) rfl 3 (by decide) (List.mem_of_getElem? (i := 0) rfl) fl_TT_55 d_TT_begin_7 (.int (nI ch)) rfl ?_
  refine v_putf C i_Cur (ci := 1) (ws' := (xw kA ad sz ch mc T (va_up Cu c (cu 1 ch (X 2) (X 3) (X 4) (X 5) (X 6) (X 7) (X 8))) mt fa)) t_Cur_ok n_Cur rfl 1 (by decide) (xs_C hc ⟨0, rfl, rfl⟩) fl_TT_65 d_TT_begin_10 rfl (rfl) (rfl) (Nat.le_of_ble_eq_true rfl) rfl ?_
  refine v_aload_n C d_TT_begin_13 rfl ?_
  refine v_iload_n C d_TT_begin_14 rfl ?_
  refine v_cS C (As := [.int (nI m)]) (st := [.ref (ad 2 c)]) (c_TT_orderOf l D kA m hm) cv_TT_orderOf ml_TT_68 d_TT_begin_15 ⟨by omega, by decide⟩ ⟨rfl, rfl⟩ rfl ?_
  rintro _ rfl
  refine v_putf C i_Cur (ci := 1) (ws' := (xw kA ad sz ch mc T (va_up Cu c (cu 1 ch (oo m) (X 3) (X 4) (X 5) (X 6) (X 7) (X 8))) mt fa)) t_Cur_ok n_Cur rfl 2 (by decide) (xs_C hc ⟨0, rfl, rfl⟩) fl_TT_72 d_TT_begin_18 rfl (rfl) (rfl) (Nat.le_of_ble_eq_true rfl) rfl ?_
  refine v_aload_n C d_TT_begin_21 rfl ?_
  refine v_iload_n C d_TT_begin_22 rfl ?_
  refine v_cS C (As := [.int (nI m)]) (st := [.ref (ad 2 c)]) (c_Int_bitCount l D kA m hm) cv_Int_bitCount ml_TT_75 d_TT_begin_23 ⟨by omega, by decide⟩ ⟨rfl, rfl⟩ rfl ?_
  rintro _ rfl
  refine v_putf C i_Cur (ci := 1) (ws' := (xw kA ad sz ch mc T (va_up Cu c (cu 1 ch (oo m) (bcn m) (X 4) (X 5) (X 6) (X 7) (X 8))) mt fa)) t_Cur_ok n_Cur rfl 3 (by decide) (xs_C hc ⟨0, rfl, rfl⟩) fl_TT_80 d_TT_begin_26 rfl (rfl) (rfl) (Nat.le_of_ble_eq_true rfl) rfl ?_
  refine v_aload_n C d_TT_begin_29 rfl ?_
  refine v_iconst C d_TT_begin_30 (nI 0) (by decide) ?_
  refine v_putf C i_Cur (ci := 1) (ws' := (xw kA ad sz ch mc T (va_up Cu c (cu 1 ch (oo m) (bcn m) (X 4) (X 5) (X 6) 0 (X 8))) mt fa)) t_Cur_ok n_Cur rfl 7 (by decide) (xs_C hc ⟨0, rfl, rfl⟩) fl_TT_83 d_TT_begin_31 rfl (rfl) (rfl) (Nat.le_of_ble_eq_true rfl) rfl ?_
  refine v_aload_n C d_TT_begin_34 rfl ?_
  refine v_aload_n C d_TT_begin_35 rfl ?_
  refine v_getf C i_Cur (ci := 1) rfl 2 (by decide) (xm_C hc (List.mem_of_getElem? (i := 0) rfl)) fl_TT_72 d_TT_begin_36 (.int (nI (oo m))) rfl ?_
  refine v_iload_n C d_TT_begin_39 rfl ?_
  refine v_iload C d_TT_begin_40 rfl ?_
  refine v_iload C d_TT_begin_42 rfl ?_
  refine v_cR C (As := [.int (nI (oo m)), .int vs, .int vp, .int vo]) (st := []) (c_TT_tell l D kA ad sz ch mc T (va_up Cu c (cu 1 ch (oo m) (bcn m) (X 4) (X 5) (X 6) 0 (X 8))) mt fa (oo m) vs vp vo (oo_lt m)) cv_TT_tell ml_TT_41 d_TT_begin_44 ⟨by omega, by decide⟩ xw_rcv ⟨rfl, rfl⟩ rfl ?_
  rintro _ _ ⟨rfl, rfl⟩
  have hK := ec_lt (oo m) vs vp vo
  have htd := bcn_le m
  have hot := oo_lt m
  refine v_astore C d_TT_begin_47 ⟨Nat.le_of_ble_eq_true rfl, Nat.le_of_ble_eq_true rfl⟩ [.ref (ad 0 0), .ref (ad 2 c), .int (nI m), .int vs, .int vp, .int vo, .ref (ad 1 (oo m))] rfl ?_
  refine v_iconst C d_TT_begin_49 (nI 0) (by decide) ?_
  refine v_istore C d_TT_begin_50 ⟨Nat.le_of_ble_eq_true rfl, Nat.le_of_ble_eq_true rfl⟩ [.ref (ad 0 0), .ref (ad 2 c), .int (nI m), .int vs, .int vp, .int vo, .ref (ad 1 (oo m)), .int (nI 0)] rfl ?_
  have lp : ∀ (t9 : Nat) (k pa ky : Nat), 3 - k < t9 → k ≤ 3 → (k ≠ 0 → pa < TOP) → ky < TOP → (∀ i, i < k → dc pa i = dc (ec (oo m) vs vp vo) i) → (∀ i, i < 3 → dc ky i = if i < k then (if i < bcn m then dc (ec (oo m) vs vp vo) i else MN) else dc (ec (oo m) vs vp vo) i) → V pg l en (rmk 4) s0 m0 args below meth cod D (qA (xw kA ad sz ch mc T (va_up Cu c X) mt fa)) 8 0 0 (MQ below (QC D (xw kA ad sz ch mc T (va_up Cu c X) mt fa) (pV fun w => ∃ (T' : Nat → TS) (X' : Nat → Nat), Sm T T' ∧ w = (xw kA ad sz ch mc T' (va_up Cu c X') mt fa) ∧ X' 0 = 1 ∧ X' 1 = ch ∧ X' 2 = oo m ∧ X' 3 = bcn m ∧ X' 4 = ec (oo m) vs vp vo ∧ X' 7 = 0 ∧ ps (T (oo m)) (dd (oo m)) (LL (oo m)) (X' 5) (X' 6) (blw (LL (oo m)) (lowk (bcn m) (ec (oo m) vs vp vo))))) args s0 0 0 (qA (xw kA ad sz ch mc T (va_up Cu c X) mt fa))) 52 [.ref (ad 0 0), .ref (ad 2 c), .int (nI m), .int vs, .int vp, .int vo, .ref (ad 1 (oo m)), .int (nI k)] [] (xw kA ad sz ch mc (va_up T (oo m) ((T (oo m)).1, scf ((T (oo m)).2 0) ((T (oo m)).2 1) ky ((T (oo m)).2 3) ((T (oo m)).2 4) ((T (oo m)).2 5))) (va_up Cu c (cu 1 ch (oo m) (bcn m) pa (X 5) (X 6) 0 (X 8))) mt fa) := by
    intro t9
    induction t9 with
    | zero => intro k pa ky hk; omega
    | succ t9 ih =>
      intro k pa ky hk hk3 hpa hky hpd hkd
      refine v_iload C d_TT_begin_52 rfl ?_
      refine v_iconst C d_TT_begin_54 (nI 3) (by decide) ?_
      refine v_icmp_ge C d_TT_begin_55 109 (by decide) (by omega) (by omega) (fun ck => ?_) (fun ck => ?_)
      · obtain rfl : k = 3 := by omega
        have hpK : pa = ec (oo m) vs vp vo := dc_eq (hpa (by decide)) hK (fun i hi => hpd i hi)
        have hkl : ky = lowk (bcn m) (ec (oo m) vs vp vo) := dc_eq hky (lowk_lt _ _) (fun i hi => by rw [hkd i hi, if_pos hi, lowk_dc _ _ hi])
        refine v_aload_n C d_TT_begin_109 rfl ?_
        refine v_aload C d_TT_begin_110 rfl ?_
        refine v_tI C (oo_lt m) (x := ((T (oo m)).1, scf ((T (oo m)).2 0) ((T (oo m)).2 1) ky ((T (oo m)).2 3) ((T (oo m)).2 4) ((T (oo m)).2 5))) (As := []) (st := [.ref (ad 2 c)]) (c_Tree_leaf l D kA (ad 1 (oo m)) (ad (3 + (oo m))) ((T (oo m)).1) ((T (oo m)).2 0) ((T (oo m)).2 1) ky ((T (oo m)).2 3) ((T (oo m)).2 4) ((T (oo m)).2 5) (dd (oo m)) (LL (oo m)) (hX _ hot) hky) cv_Tree_leaf ml_TT_92 d_TT_begin_112 ⟨by omega, by decide⟩ rfl ⟨rfl, rfl⟩ rfl ?_
        rintro _ _ ⟨n, A, B, rfl, hl, hA, hB, rfl⟩
        refine ⟨((T (oo m)).1, scf ((T (oo m)).2 0) ((T (oo m)).2 1) ky ((T (oo m)).2 3) ((T (oo m)).2 4) ((T (oo m)).2 5)), rfl, ?_⟩
        obtain ⟨hn, hnc, hnk, -⟩ := (hX _ hot).leaf (m := n) (by rw [hl]; exact List.mem_append_right _ List.mem_cons_self)
        refine v_putf C i_Cur (ci := 1) (ws' := (xw kA ad sz ch mc (va_up T (oo m) ((T (oo m)).1, scf ((T (oo m)).2 0) ((T (oo m)).2 1) ky ((T (oo m)).2 3) ((T (oo m)).2 4) ((T (oo m)).2 5))) (va_up Cu c (cu 1 ch (oo m) (bcn m) pa n (X 6) 0 (X 8))) mt fa)) t_Cur_ok n_Cur rfl 5 (by decide) (xs_C hc ⟨0, rfl, rfl⟩) fl_TT_96 d_TT_begin_115 rfl (rfl) (rfl) (Nat.le_of_ble_eq_true rfl) rfl ?_
        refine v_aload_n C d_TT_begin_118 rfl ?_
        refine v_aload C d_TT_begin_119 rfl ?_
        refine v_aload_n C d_TT_begin_121 rfl ?_
        refine v_getf C i_Cur (ci := 1) rfl 5 (by decide) (xm_C hc (List.mem_of_getElem? (i := 0) rfl)) fl_TT_96 d_TT_begin_122 (.int (nI n)) rfl ?_
        refine v_tI C (oo_lt m) (x := ((T (oo m)).1, scf ((T (oo m)).2 0) ((T (oo m)).2 1) ky ((T (oo m)).2 3) ((T (oo m)).2 4) ((T (oo m)).2 5))) (As := [.int (nI n)]) (st := [.ref (ad 2 c)]) (c_Tree_below l D kA (ad 1 (oo m)) (ad (3 + (oo m))) ((T (oo m)).1) ((T (oo m)).2 0) ((T (oo m)).2 1) ky ((T (oo m)).2 3) ((T (oo m)).2 4) ((T (oo m)).2 5) n hn (by omega) hnk hky) cv_Tree_below ml_TT_98 d_TT_begin_125 ⟨by omega, by decide⟩ rfl ⟨rfl, rfl⟩ rfl ?_
        rintro _ _ ⟨b, rfl, hb, hb1, hb2, rfl⟩
        refine ⟨((T (oo m)).1, scf ((T (oo m)).2 0) ((T (oo m)).2 1) ky ((T (oo m)).2 3) ((T (oo m)).2 4) ((T (oo m)).2 5)), rfl, ?_⟩
        refine v_putf C i_Cur (ci := 1) (ws' := (xw kA ad sz ch mc (va_up T (oo m) ((T (oo m)).1, scf ((T (oo m)).2 0) ((T (oo m)).2 1) ky ((T (oo m)).2 3) ((T (oo m)).2 4) ((T (oo m)).2 5))) (va_up Cu c (cu 1 ch (oo m) (bcn m) pa n b 0 (X 8))) mt fa)) t_Cur_ok n_Cur rfl 6 (by decide) (xs_C hc ⟨0, rfl, rfl⟩) fl_TT_101 d_TT_begin_128 rfl (rfl) (rfl) (Nat.le_of_ble_eq_true rfl) rfl ?_
        exact v_vret C rfl d_TT_begin_131 (⟨rfl, _, cu 1 ch (oo m) (bcn m) pa n b 0 (X 8), Sm.up (x := ((T (oo m)).1, scf ((T (oo m)).2 0) ((T (oo m)).2 1) ky ((T (oo m)).2 3) ((T (oo m)).2 4) ((T (oo m)).2 5))) rfl rfl rfl, rfl, rfl, rfl, rfl, rfl, hpK, rfl, by rw [← hkl]; exact ps_blw (hX _ hot) hl hA hB hb hb1 hb2⟩)
      · refine v_aload_n C d_TT_begin_58 rfl ?_
        refine v_getf C i_Cur (ci := 1) rfl 4 (by decide) (xm_C hc (List.mem_of_getElem? (i := 0) rfl)) fl_TT_85 d_TT_begin_59 (.ref (ad (6 + c) 0)) rfl ?_
        refine v_iload C d_TT_begin_62 rfl ?_
        refine v_aload C d_TT_begin_64 rfl ?_
        refine v_getfN C i_Tree (ci := 0) rfl 8 (by decide) (xm_T (oo_lt m) (List.mem_of_getElem? (i := 0) rfl)) C.2.2.2.2.2.2.2.2.1 d_TT_begin_66 (.ref (ad (3 + (oo m)) 6)) rfl ?_
        refine v_iload C d_TT_begin_69 rfl ?_
        refine v_iald C (xm_T (oo_lt m) (List.mem_of_getElem? (i := 7) rfl)) (by omega) (by decide) d_TT_begin_71 (dc ky k) (rfl) ?_
        obtain ⟨pn, hpn, hpt⟩ := en_up pa k (dc ky k)
        refine v_iast C (ws' := (xw kA ad sz ch mc (va_up T (oo m) ((T (oo m)).1, scf ((T (oo m)).2 0) ((T (oo m)).2 1) ky ((T (oo m)).2 3) ((T (oo m)).2 4) ((T (oo m)).2 5))) (va_up Cu c (cu 1 ch (oo m) (bcn m) pn (X 5) (X 6) 0 (X 8))) mt fa)) (xs_C hc (x := (cu 1 ch (oo m) (bcn m) pa (X 5) (X 6) 0 (X 8))) ⟨1, rfl, rfl⟩) (by omega) (by decide) d_TT_begin_72 (hpn) ?_
        refine v_aload C d_TT_begin_73 rfl ?_
        refine v_getfN C i_Tree (ci := 0) rfl 8 (by decide) (xm_T (oo_lt m) (List.mem_of_getElem? (i := 0) rfl)) C.2.2.2.2.2.2.2.2.1 d_TT_begin_75 (.ref (ad (3 + (oo m)) 6)) rfl ?_
        refine v_iload C d_TT_begin_78 rfl ?_
        refine v_iload C d_TT_begin_80 rfl ?_
        refine v_aload_n C d_TT_begin_82 rfl ?_
        refine v_getf C i_Cur (ci := 1) rfl 3 (by decide) (xm_C hc (List.mem_of_getElem? (i := 0) rfl)) fl_TT_80 d_TT_begin_83 (.int (nI (bcn m))) rfl ?_
        refine v_icmp_ge C d_TT_begin_86 100 (by decide) (by omega) (by omega) (fun ct => ?_) (fun ct => ?_)
        · refine v_ldc C (v := MN) cn_TT_91 d_TT_begin_100 ?_
          obtain ⟨kn, hkn, hkt⟩ := en_up ky k (MN)
          refine v_iast C (ws' := (xw kA ad sz ch mc (va_up T (oo m) ((T (oo m)).1, scf ((T (oo m)).2 0) ((T (oo m)).2 1) kn ((T (oo m)).2 3) ((T (oo m)).2 4) ((T (oo m)).2 5))) (va_up Cu c (cu 1 ch (oo m) (bcn m) pn (X 5) (X 6) 0 (X 8))) mt fa)) (xs_T (oo_lt m) (x := ((T (oo m)).1, scf ((T (oo m)).2 0) ((T (oo m)).2 1) ky ((T (oo m)).2 3) ((T (oo m)).2 4) ((T (oo m)).2 5))) ⟨7, rfl, rfl⟩) (by omega) (by decide) d_TT_begin_102 (hkn) ?_
          refine v_iinc C d_TT_begin_103 rfl ⟨Nat.le_of_ble_eq_true rfl, Nat.le_of_ble_eq_true rfl⟩ (nI (k + 1)) (inc1 _) [.ref (ad 0 0), .ref (ad 2 c), .int (nI m), .int vs, .int vp, .int vo, .ref (ad 1 (oo m)), .int (nI (k + 1))] rfl ?_
          refine v_goto C d_TT_begin_106 52 (by decide) ?_
          refine ih (k + 1) _ _ (by omega) (by omega) (fun _ => hpt) hkt (fun i hi => ?_) (fun i hi => ?_)
          · rw [hpn i (by omega)]
            by_cases e : i = k
            · subst e; rw [if_pos rfl, hkd i (by omega), if_neg (by omega)]
            · rw [if_neg e]; exact hpd i (by omega)
          · rw [hkn i hi]
            by_cases e : i = k
            · subst e; rw [if_pos rfl, if_pos (by omega)]; rw [if_neg (by omega)]
            · rw [if_neg e, hkd i hi]
              by_cases e2 : i < k
              · rw [if_pos e2, if_pos (show i < k + 1 by omega)]
              · rw [if_neg e2, if_neg (show ¬ i < k + 1 by omega)]
        · refine v_aload C d_TT_begin_89 rfl ?_
          refine v_getfN C i_Tree (ci := 0) rfl 8 (by decide) (xm_T (oo_lt m) (List.mem_of_getElem? (i := 0) rfl)) C.2.2.2.2.2.2.2.2.1 d_TT_begin_91 (.ref (ad (3 + (oo m)) 6)) rfl ?_
          refine v_iload C d_TT_begin_94 rfl ?_
          refine v_iald C (xm_T (oo_lt m) (List.mem_of_getElem? (i := 7) rfl)) (by omega) (by decide) d_TT_begin_96 (dc ky k) (rfl) ?_
          refine v_goto C d_TT_begin_97 102 (by decide) ?_
          obtain ⟨kn, hkn, hkt⟩ := en_up ky k (dc ky k)
          refine v_iast C (ws' := (xw kA ad sz ch mc (va_up T (oo m) ((T (oo m)).1, scf ((T (oo m)).2 0) ((T (oo m)).2 1) kn ((T (oo m)).2 3) ((T (oo m)).2 4) ((T (oo m)).2 5))) (va_up Cu c (cu 1 ch (oo m) (bcn m) pn (X 5) (X 6) 0 (X 8))) mt fa)) (xs_T (oo_lt m) (x := ((T (oo m)).1, scf ((T (oo m)).2 0) ((T (oo m)).2 1) ky ((T (oo m)).2 3) ((T (oo m)).2 4) ((T (oo m)).2 5))) ⟨7, rfl, rfl⟩) (by omega) (by decide) d_TT_begin_102 (hkn) ?_
          refine v_iinc C d_TT_begin_103 rfl ⟨Nat.le_of_ble_eq_true rfl, Nat.le_of_ble_eq_true rfl⟩ (nI (k + 1)) (inc1 _) [.ref (ad 0 0), .ref (ad 2 c), .int (nI m), .int vs, .int vp, .int vo, .ref (ad 1 (oo m)), .int (nI (k + 1))] rfl ?_
          refine v_goto C d_TT_begin_106 52 (by decide) ?_
          refine ih (k + 1) _ _ (by omega) (by omega) (fun _ => hpt) hkt (fun i hi => ?_) (fun i hi => ?_)
          · rw [hpn i (by omega)]
            by_cases e : i = k
            · subst e; rw [if_pos rfl, hkd i (by omega), if_neg (by omega)]
            · rw [if_neg e]; exact hpd i (by omega)
          · rw [hkn i hi]
            by_cases e : i = k
            · subst e; rw [if_pos rfl, if_pos (by omega)]; rw [if_pos (by omega), hkd i (by omega), if_neg (by omega)]
            · rw [if_neg e, hkd i hi]
              by_cases e2 : i < k
              · rw [if_pos e2, if_pos (show i < k + 1 by omega)]
              · rw [if_neg e2, if_neg (show ¬ i < k + 1 by omega)]
  exact lp 4 0 (X 4) (ec (oo m) vs vp vo) (by omega) (by omega) (fun z => absurd rfl z) hK (fun i hi => absurd hi (Nat.not_lt_zero i)) (fun i hi => by rw [if_neg (Nat.not_lt_zero i)])

set_option maxHeartbeats 800000 in
set_option maxRecDepth 20000 in
theorem c_TT_step (l : Launch) (D : va_G) (kA : Nat → ClassId) (ad : Nat → Nat → Nat) (sz ch mc : Nat) (T : Nat → TS) (Cu : Nat → Nat → Nat) (mt : Nat → Int32) (fa : Nat → Nat) (dd : Nat → Nat) (LL : Nat → List Nat) (c j : Nat) (X : Nat → Nat) (hX : XI T dd LL) (hc : c < 10) (ht : X 2 < 3) (htd : X 3 ≤ 3) (hp : ps (T (X 2)) (dd (X 2)) (LL (X 2)) (X 5) (X 6) j) : Ct l D kA 2 y_TT_step b_TT_step 5 (some .boolean) [.ref (ad 0 0), .ref (ad 2 c)] (xw kA ad sz ch mc T (va_up Cu c X) mt fa) (pI fun x w => (j < (LL (X 2)).length ∧ pm (X 3) (X 4) (lg (LL (X 2)) j) ∧ x = 1 ∧ ∃ (lf pl : Nat) (A B : List Nat), w = (xw kA ad sz ch mc T (va_up Cu c (cu (X 0) (X 1) (X 2) (X 3) (X 4) lf (pl + 1) 1 (lg (LL (X 2)) j))) mt fa) ∧ lvO (T (X 2)).1 (dd (X 2)) ((T (X 2)).2 1) = A ++ lf :: B ∧ pl < nc ((T (X 2)).1 lf) ∧ j = (A.flatMap (ksO (T (X 2)).1)).length + pl) ∨ (¬ (j < (LL (X 2)).length ∧ pm (X 3) (X 4) (lg (LL (X 2)) j)) ∧ x = 0 ∧ ∃ lf pl, w = (xw kA ad sz ch mc T (va_up Cu c (cu (X 0) (X 1) (X 2) (X 3) (X 4) lf pl 0 (X 8))) mt fa) ∧ ps (T (X 2)) (dd (X 2)) (LL (X 2)) lf pl j)) := by
  refine ct_of (by decide) (Nat.le_of_ble_eq_true rfl) rfl ?_
  intro pg en s0 m0 args below meth cod C
  refine v_ws (xw_cux c X) ?_
  refine v_aload_n C d_TT_step_0 rfl ?_
  refine v_getf C i_TT (ci := 2) rfl 0 (by decide) (List.mem_of_getElem? (i := 0) rfl) fl_TT_9 d_TT_step_1 (.ref (ad 0 1)) rfl ?_
  refine v_aload_n C d_TT_step_4 rfl ?_
  refine v_getf C i_Cur (ci := 1) rfl 2 (by decide) (xm_C hc (List.mem_of_getElem? (i := 0) rfl)) fl_TT_72 d_TT_step_5 (.int (nI (X 2))) rfl ?_
  refine v_aald C (List.mem_of_getElem? (i := 1) rfl) (t0 := 2) rfl (by omega) (by decide) d_TT_step_8 (ad 1 (X 2)) rfl ?_
  refine v_ws (xw_ts (X 2)) ?_
  refine v_astore_n C d_TT_step_9 ⟨Nat.le_of_ble_eq_true rfl, Nat.le_of_ble_eq_true rfl⟩ [.ref (ad 0 0), .ref (ad 2 c), .ref (ad 1 (X 2))] rfl ?_
  have hTI := hX _ ht
  have z121 : ∀ (lf pl i : Nat), ps (T (X 2)) (dd (X 2)) (LL (X 2)) lf pl j → ¬ (j < (LL (X 2)).length ∧ pm (X 3) (X 4) (lg (LL (X 2)) j)) → V pg l en (rmk 2) s0 m0 args below meth cod D (qA (xw kA ad sz ch mc T (va_up Cu c X) mt fa)) 5 0 0 (MQ below (QC D (xw kA ad sz ch mc T (va_up Cu c X) mt fa) (pI fun x w => (j < (LL (X 2)).length ∧ pm (X 3) (X 4) (lg (LL (X 2)) j) ∧ x = 1 ∧ ∃ (lf pl : Nat) (A B : List Nat), w = (xw kA ad sz ch mc T (va_up Cu c (cu (X 0) (X 1) (X 2) (X 3) (X 4) lf (pl + 1) 1 (lg (LL (X 2)) j))) mt fa) ∧ lvO (T (X 2)).1 (dd (X 2)) ((T (X 2)).2 1) = A ++ lf :: B ∧ pl < nc ((T (X 2)).1 lf) ∧ j = (A.flatMap (ksO (T (X 2)).1)).length + pl) ∨ (¬ (j < (LL (X 2)).length ∧ pm (X 3) (X 4) (lg (LL (X 2)) j)) ∧ x = 0 ∧ ∃ lf pl, w = (xw kA ad sz ch mc T (va_up Cu c (cu (X 0) (X 1) (X 2) (X 3) (X 4) lf pl 0 (X 8))) mt fa) ∧ ps (T (X 2)) (dd (X 2)) (LL (X 2)) lf pl j))) args s0 0 0 (qA (xw kA ad sz ch mc T (va_up Cu c X) mt fa))) 121 [.ref (ad 0 0), .ref (ad 2 c), .ref (ad 1 (X 2)), .int (nI 0), .int (nI i)] [] (xw kA ad sz ch mc (va_up T (X 2) ((T (X 2)).1, scf ((T (X 2)).2 0) ((T (X 2)).2 1) ((T (X 2)).2 2) ((T (X 2)).2 3) ((T (X 2)).2 4) ((T (X 2)).2 5))) (va_up Cu c (cu (X 0) (X 1) (X 2) (X 3) (X 4) lf pl (X 7) (X 8))) mt fa) := by
    intro lf pl i hq hno
    refine v_aload_n C d_TT_step_121 rfl ?_
    refine v_iload_n C d_TT_step_122 rfl ?_
    refine v_putf C i_Cur (ci := 1) (ws' := (xw kA ad sz ch mc (va_up T (X 2) ((T (X 2)).1, scf ((T (X 2)).2 0) ((T (X 2)).2 1) ((T (X 2)).2 2) ((T (X 2)).2 3) ((T (X 2)).2 4) ((T (X 2)).2 5))) (va_up Cu c (cu (X 0) (X 1) (X 2) (X 3) (X 4) lf pl 0 (X 8))) mt fa)) t_Cur_ok n_Cur rfl 7 (by decide) (xs_C hc ⟨0, rfl, rfl⟩) fl_TT_83 d_TT_step_123 rfl (rfl) (rfl) (Nat.le_of_ble_eq_true rfl) rfl ?_
    refine v_iload_n C d_TT_step_126 rfl ?_
    refine v_if_eq C d_TT_step_127 176 (by decide) (by decide) (fun c0 => ?_) (fun c0 => False.elim (by exact c0 rfl))
    refine v_iload_n C d_TT_step_176 rfl ?_
    exact v_zret C rfl (rfl) d_TT_step_177 (⟨_, rfl, Or.inr ⟨hno, rfl, lf, pl, (xw_ts (X 2)).symm, hq⟩⟩)
  have z72 : ∀ (lf pl i : Nat), i < 5 → ps (T (X 2)) (dd (X 2)) (LL (X 2)) lf pl j → ¬ (j < (LL (X 2)).length ∧ pm (X 3) (X 4) (lg (LL (X 2)) j)) → V pg l en (rmk 2) s0 m0 args below meth cod D (qA (xw kA ad sz ch mc T (va_up Cu c X) mt fa)) 5 0 0 (MQ below (QC D (xw kA ad sz ch mc T (va_up Cu c X) mt fa) (pI fun x w => (j < (LL (X 2)).length ∧ pm (X 3) (X 4) (lg (LL (X 2)) j) ∧ x = 1 ∧ ∃ (lf pl : Nat) (A B : List Nat), w = (xw kA ad sz ch mc T (va_up Cu c (cu (X 0) (X 1) (X 2) (X 3) (X 4) lf (pl + 1) 1 (lg (LL (X 2)) j))) mt fa) ∧ lvO (T (X 2)).1 (dd (X 2)) ((T (X 2)).2 1) = A ++ lf :: B ∧ pl < nc ((T (X 2)).1 lf) ∧ j = (A.flatMap (ksO (T (X 2)).1)).length + pl) ∨ (¬ (j < (LL (X 2)).length ∧ pm (X 3) (X 4) (lg (LL (X 2)) j)) ∧ x = 0 ∧ ∃ lf pl, w = (xw kA ad sz ch mc T (va_up Cu c (cu (X 0) (X 1) (X 2) (X 3) (X 4) lf pl 0 (X 8))) mt fa) ∧ ps (T (X 2)) (dd (X 2)) (LL (X 2)) lf pl j))) args s0 0 0 (qA (xw kA ad sz ch mc T (va_up Cu c X) mt fa))) 72 [.ref (ad 0 0), .ref (ad 2 c), .ref (ad 1 (X 2)), .int (nI 0), .int (nI i)] [] (xw kA ad sz ch mc (va_up T (X 2) ((T (X 2)).1, scf ((T (X 2)).2 0) ((T (X 2)).2 1) ((T (X 2)).2 2) ((T (X 2)).2 3) ((T (X 2)).2 4) ((T (X 2)).2 5))) (va_up Cu c (cu (X 0) (X 1) (X 2) (X 3) (X 4) lf pl (X 7) (X 8))) mt fa) := by
    intro lf pl i hi5 hq hno
    refine v_iload C d_TT_step_72 rfl ?_
    refine v_aload_n C d_TT_step_74 rfl ?_
    refine v_getf C i_Cur (ci := 1) rfl 3 (by decide) (xm_C hc (List.mem_of_getElem? (i := 0) rfl)) fl_TT_80 d_TT_step_75 (.int (nI (X 3))) rfl ?_
    refine v_icmp_ge C d_TT_step_78 121 (by decide) (by omega) (by omega) (fun ci => ?_) (fun ci => ?_)
    · exact z121 lf pl i hq hno
    · refine v_iload_n C d_TT_step_81 rfl ?_
      refine v_if_eq C d_TT_step_82 121 (by decide) (by decide) (fun c0 => ?_) (fun c0 => False.elim (by exact c0 rfl))
      exact z121 lf pl i hq hno
  have nn : ∀ (pl : Nat), j = (LL (X 2)).length → V pg l en (rmk 2) s0 m0 args below meth cod D (qA (xw kA ad sz ch mc T (va_up Cu c X) mt fa)) 5 0 0 (MQ below (QC D (xw kA ad sz ch mc T (va_up Cu c X) mt fa) (pI fun x w => (j < (LL (X 2)).length ∧ pm (X 3) (X 4) (lg (LL (X 2)) j) ∧ x = 1 ∧ ∃ (lf pl : Nat) (A B : List Nat), w = (xw kA ad sz ch mc T (va_up Cu c (cu (X 0) (X 1) (X 2) (X 3) (X 4) lf (pl + 1) 1 (lg (LL (X 2)) j))) mt fa) ∧ lvO (T (X 2)).1 (dd (X 2)) ((T (X 2)).2 1) = A ++ lf :: B ∧ pl < nc ((T (X 2)).1 lf) ∧ j = (A.flatMap (ksO (T (X 2)).1)).length + pl) ∨ (¬ (j < (LL (X 2)).length ∧ pm (X 3) (X 4) (lg (LL (X 2)) j)) ∧ x = 0 ∧ ∃ lf pl, w = (xw kA ad sz ch mc T (va_up Cu c (cu (X 0) (X 1) (X 2) (X 3) (X 4) lf pl 0 (X 8))) mt fa) ∧ ps (T (X 2)) (dd (X 2)) (LL (X 2)) lf pl j))) args s0 0 0 (qA (xw kA ad sz ch mc T (va_up Cu c X) mt fa))) 10 [.ref (ad 0 0), .ref (ad 2 c), .ref (ad 1 (X 2))] [] (xw kA ad sz ch mc (va_up T (X 2) ((T (X 2)).1, scf ((T (X 2)).2 0) ((T (X 2)).2 1) ((T (X 2)).2 2) ((T (X 2)).2 3) ((T (X 2)).2 4) ((T (X 2)).2 5))) (va_up Cu c (cu (X 0) (X 1) (X 2) (X 3) (X 4) NONE pl (X 7) (X 8))) mt fa) := by
    intro pl hj
    refine v_aload_n C d_TT_step_10 rfl ?_
    refine v_getf C i_Cur (ci := 1) rfl 5 (by decide) (xm_C hc (List.mem_of_getElem? (i := 0) rfl)) fl_TT_96 d_TT_step_11 (.int (nI NONE)) rfl ?_
    refine v_iconst C d_TT_step_14 (-1) (by decide) ?_
    refine v_icmp_eqR C d_TT_step_15 55 (by decide) (fun c0 => ?_) (fun c0 => False.elim (by exact c0 (by decide)))
    refine v_aload_n C d_TT_step_55 rfl ?_
    refine v_getf C i_Cur (ci := 1) rfl 5 (by decide) (xm_C hc (List.mem_of_getElem? (i := 0) rfl)) fl_TT_96 d_TT_step_56 (.int (nI NONE)) rfl ?_
    refine v_iconst C d_TT_step_59 (-1) (by decide) ?_
    refine v_icmp_eqR C d_TT_step_60 67 (by decide) (fun c1 => ?_) (fun c1 => False.elim (by exact c1 (by decide)))
    refine v_iconst C d_TT_step_67 (nI 0) (by decide) ?_
    refine v_istore_n C d_TT_step_68 ⟨Nat.le_of_ble_eq_true rfl, Nat.le_of_ble_eq_true rfl⟩ [.ref (ad 0 0), .ref (ad 2 c), .ref (ad 1 (X 2)), .int (nI 0)] rfl ?_
    refine v_iconst C d_TT_step_69 (nI 0) (by decide) ?_
    refine v_istore C d_TT_step_70 ⟨Nat.le_of_ble_eq_true rfl, Nat.le_of_ble_eq_true rfl⟩ [.ref (ad 0 0), .ref (ad 2 c), .ref (ad 1 (X 2)), .int (nI 0), .int (nI 0)] rfl ?_
    exact z72 NONE pl 0 (by decide) (Or.inl ⟨rfl, hj⟩) (fun z => by omega)
  have yy : ∀ (lf pl : Nat) (A B : List Nat), lvO (T (X 2)).1 (dd (X 2)) ((T (X 2)).2 1) = A ++ lf :: B → pl < nc ((T (X 2)).1 lf) → j = (A.flatMap (ksO (T (X 2)).1)).length + pl → V pg l en (rmk 2) s0 m0 args below meth cod D (qA (xw kA ad sz ch mc T (va_up Cu c X) mt fa)) 5 0 0 (MQ below (QC D (xw kA ad sz ch mc T (va_up Cu c X) mt fa) (pI fun x w => (j < (LL (X 2)).length ∧ pm (X 3) (X 4) (lg (LL (X 2)) j) ∧ x = 1 ∧ ∃ (lf pl : Nat) (A B : List Nat), w = (xw kA ad sz ch mc T (va_up Cu c (cu (X 0) (X 1) (X 2) (X 3) (X 4) lf (pl + 1) 1 (lg (LL (X 2)) j))) mt fa) ∧ lvO (T (X 2)).1 (dd (X 2)) ((T (X 2)).2 1) = A ++ lf :: B ∧ pl < nc ((T (X 2)).1 lf) ∧ j = (A.flatMap (ksO (T (X 2)).1)).length + pl) ∨ (¬ (j < (LL (X 2)).length ∧ pm (X 3) (X 4) (lg (LL (X 2)) j)) ∧ x = 0 ∧ ∃ lf pl, w = (xw kA ad sz ch mc T (va_up Cu c (cu (X 0) (X 1) (X 2) (X 3) (X 4) lf pl 0 (X 8))) mt fa) ∧ ps (T (X 2)) (dd (X 2)) (LL (X 2)) lf pl j))) args s0 0 0 (qA (xw kA ad sz ch mc T (va_up Cu c X) mt fa))) 55 [.ref (ad 0 0), .ref (ad 2 c), .ref (ad 1 (X 2))] [] (xw kA ad sz ch mc (va_up T (X 2) ((T (X 2)).1, scf ((T (X 2)).2 0) ((T (X 2)).2 1) ((T (X 2)).2 2) ((T (X 2)).2 3) ((T (X 2)).2 4) ((T (X 2)).2 5))) (va_up Cu c (cu (X 0) (X 1) (X 2) (X 3) (X 4) lf pl (X 7) (X 8))) mt fa) := by
    intro lf pl A B hl hpl hj
    obtain ⟨hn, hnc, hnk, -⟩ := hTI.leaf (m := lf) (by rw [hl]; exact List.mem_append_right _ List.mem_cons_self)
    obtain ⟨hjl, hlg⟩ := ps_lg hTI hl hpl
    rw [← hj] at hjl hlg
    have hq : ps (T (X 2)) (dd (X 2)) (LL (X 2)) lf pl j := Or.inr ⟨A, B, hl, Nat.le_of_lt hpl, hj⟩
    have hY := hnk pl hpl
    refine v_aload_n C d_TT_step_55 rfl ?_
    refine v_getf C i_Cur (ci := 1) rfl 5 (by decide) (xm_C hc (List.mem_of_getElem? (i := 0) rfl)) fl_TT_96 d_TT_step_56 (.int (nI lf)) rfl ?_
    refine v_iconst C d_TT_step_59 (-1) (by decide) ?_
    refine v_icmp_eqR C d_TT_step_60 67 (by decide) (fun c0 => False.elim (by exact nI_nm1 (by omega) c0)) (fun c0 => ?_)
    refine v_iconst C d_TT_step_63 (nI 1) (by decide) ?_
    refine v_goto C d_TT_step_64 68 (by decide) ?_
    refine v_istore_n C d_TT_step_68 ⟨Nat.le_of_ble_eq_true rfl, Nat.le_of_ble_eq_true rfl⟩ [.ref (ad 0 0), .ref (ad 2 c), .ref (ad 1 (X 2)), .int (nI 1)] rfl ?_
    refine v_iconst C d_TT_step_69 (nI 0) (by decide) ?_
    refine v_istore C d_TT_step_70 ⟨Nat.le_of_ble_eq_true rfl, Nat.le_of_ble_eq_true rfl⟩ [.ref (ad 0 0), .ref (ad 2 c), .ref (ad 1 (X 2)), .int (nI 1), .int (nI 0)] rfl ?_
    have lp : ∀ (t9 : Nat) (i : Nat), X 3 - i < t9 → i ≤ X 3 → (∀ k, k < i → dc (nK ((T (X 2)).1 lf) pl) k = dc (X 4) k) → V pg l en (rmk 2) s0 m0 args below meth cod D (qA (xw kA ad sz ch mc T (va_up Cu c X) mt fa)) 5 0 0 (MQ below (QC D (xw kA ad sz ch mc T (va_up Cu c X) mt fa) (pI fun x w => (j < (LL (X 2)).length ∧ pm (X 3) (X 4) (lg (LL (X 2)) j) ∧ x = 1 ∧ ∃ (lf pl : Nat) (A B : List Nat), w = (xw kA ad sz ch mc T (va_up Cu c (cu (X 0) (X 1) (X 2) (X 3) (X 4) lf (pl + 1) 1 (lg (LL (X 2)) j))) mt fa) ∧ lvO (T (X 2)).1 (dd (X 2)) ((T (X 2)).2 1) = A ++ lf :: B ∧ pl < nc ((T (X 2)).1 lf) ∧ j = (A.flatMap (ksO (T (X 2)).1)).length + pl) ∨ (¬ (j < (LL (X 2)).length ∧ pm (X 3) (X 4) (lg (LL (X 2)) j)) ∧ x = 0 ∧ ∃ lf pl, w = (xw kA ad sz ch mc T (va_up Cu c (cu (X 0) (X 1) (X 2) (X 3) (X 4) lf pl 0 (X 8))) mt fa) ∧ ps (T (X 2)) (dd (X 2)) (LL (X 2)) lf pl j))) args s0 0 0 (qA (xw kA ad sz ch mc T (va_up Cu c X) mt fa))) 72 [.ref (ad 0 0), .ref (ad 2 c), .ref (ad 1 (X 2)), .int (nI 1), .int (nI i)] [] (xw kA ad sz ch mc (va_up T (X 2) ((T (X 2)).1, scf ((T (X 2)).2 0) ((T (X 2)).2 1) ((T (X 2)).2 2) ((T (X 2)).2 3) ((T (X 2)).2 4) ((T (X 2)).2 5))) (va_up Cu c (cu (X 0) (X 1) (X 2) (X 3) (X 4) lf pl (X 7) (X 8))) mt fa) := by
      intro t9
      induction t9 with
      | zero => intro i hi; omega
      | succ t9 ih =>
        intro i hi hi3 hm
        refine v_iload C d_TT_step_72 rfl ?_
        refine v_aload_n C d_TT_step_74 rfl ?_
        refine v_getf C i_Cur (ci := 1) rfl 3 (by decide) (xm_C hc (List.mem_of_getElem? (i := 0) rfl)) fl_TT_80 d_TT_step_75 (.int (nI (X 3))) rfl ?_
        refine v_icmp_ge C d_TT_step_78 121 (by decide) (by omega) (by omega) (fun ci => ?_) (fun ci => ?_)
        · obtain rfl : i = X 3 := by omega
          have hyes : pm (X 3) (X 4) (lg (LL (X 2)) j) := by rw [hlg]; exact hm
          refine v_aload_n C d_TT_step_121 rfl ?_
          refine v_iload_n C d_TT_step_122 rfl ?_
          refine v_putf C i_Cur (ci := 1) (ws' := (xw kA ad sz ch mc (va_up T (X 2) ((T (X 2)).1, scf ((T (X 2)).2 0) ((T (X 2)).2 1) ((T (X 2)).2 2) ((T (X 2)).2 3) ((T (X 2)).2 4) ((T (X 2)).2 5))) (va_up Cu c (cu (X 0) (X 1) (X 2) (X 3) (X 4) lf pl 1 (X 8))) mt fa)) t_Cur_ok n_Cur rfl 7 (by decide) (xs_C hc ⟨0, rfl, rfl⟩) fl_TT_83 d_TT_step_123 rfl (rfl) (rfl) (Nat.le_of_ble_eq_true rfl) rfl ?_
          refine v_iload_n C d_TT_step_126 rfl ?_
          refine v_if_eq C d_TT_step_127 176 (by decide) (by decide) (fun c1 => False.elim (by exact absurd c1 (by decide))) (fun c1 => ?_)
          refine v_iconst C d_TT_step_130 (nI 0) (by decide) ?_
          refine v_istore C d_TT_step_131 ⟨Nat.le_of_ble_eq_true rfl, Nat.le_of_ble_eq_true rfl⟩ [.ref (ad 0 0), .ref (ad 2 c), .ref (ad 1 (X 2)), .int (nI 1), .int (nI 0)] rfl ?_
          have lp2 : ∀ (t8 : Nat) (k nw : Nat), 3 - k < t8 → k ≤ 3 → (k ≠ 0 → nw < TOP) → (∀ i, i < k → dc nw i = dc (nK ((T (X 2)).1 lf) pl) i) → V pg l en (rmk 2) s0 m0 args below meth cod D (qA (xw kA ad sz ch mc T (va_up Cu c X) mt fa)) 5 0 0 (MQ below (QC D (xw kA ad sz ch mc T (va_up Cu c X) mt fa) (pI fun x w => (j < (LL (X 2)).length ∧ pm (X 3) (X 4) (lg (LL (X 2)) j) ∧ x = 1 ∧ ∃ (lf pl : Nat) (A B : List Nat), w = (xw kA ad sz ch mc T (va_up Cu c (cu (X 0) (X 1) (X 2) (X 3) (X 4) lf (pl + 1) 1 (lg (LL (X 2)) j))) mt fa) ∧ lvO (T (X 2)).1 (dd (X 2)) ((T (X 2)).2 1) = A ++ lf :: B ∧ pl < nc ((T (X 2)).1 lf) ∧ j = (A.flatMap (ksO (T (X 2)).1)).length + pl) ∨ (¬ (j < (LL (X 2)).length ∧ pm (X 3) (X 4) (lg (LL (X 2)) j)) ∧ x = 0 ∧ ∃ lf pl, w = (xw kA ad sz ch mc T (va_up Cu c (cu (X 0) (X 1) (X 2) (X 3) (X 4) lf pl 0 (X 8))) mt fa) ∧ ps (T (X 2)) (dd (X 2)) (LL (X 2)) lf pl j))) args s0 0 0 (qA (xw kA ad sz ch mc T (va_up Cu c X) mt fa))) 133 [.ref (ad 0 0), .ref (ad 2 c), .ref (ad 1 (X 2)), .int (nI 1), .int (nI k)] [] (xw kA ad sz ch mc (va_up T (X 2) ((T (X 2)).1, scf ((T (X 2)).2 0) ((T (X 2)).2 1) ((T (X 2)).2 2) ((T (X 2)).2 3) ((T (X 2)).2 4) ((T (X 2)).2 5))) (va_up Cu c (cu (X 0) (X 1) (X 2) (X 3) (X 4) lf pl 1 nw)) mt fa) := by
            intro t8
            induction t8 with
            | zero => intro k nw hk; omega
            | succ t8 ih2 =>
              intro k nw hk hk3 hnw hnd
              refine v_iload C d_TT_step_133 rfl ?_
              refine v_iconst C d_TT_step_135 (nI 3) (by decide) ?_
              refine v_icmp_ge C d_TT_step_136 166 (by decide) (by omega) (by omega) (fun ck => ?_) (fun ck => ?_)
              · obtain rfl : k = 3 := by omega
                obtain rfl : nw = lg (LL (X 2)) j := dc_eq (hnw (by decide)) (by rw [hlg]; exact hY) (fun i hi => by rw [hlg]; exact hnd i hi)
                refine v_aload_n C d_TT_step_166 rfl ?_
                refine v_dup C d_TT_step_167 rfl ?_
                refine v_getf C i_Cur (ci := 1) rfl 6 (by decide) (xm_C hc (List.mem_of_getElem? (i := 0) rfl)) fl_TT_101 d_TT_step_168 (.int (nI pl)) rfl ?_
                refine v_iconst C d_TT_step_171 (nI 1) (by decide) ?_
                refine v_iadd C d_TT_step_172 ?_
                refine v_putf C i_Cur (ci := 1) (ws' := (xw kA ad sz ch mc (va_up T (X 2) ((T (X 2)).1, scf ((T (X 2)).2 0) ((T (X 2)).2 1) ((T (X 2)).2 2) ((T (X 2)).2 3) ((T (X 2)).2 4) ((T (X 2)).2 5))) (va_up Cu c (cu (X 0) (X 1) (X 2) (X 3) (X 4) lf (pl + 1) 1 (lg (LL (X 2)) j))) mt fa)) t_Cur_ok n_Cur rfl 6 (by decide) (xs_C hc ⟨0, rfl, rfl⟩) fl_TT_101 d_TT_step_173 rfl (rfl) (rfl) (Nat.le_of_ble_eq_true rfl) rfl ?_
                refine v_iload_n C d_TT_step_176 rfl ?_
                exact v_zret C rfl (rfl) d_TT_step_177 (⟨_, rfl, Or.inl ⟨hjl, hyes, rfl, lf, pl, A, B, (xw_ts (X 2)).symm, hl, hpl, hj⟩⟩)
              · refine v_aload_n C d_TT_step_139 rfl ?_
                refine v_getf C i_Cur (ci := 1) rfl 8 (by decide) (xm_C hc (List.mem_of_getElem? (i := 0) rfl)) fl_TT_114 d_TT_step_140 (.ref (ad (6 + c) 1)) rfl ?_
                refine v_iload C d_TT_step_143 rfl ?_
                refine v_aload_n C d_TT_step_145 rfl ?_
                refine v_aload_n C d_TT_step_146 rfl ?_
                refine v_getf C i_Cur (ci := 1) rfl 5 (by decide) (xm_C hc (List.mem_of_getElem? (i := 0) rfl)) fl_TT_96 d_TT_step_147 (.int (nI lf)) rfl ?_
                refine v_aload_n C d_TT_step_150 rfl ?_
                refine v_getf C i_Cur (ci := 1) rfl 6 (by decide) (xm_C hc (List.mem_of_getElem? (i := 0) rfl)) fl_TT_101 d_TT_step_151 (.int (nI pl)) rfl ?_
                refine v_iload C d_TT_step_154 rfl ?_
                refine v_tI C ht (x := ((T (X 2)).1, scf ((T (X 2)).2 0) ((T (X 2)).2 1) ((T (X 2)).2 2) ((T (X 2)).2 3) ((T (X 2)).2 4) ((T (X 2)).2 5))) (As := [.int (nI lf), .int (nI pl), .int (nI k)]) (st := [.int (nI k), .ref (ad (6 + c) 1)]) (c_Tree_part l D kA (ad 1 (X 2)) (ad (3 + (X 2))) ((T (X 2)).1) ((T (X 2)).2 0) ((T (X 2)).2 1) ((T (X 2)).2 2) ((T (X 2)).2 3) ((T (X 2)).2 4) ((T (X 2)).2 5) lf pl k hn (by omega) ck) cv_Tree_part ml_TT_110 d_TT_step_156 ⟨by omega, by decide⟩ rfl ⟨rfl, rfl⟩ rfl ?_
                rintro _ _ ⟨rfl, rfl⟩
                refine ⟨((T (X 2)).1, scf ((T (X 2)).2 0) ((T (X 2)).2 1) ((T (X 2)).2 2) ((T (X 2)).2 3) ((T (X 2)).2 4) ((T (X 2)).2 5)), rfl, ?_⟩
                obtain ⟨wn, hwn, hwt⟩ := en_up nw k (dc (nK ((T (X 2)).1 lf) pl) k)
                refine v_iast C (ws' := (xw kA ad sz ch mc (va_up T (X 2) ((T (X 2)).1, scf ((T (X 2)).2 0) ((T (X 2)).2 1) ((T (X 2)).2 2) ((T (X 2)).2 3) ((T (X 2)).2 4) ((T (X 2)).2 5))) (va_up Cu c (cu (X 0) (X 1) (X 2) (X 3) (X 4) lf pl 1 wn)) mt fa)) (xs_C hc (x := (cu (X 0) (X 1) (X 2) (X 3) (X 4) lf pl 1 nw)) ⟨2, rfl, rfl⟩) (by omega) (by decide) d_TT_step_159 (hwn) ?_
                refine v_iinc C d_TT_step_160 rfl ⟨Nat.le_of_ble_eq_true rfl, Nat.le_of_ble_eq_true rfl⟩ (nI (k + 1)) (inc1 _) [.ref (ad 0 0), .ref (ad 2 c), .ref (ad 1 (X 2)), .int (nI 1), .int (nI (k + 1))] rfl ?_
                refine v_goto C d_TT_step_163 133 (by decide) ?_
                refine ih2 (k + 1) _ (by omega) (by omega) (fun _ => hwt) (fun i hi => ?_)
                rw [hwn i (by omega)]
                by_cases e : i = k
                · subst e; rw [if_pos rfl]
                · rw [if_neg e]; exact hnd i (by omega)
          exact lp2 4 0 (X 8) (by omega) (by omega) (fun z => absurd rfl z) (fun i hi => absurd hi (Nat.not_lt_zero i))
        · refine v_iload_n C d_TT_step_81 rfl ?_
          refine v_if_eq C d_TT_step_82 121 (by decide) (by decide) (fun c1 => False.elim (by exact absurd c1 (by decide))) (fun c1 => ?_)
          refine v_aload_n C d_TT_step_85 rfl ?_
          refine v_aload_n C d_TT_step_86 rfl ?_
          refine v_getf C i_Cur (ci := 1) rfl 5 (by decide) (xm_C hc (List.mem_of_getElem? (i := 0) rfl)) fl_TT_96 d_TT_step_87 (.int (nI lf)) rfl ?_
          refine v_aload_n C d_TT_step_90 rfl ?_
          refine v_getf C i_Cur (ci := 1) rfl 6 (by decide) (xm_C hc (List.mem_of_getElem? (i := 0) rfl)) fl_TT_101 d_TT_step_91 (.int (nI pl)) rfl ?_
          refine v_iload C d_TT_step_94 rfl ?_
          refine v_tI C ht (x := ((T (X 2)).1, scf ((T (X 2)).2 0) ((T (X 2)).2 1) ((T (X 2)).2 2) ((T (X 2)).2 3) ((T (X 2)).2 4) ((T (X 2)).2 5))) (As := [.int (nI lf), .int (nI pl), .int (nI i)]) (st := []) (c_Tree_part l D kA (ad 1 (X 2)) (ad (3 + (X 2))) ((T (X 2)).1) ((T (X 2)).2 0) ((T (X 2)).2 1) ((T (X 2)).2 2) ((T (X 2)).2 3) ((T (X 2)).2 4) ((T (X 2)).2 5) lf pl i hn (by omega) (by omega)) cv_Tree_part ml_TT_110 d_TT_step_96 ⟨by omega, by decide⟩ rfl ⟨rfl, rfl⟩ rfl ?_
          rintro _ _ ⟨rfl, rfl⟩
          refine ⟨((T (X 2)).1, scf ((T (X 2)).2 0) ((T (X 2)).2 1) ((T (X 2)).2 2) ((T (X 2)).2 3) ((T (X 2)).2 4) ((T (X 2)).2 5)), rfl, ?_⟩
          refine v_aload_n C d_TT_step_99 rfl ?_
          refine v_getf C i_Cur (ci := 1) rfl 4 (by decide) (xm_C hc (List.mem_of_getElem? (i := 0) rfl)) fl_TT_85 d_TT_step_100 (.ref (ad (6 + c) 0)) rfl ?_
          refine v_iload C d_TT_step_103 rfl ?_
          refine v_iald C (xm_C hc (List.mem_of_getElem? (i := 1) rfl)) (by omega) (by decide) d_TT_step_105 (dc (X 4) i) (rfl) ?_
          refine v_icmp_neR C d_TT_step_106 113 (by decide) (fun ce => ?_) (fun ce => ?_)
          · refine v_iconst C d_TT_step_113 (nI 0) (by decide) ?_
            refine v_istore_n C d_TT_step_114 ⟨Nat.le_of_ble_eq_true rfl, Nat.le_of_ble_eq_true rfl⟩ [.ref (ad 0 0), .ref (ad 2 c), .ref (ad 1 (X 2)), .int (nI 0), .int (nI i)] rfl ?_
            refine v_iinc C d_TT_step_115 rfl ⟨Nat.le_of_ble_eq_true rfl, Nat.le_of_ble_eq_true rfl⟩ (nI (i + 1)) (inc1 _) [.ref (ad 0 0), .ref (ad 2 c), .ref (ad 1 (X 2)), .int (nI 0), .int (nI (i + 1))] rfl ?_
            refine v_goto C d_TT_step_118 72 (by decide) ?_
            exact z72 lf pl (i + 1) (by omega) hq (fun z => ce (by have := z.2 i ci; rw [hlg] at this; exact this))
          · refine v_iconst C d_TT_step_109 (nI 1) (by decide) ?_
            refine v_goto C d_TT_step_110 114 (by decide) ?_
            refine v_istore_n C d_TT_step_114 ⟨Nat.le_of_ble_eq_true rfl, Nat.le_of_ble_eq_true rfl⟩ [.ref (ad 0 0), .ref (ad 2 c), .ref (ad 1 (X 2)), .int (nI 1), .int (nI i)] rfl ?_
            refine v_iinc C d_TT_step_115 rfl ⟨Nat.le_of_ble_eq_true rfl, Nat.le_of_ble_eq_true rfl⟩ (nI (i + 1)) (inc1 _) [.ref (ad 0 0), .ref (ad 2 c), .ref (ad 1 (X 2)), .int (nI 1), .int (nI (i + 1))] rfl ?_
            refine v_goto C d_TT_step_118 72 (by decide) ?_
            exact ih (i + 1) (by omega) (by omega) (lt_s hm ce)
    exact lp (X 3 + 1) 0 (by omega) (by omega) (fun i hi => absurd hi (Nat.not_lt_zero i))
  have wl : ∀ (t9 lf pl : Nat) (A B : List Nat), B.length < t9 → lvO (T (X 2)).1 (dd (X 2)) ((T (X 2)).2 1) = A ++ lf :: B → pl ≤ nc ((T (X 2)).1 lf) → j = (A.flatMap (ksO (T (X 2)).1)).length + pl → V pg l en (rmk 2) s0 m0 args below meth cod D (qA (xw kA ad sz ch mc T (va_up Cu c X) mt fa)) 5 0 0 (MQ below (QC D (xw kA ad sz ch mc T (va_up Cu c X) mt fa) (pI fun x w => (j < (LL (X 2)).length ∧ pm (X 3) (X 4) (lg (LL (X 2)) j) ∧ x = 1 ∧ ∃ (lf pl : Nat) (A B : List Nat), w = (xw kA ad sz ch mc T (va_up Cu c (cu (X 0) (X 1) (X 2) (X 3) (X 4) lf (pl + 1) 1 (lg (LL (X 2)) j))) mt fa) ∧ lvO (T (X 2)).1 (dd (X 2)) ((T (X 2)).2 1) = A ++ lf :: B ∧ pl < nc ((T (X 2)).1 lf) ∧ j = (A.flatMap (ksO (T (X 2)).1)).length + pl) ∨ (¬ (j < (LL (X 2)).length ∧ pm (X 3) (X 4) (lg (LL (X 2)) j)) ∧ x = 0 ∧ ∃ lf pl, w = (xw kA ad sz ch mc T (va_up Cu c (cu (X 0) (X 1) (X 2) (X 3) (X 4) lf pl 0 (X 8))) mt fa) ∧ ps (T (X 2)) (dd (X 2)) (LL (X 2)) lf pl j))) args s0 0 0 (qA (xw kA ad sz ch mc T (va_up Cu c X) mt fa))) 10 [.ref (ad 0 0), .ref (ad 2 c), .ref (ad 1 (X 2))] [] (xw kA ad sz ch mc (va_up T (X 2) ((T (X 2)).1, scf ((T (X 2)).2 0) ((T (X 2)).2 1) ((T (X 2)).2 2) ((T (X 2)).2 3) ((T (X 2)).2 4) ((T (X 2)).2 5))) (va_up Cu c (cu (X 0) (X 1) (X 2) (X 3) (X 4) lf pl (X 7) (X 8))) mt fa) := by
    intro t9
    induction t9 with
    | zero => intro lf pl A B hB; omega
    | succ t9 ih =>
      intro lf pl A B hB hl hpl hj
      obtain ⟨hn, hnc, hnk, -⟩ := hTI.leaf (m := lf) (by rw [hl]; exact List.mem_append_right _ List.mem_cons_self)
      refine v_aload_n C d_TT_step_10 rfl ?_
      refine v_getf C i_Cur (ci := 1) rfl 5 (by decide) (xm_C hc (List.mem_of_getElem? (i := 0) rfl)) fl_TT_96 d_TT_step_11 (.int (nI lf)) rfl ?_
      refine v_iconst C d_TT_step_14 (-1) (by decide) ?_
      refine v_icmp_eqR C d_TT_step_15 55 (by decide) (fun c0 => False.elim (by exact nI_nm1 (by omega) c0)) (fun c0 => ?_)
      refine v_aload_n C d_TT_step_18 rfl ?_
      refine v_getf C i_Cur (ci := 1) rfl 6 (by decide) (xm_C hc (List.mem_of_getElem? (i := 0) rfl)) fl_TT_101 d_TT_step_19 (.int (nI pl)) rfl ?_
      refine v_aload_n C d_TT_step_22 rfl ?_
      refine v_getf C i_Tree (ci := 0) rfl 2 (by decide) (xm_T ht (List.mem_of_getElem? (i := 0) rfl)) fl_TT_104 d_TT_step_23 (.ref (ad (3 + (X 2)) 2)) rfl ?_
      refine v_aload_n C d_TT_step_26 rfl ?_
      refine v_getf C i_Cur (ci := 1) rfl 5 (by decide) (xm_C hc (List.mem_of_getElem? (i := 0) rfl)) fl_TT_96 d_TT_step_27 (.int (nI lf)) rfl ?_
      refine v_iald C (xm_T ht (List.mem_of_getElem? (i := 3) rfl)) (by omega) (by decide) d_TT_step_30 (nI (nc (((T (X 2)).1) lf))) (rfl) ?_
      refine v_icmp_ne C d_TT_step_31 55 (by decide) (by omega) (by omega) (fun cp => ?_) (fun cp => ?_)
      · exact yy lf pl A B hl (by omega) hj
      · refine v_aload_n C d_TT_step_34 rfl ?_
        refine v_aload_n C d_TT_step_35 rfl ?_
        refine v_getf C i_Tree (ci := 0) rfl 4 (by decide) (xm_T ht (List.mem_of_getElem? (i := 0) rfl)) fl_TT_107 d_TT_step_36 (.ref (ad (3 + (X 2)) 4)) rfl ?_
        refine v_aload_n C d_TT_step_39 rfl ?_
        refine v_getf C i_Cur (ci := 1) rfl 5 (by decide) (xm_C hc (List.mem_of_getElem? (i := 0) rfl)) fl_TT_96 d_TT_step_40 (.int (nI lf)) rfl ?_
        refine v_iald C (xm_T ht (List.mem_of_getElem? (i := 5) rfl)) (by omega) (by decide) d_TT_step_43 (nI (nx (((T (X 2)).1) lf))) (rfl) ?_
        have hnx := hTI.lnk A lf B hl
        have hstep : (A.flatMap (ksO (T (X 2)).1)).length + nc ((T (X 2)).1 lf) = ((A ++ [lf]).flatMap (ksO (T (X 2)).1)).length := by rw [List.flatMap_append, List.length_append, List.flatMap_cons, List.flatMap_nil, List.append_nil, ks_len]
        refine v_putf C i_Cur (ci := 1) (ws' := (xw kA ad sz ch mc (va_up T (X 2) ((T (X 2)).1, scf ((T (X 2)).2 0) ((T (X 2)).2 1) ((T (X 2)).2 2) ((T (X 2)).2 3) ((T (X 2)).2 4) ((T (X 2)).2 5))) (va_up Cu c (cu (X 0) (X 1) (X 2) (X 3) (X 4) (nx ((T (X 2)).1 lf)) pl (X 7) (X 8))) mt fa)) t_Cur_ok n_Cur rfl 5 (by decide) (xs_C hc ⟨0, rfl, rfl⟩) fl_TT_96 d_TT_step_44 rfl (rfl) (rfl) (Nat.le_of_ble_eq_true rfl) rfl ?_
        refine v_aload_n C d_TT_step_47 rfl ?_
        refine v_iconst C d_TT_step_48 (nI 0) (by decide) ?_
        refine v_putf C i_Cur (ci := 1) (ws' := (xw kA ad sz ch mc (va_up T (X 2) ((T (X 2)).1, scf ((T (X 2)).2 0) ((T (X 2)).2 1) ((T (X 2)).2 2) ((T (X 2)).2 3) ((T (X 2)).2 4) ((T (X 2)).2 5))) (va_up Cu c (cu (X 0) (X 1) (X 2) (X 3) (X 4) (nx ((T (X 2)).1 lf)) 0 (X 7) (X 8))) mt fa)) t_Cur_ok n_Cur rfl 6 (by decide) (xs_C hc ⟨0, rfl, rfl⟩) fl_TT_101 d_TT_step_49 rfl (rfl) (rfl) (Nat.le_of_ble_eq_true rfl) rfl ?_
        refine v_goto C d_TT_step_52 10 (by decide) ?_
        cases B with
        | nil =>
          rw [show nx ((T (X 2)).1 lf) = NONE from hnx]
          exact nn 0 (by rw [hj, cp]; exact ps_end hTI hl)
        | cons b B' =>
          rw [show nx ((T (X 2)).1 lf) = b from hnx]
          exact ih b 0 (A ++ [lf]) B' (by simp at hB; omega) (by rw [hl]; simp) (Nat.zero_le _) (by rw [hj, cp, hstep]; rfl)
  rcases hp with ⟨h1, h2⟩ | ⟨A, B, hl, hpl, hj⟩
  · rw [h1]
    exact nn _ h2
  · exact wl (B.length + 1) _ _ A B (by omega) hl hpl hj
