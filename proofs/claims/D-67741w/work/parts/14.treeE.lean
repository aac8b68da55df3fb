set_option maxHeartbeats 4000000 in
set_option maxRecDepth 20000 in
theorem c_Tree_toLeft_l (l : Launch) (D : va_G) (kA : Nat → ClassId) (h : Nat) (a : Nat → Nat) (N : Nat → Nd) (fr rt ky up fl fp : Nat) (n q u v : Nat) (hn : n < 500) (hu : u < 500) (hv : v < 500) (hnu : n ≠ u) (hnv : n ≠ v) (huv : u ≠ v) (hcv : 2 ≤ nc (N v) ∧ nc (N v) ≤ 9) (hcu : nc (N u) ≤ 8) (hq : q < 9) (hl : nl (N u) = 1) (hs : 1 ≤ ns (N v)) : Ct l D kA 3 y_Tree_toLeft b_Tree_toLeft 6 none [.ref h, .int (nI n), .int (nI q), .int (nI u), .int (nI v)] (tw kA h a N fr rt ky up fl fp) (pV fun w => ∃ N', w = tw kA h a N' fr rt ky up fl fp ∧ N' n = nd (va_up (nK (N n)) q (nK (N v) 1)) (nC (N n)) (nc (N n)) (nl (N n)) (nx (N n)) (ns (N n)) ∧ N' u = nd (va_up (nK (N u)) (nc (N u)) (nK (N v) 0)) (nC (N u)) (nc (N u) + 1) (nl (N u)) (nx (N u)) (ns (N u) + 1) ∧ N' v = nd (shK (nK (N v)) 0 (nc (N v) - 1)) (shC (nC (N v)) 0 (nc (N v))) (nc (N v) - 1) (nl (N v)) (nx (N v)) (ns (N v) - 1) ∧ ∀ z, z ≠ n → z ≠ u → z ≠ v → N' z = N z) := by
  refine ct_of (by decide) (Nat.le_of_ble_eq_true rfl) rfl ?_
  intro p e s m args below meth c C
  refine v_iconst C d_Tree_toLeft_0 (nI 1) (by decide) ?_
  refine v_istore C d_Tree_toLeft_1 ⟨Nat.le_of_ble_eq_true rfl, Nat.le_of_ble_eq_true rfl⟩ [.ref h, .int (nI n), .int (nI q), .int (nI u), .int (nI v), .int (nI 1)] rfl ?_
  refine v_aload_n C d_Tree_toLeft_3 rfl ?_
  refine v_getf C i_Tree (ci := 0) rfl 3 (by decide) (List.mem_of_getElem? (i := 0) rfl) fl_Tree_21 d_Tree_toLeft_4 (.ref (a 3)) rfl ?_
  refine v_iload_n C d_Tree_toLeft_7 rfl ?_
  refine v_zald C (List.mem_of_getElem? (i := 4) rfl) (by omega) (by decide) d_Tree_toLeft_8 (nI (nl (N u))) (rfl) ?_
  refine v_if_eq C d_Tree_toLeft_9 55 (by decide) (by omega) (fun cl => False.elim (by omega)) (fun cl => ?_)
  refine v_aload_n C d_Tree_toLeft_12 rfl ?_
  refine v_iload C d_Tree_toLeft_13 rfl ?_
  refine v_iconst C d_Tree_toLeft_15 (nI 0) (by decide) ?_
  refine v_iload_n C d_Tree_toLeft_16 rfl ?_
  refine v_aload_n C d_Tree_toLeft_17 rfl ?_
  refine v_getf C i_Tree (ci := 0) rfl 2 (by decide) (List.mem_of_getElem? (i := 0) rfl) fl_Tree_18 d_Tree_toLeft_18 (.ref (a 2)) rfl ?_
  refine v_iload_n C d_Tree_toLeft_21 rfl ?_
  refine v_iald C (List.mem_of_getElem? (i := 3) rfl) (by omega) (by decide) d_Tree_toLeft_22 (nI (nc (N u))) (rfl) ?_
  refine v_cV C (As := [.int (nI v), .int (nI 0), .int (nI u), .int (nI (nc (N u)))]) (st := []) (c_Tree_copy l D kA h a N fr rt ky up fl fp v 0 u (nc (N u)) hv (by omega) hu (by omega)) cv_Tree_copy ml_Tree_81 d_Tree_toLeft_23 ⟨by omega, by decide⟩ tw_rcv ⟨rfl, rfl⟩ rfl ?_
  rintro _ rfl
  rw [show sK N u (nc (N u)) (nK (N v) 0) = un N u (va_up (nK (N u)) (nc (N u)) (nK (N v) 0)) (nC (N u)) (nc (N u)) (nl (N u)) (nx (N u)) (ns (N u)) from rfl]
  refine v_aload_n C d_Tree_toLeft_26 rfl ?_
  refine v_getf C i_Tree (ci := 0) rfl 2 (by decide) (List.mem_of_getElem? (i := 0) rfl) fl_Tree_18 d_Tree_toLeft_27 (.ref (a 2)) rfl ?_
  refine v_iload_n C d_Tree_toLeft_30 rfl ?_
  refine v_dup2 C d_Tree_toLeft_31 rfl rfl ?_
  refine v_iald C (List.mem_of_getElem? (i := 3) rfl) (by omega) (by decide) d_Tree_toLeft_32 (nI (nc (N u))) (congrArg (fun z => nI (nc z)) un_at) ?_
  refine v_iconst C d_Tree_toLeft_33 (nI 1) (by decide) ?_
  refine v_iadd C d_Tree_toLeft_34 ?_
  refine v_iast C (ws' := (tw kA h a (sc (un N u (va_up (nK (N u)) (nc (N u)) (nK (N v) 0)) (nC (N u)) (nc (N u)) (nl (N u)) (nx (N u)) (ns (N u))) u (nc (N u) + 1)) fr rt ky up fl fp)) (tw_sc) (by omega) (by decide) d_Tree_toLeft_35 (fun j _ => cntF_sc j) ?_
  rw [sc_un]
  refine v_aload_n C d_Tree_toLeft_36 rfl ?_
  refine v_iload C d_Tree_toLeft_37 rfl ?_
  refine v_iconst C d_Tree_toLeft_39 (nI 0) (by decide) ?_
  obtain ⟨N1, hN1⟩ : ∃ z, z = un N u (va_up (nK (N u)) (nc (N u)) (nK (N v) 0)) (nC (N u)) (nc (N u) + 1) (nl (N u)) (nx (N u)) (ns (N u)) := ⟨_, rfl⟩
  rw [← hN1]
  have q1 : N1 v = N v := by rw [hN1]; simp only [sK, sC, sc, sl, sx, ss, un, uN_self, nK_nd, nC_nd, nc_nd, nl_nd, nx_nd, ns_nd, uN_ne hnu, uN_ne hnu.symm, uN_ne hnv, uN_ne hnv.symm, uN_ne huv, uN_ne huv.symm]
  refine v_cV C (As := [.int (nI v), .int (nI 0)]) (st := []) (c_Tree_shut l D kA h a N1 fr rt ky up fl fp v 0 hv (by rw [q1]; omega) (by rw [q1]; omega)) cv_Tree_shut ml_Tree_112 d_Tree_toLeft_40 ⟨by omega, by decide⟩ tw_rcv ⟨rfl, rfl⟩ rfl ?_
  rintro _ rfl
  refine v_aload_n C d_Tree_toLeft_43 rfl ?_
  refine v_iload C d_Tree_toLeft_44 rfl ?_
  refine v_iconst C d_Tree_toLeft_46 (nI 0) (by decide) ?_
  refine v_iload_n C d_Tree_toLeft_47 rfl ?_
  refine v_iload_n C d_Tree_toLeft_48 rfl ?_
  refine v_cV C (As := [.int (nI v), .int (nI 0), .int (nI n), .int (nI q)]) (st := []) (c_Tree_copy l D kA h a (shN N1 v 0) fr rt ky up fl fp v 0 n q hv (by omega) hn (by omega)) cv_Tree_copy ml_Tree_81 d_Tree_toLeft_49 ⟨by omega, by decide⟩ tw_rcv ⟨rfl, rfl⟩ rfl ?_
  rintro _ rfl
  rw [show nK (shN N1 v 0 v) 0 = nK (N v) 1 by simp only [shN, un_at, nK_nd, shK, q1]; rw [if_pos ⟨Nat.le_refl _, by omega⟩]]
  refine v_goto C d_Tree_toLeft_52 148 (by decide) ?_
  obtain ⟨N2, hN2⟩ : ∃ z, z = sK (shN N1 v 0) n q (nK (N v) 1) := ⟨_, rfl⟩
  rw [← hN2]
  have a1 : N2 n = nd (va_up (nK (N n)) q (nK (N v) 1)) (nC (N n)) (nc (N n)) (nl (N n)) (nx (N n)) (ns (N n)) := by rw [hN2]; simp only [shN, hN1, sK, sC, sc, sl, sx, ss, un, uN_self, nK_nd, nC_nd, nc_nd, nl_nd, nx_nd, ns_nd, uN_ne hnu, uN_ne hnu.symm, uN_ne hnv, uN_ne hnv.symm, uN_ne huv, uN_ne huv.symm]
  have a2 : N2 u = nd (va_up (nK (N u)) (nc (N u)) (nK (N v) 0)) (nC (N u)) (nc (N u) + 1) (nl (N u)) (nx (N u)) (ns (N u)) := by rw [hN2]; simp only [shN, hN1, sK, sC, sc, sl, sx, ss, un, uN_self, nK_nd, nC_nd, nc_nd, nl_nd, nx_nd, ns_nd, uN_ne hnu, uN_ne hnu.symm, uN_ne hnv, uN_ne hnv.symm, uN_ne huv, uN_ne huv.symm]
  have a3 : N2 v = nd (shK (nK (N v)) 0 (nc (N v) - 1)) (shC (nC (N v)) 0 (nc (N v))) (nc (N v) - 1) (nl (N v)) (nx (N v)) (ns (N v)) := by rw [hN2]; simp only [sK, uN_ne hnv.symm, shN, un_at, q1]
  have a4 : ∀ z, z ≠ n → z ≠ u → z ≠ v → N2 z = N z := fun z h1 h2 h3 => by rw [hN2]; simp only [shN, hN1, sK, sC, sc, sl, sx, ss, un, uN_self, nK_nd, nC_nd, nc_nd, nl_nd, nx_nd, ns_nd, uN_ne h1, uN_ne h2, uN_ne h3]
  refine v_aload_n C d_Tree_toLeft_148 rfl ?_
  refine v_getf C i_Tree (ci := 0) rfl 5 (by decide) (List.mem_of_getElem? (i := 0) rfl) fl_Tree_28 d_Tree_toLeft_149 (.ref (a 5)) rfl ?_
  refine v_iload_n C d_Tree_toLeft_152 rfl ?_
  refine v_dup2 C d_Tree_toLeft_153 rfl rfl ?_
  refine v_iald C (List.mem_of_getElem? (i := 6) rfl) (by omega) (by decide) d_Tree_toLeft_154 (nI (ns (N u))) (by simp only [sizF, a2, ns_nd]) ?_
  refine v_iload C d_Tree_toLeft_155 rfl ?_
  refine v_iadd C d_Tree_toLeft_157 ?_
  refine v_iast C (ws' := (tw kA h a (ss N2 u (ns (N u) + 1)) fr rt ky up fl fp)) (tw_ss) (by omega) (by decide) d_Tree_toLeft_158 (fun j _ => sizF_ss j) ?_
  refine v_aload_n C d_Tree_toLeft_159 rfl ?_
  refine v_getf C i_Tree (ci := 0) rfl 5 (by decide) (List.mem_of_getElem? (i := 0) rfl) fl_Tree_28 d_Tree_toLeft_160 (.ref (a 5)) rfl ?_
  refine v_iload C d_Tree_toLeft_163 rfl ?_
  refine v_dup2 C d_Tree_toLeft_165 rfl rfl ?_
  refine v_iald C (List.mem_of_getElem? (i := 6) rfl) (by omega) (by decide) d_Tree_toLeft_166 (nI (ns (N v))) (by simp only [sizF, ss, uN_ne huv.symm, a3, ns_nd]) ?_
  refine v_iload C d_Tree_toLeft_167 rfl ?_
  refine v_isub C d_Tree_toLeft_169 (by omega) ?_
  refine v_iast C (ws' := (tw kA h a (ss (ss N2 u (ns (N u) + 1)) v (ns (N v) - 1)) fr rt ky up fl fp)) (tw_ss) (by omega) (by decide) d_Tree_toLeft_170 (fun j _ => sizF_ss j) ?_
  exact v_vret C rfl d_Tree_toLeft_171 (⟨rfl, _, rfl, by simp only [ss, uN_ne hnv, uN_ne hnu, a1], by simp only [ss, uN_ne huv, uN_self, a2, nK_nd, nC_nd, nc_nd, nl_nd, nx_nd], by simp only [ss, uN_ne huv.symm, uN_self, a3, nK_nd, nC_nd, nc_nd, nl_nd, nx_nd], fun z h1 h2 h3 => by simp only [ss, uN_ne h3, uN_ne h2, a4 z h1 h2 h3]⟩)

set_option maxHeartbeats 4000000 in
set_option maxRecDepth 20000 in
theorem c_Tree_toLeft_n (l : Launch) (D : va_G) (kA : Nat → ClassId) (h : Nat) (a : Nat → Nat) (N : Nat → Nd) (fr rt ky up fl fp : Nat) (n q u v : Nat) (hn : n < 500) (hu : u < 500) (hv : v < 500) (hnu : n ≠ u) (hnv : n ≠ v) (huv : u ≠ v) (hcv : 2 ≤ nc (N v) ∧ nc (N v) ≤ 9) (hcu : nc (N u) ≤ 8) (hq : q < 9) (hl : nl (N u) = 0) (hw : nC (N v) 0 < 500 ∧ nC (N v) 0 ≠ n ∧ nC (N v) 0 ≠ u ∧ nC (N v) 0 ≠ v) (hs : ns (N (nC (N v) 0)) ≤ ns (N v)) : Ct l D kA 3 y_Tree_toLeft b_Tree_toLeft 6 none [.ref h, .int (nI n), .int (nI q), .int (nI u), .int (nI v)] (tw kA h a N fr rt ky up fl fp) (pV fun w => ∃ N', w = tw kA h a N' fr rt ky up fl fp ∧ N' n = nd (va_up (nK (N n)) q (nK (N v) 0)) (nC (N n)) (nc (N n)) (nl (N n)) (nx (N n)) (ns (N n)) ∧ N' u = nd (va_up (nK (N u)) (nc (N u)) (nK (N n) q)) (va_up (nC (N u)) (nc (N u) + 1) (nC (N v) 0)) (nc (N u) + 1) (nl (N u)) (nx (N u)) (ns (N u) + (ns (N (nC (N v) 0)))) ∧ N' v = nd (shK (nK (N v)) 0 (nc (N v) - 1)) (fun i => if i < nc (N v) then nC (N v) (i + 1) else nC (N v) i) (nc (N v) - 1) (nl (N v)) (nx (N v)) (ns (N v) - (ns (N (nC (N v) 0)))) ∧ ∀ z, z ≠ n → z ≠ u → z ≠ v → N' z = N z) := by
  refine ct_of (by decide) (Nat.le_of_ble_eq_true rfl) rfl ?_
  intro p e s m args below meth c C
  refine v_iconst C d_Tree_toLeft_0 (nI 1) (by decide) ?_
  refine v_istore C d_Tree_toLeft_1 ⟨Nat.le_of_ble_eq_true rfl, Nat.le_of_ble_eq_true rfl⟩ [.ref h, .int (nI n), .int (nI q), .int (nI u), .int (nI v), .int (nI 1)] rfl ?_
  refine v_aload_n C d_Tree_toLeft_3 rfl ?_
  refine v_getf C i_Tree (ci := 0) rfl 3 (by decide) (List.mem_of_getElem? (i := 0) rfl) fl_Tree_21 d_Tree_toLeft_4 (.ref (a 3)) rfl ?_
  refine v_iload_n C d_Tree_toLeft_7 rfl ?_
  refine v_zald C (List.mem_of_getElem? (i := 4) rfl) (by omega) (by decide) d_Tree_toLeft_8 (nI (nl (N u))) (rfl) ?_
  refine v_if_eq C d_Tree_toLeft_9 55 (by decide) (by omega) (fun cl => ?_) (fun cl => False.elim (by omega))
  refine v_aload_n C d_Tree_toLeft_55 rfl ?_
  refine v_iload_n C d_Tree_toLeft_56 rfl ?_
  refine v_iload_n C d_Tree_toLeft_57 rfl ?_
  refine v_iload_n C d_Tree_toLeft_58 rfl ?_
  refine v_aload_n C d_Tree_toLeft_59 rfl ?_
  refine v_getf C i_Tree (ci := 0) rfl 2 (by decide) (List.mem_of_getElem? (i := 0) rfl) fl_Tree_18 d_Tree_toLeft_60 (.ref (a 2)) rfl ?_
  refine v_iload_n C d_Tree_toLeft_63 rfl ?_
  refine v_iald C (List.mem_of_getElem? (i := 3) rfl) (by omega) (by decide) d_Tree_toLeft_64 (nI (nc (N u))) (rfl) ?_
  refine v_cV C (As := [.int (nI n), .int (nI q), .int (nI u), .int (nI (nc (N u)))]) (st := []) (c_Tree_copy l D kA h a N fr rt ky up fl fp n q u (nc (N u)) hn (by omega) hu (by omega)) cv_Tree_copy ml_Tree_81 d_Tree_toLeft_65 ⟨by omega, by decide⟩ tw_rcv ⟨rfl, rfl⟩ rfl ?_
  rintro _ rfl
  rw [show sK N u (nc (N u)) (nK (N n) q) = un N u (va_up (nK (N u)) (nc (N u)) (nK (N n) q)) (nC (N u)) (nc (N u)) (nl (N u)) (nx (N u)) (ns (N u)) from rfl]
  refine v_aload_n C d_Tree_toLeft_68 rfl ?_
  refine v_getf C i_Tree (ci := 0) rfl 2 (by decide) (List.mem_of_getElem? (i := 0) rfl) fl_Tree_18 d_Tree_toLeft_69 (.ref (a 2)) rfl ?_
  refine v_iload_n C d_Tree_toLeft_72 rfl ?_
  refine v_dup2 C d_Tree_toLeft_73 rfl rfl ?_
  refine v_iald C (List.mem_of_getElem? (i := 3) rfl) (by omega) (by decide) d_Tree_toLeft_74 (nI (nc (N u))) (congrArg (fun z => nI (nc z)) un_at) ?_
  refine v_iconst C d_Tree_toLeft_75 (nI 1) (by decide) ?_
  refine v_iadd C d_Tree_toLeft_76 ?_
  refine v_iast C (ws' := (tw kA h a (sc (un N u (va_up (nK (N u)) (nc (N u)) (nK (N n) q)) (nC (N u)) (nc (N u)) (nl (N u)) (nx (N u)) (ns (N u))) u (nc (N u) + 1)) fr rt ky up fl fp)) (tw_sc) (by omega) (by decide) d_Tree_toLeft_77 (fun j _ => cntF_sc j) ?_
  rw [sc_un]
  refine v_aload_n C d_Tree_toLeft_78 rfl ?_
  refine v_getf C i_Tree (ci := 0) rfl 1 (by decide) (List.mem_of_getElem? (i := 0) rfl) fl_Tree_15 d_Tree_toLeft_79 (.ref (a 1)) rfl ?_
  refine v_bipush C d_Tree_toLeft_82 (nI 11) (by decide) ?_
  refine v_iload_n C d_Tree_toLeft_84 rfl ?_
  refine v_imul C d_Tree_toLeft_85 ?_
  refine v_aload_n C d_Tree_toLeft_86 rfl ?_
  refine v_getf C i_Tree (ci := 0) rfl 2 (by decide) (List.mem_of_getElem? (i := 0) rfl) fl_Tree_18 d_Tree_toLeft_87 (.ref (a 2)) rfl ?_
  refine v_iload_n C d_Tree_toLeft_90 rfl ?_
  refine v_iald C (List.mem_of_getElem? (i := 3) rfl) (by omega) (by decide) d_Tree_toLeft_91 (nI (nc (N u) + 1)) (congrArg (fun z => nI (nc z)) un_at) ?_
  refine v_iadd C d_Tree_toLeft_92 ?_
  refine v_aload_n C d_Tree_toLeft_93 rfl ?_
  refine v_iload C d_Tree_toLeft_94 rfl ?_
  refine v_iconst C d_Tree_toLeft_96 (nI 0) (by decide) ?_
  refine v_cI C (As := [.int (nI v), .int (nI 0)]) (st := [.int (nI ((11 * u) + (nc (N u) + 1))), .ref (a 1)]) (c_Tree_kid l D kA h a (un N u (va_up (nK (N u)) (nc (N u)) (nK (N n) q)) (nC (N u)) (nc (N u) + 1) (nl (N u)) (nx (N u)) (ns (N u))) fr rt ky up fl fp v 0 hv (by omega)) cv_Tree_kid ml_Tree_65 d_Tree_toLeft_97 ⟨by omega, by decide⟩ tw_rcv ⟨rfl, rfl⟩ rfl ?_
  rintro _ _ ⟨rfl, rfl⟩
  rw [un_ne huv.symm]
  refine v_iast C (ws' := (tw kA h a (sC (un N u (va_up (nK (N u)) (nc (N u)) (nK (N n) q)) (nC (N u)) (nc (N u) + 1) (nl (N u)) (nx (N u)) (ns (N u))) u (nc (N u) + 1) (nC (N v) 0)) fr rt ky up fl fp)) (tw_sC) (by omega) (by decide) d_Tree_toLeft_100 (fun j _ => kidsF_sC (by omega) j) ?_
  rw [sC_un]
  refine v_aload_n C d_Tree_toLeft_101 rfl ?_
  refine v_getf C i_Tree (ci := 0) rfl 5 (by decide) (List.mem_of_getElem? (i := 0) rfl) fl_Tree_28 d_Tree_toLeft_102 (.ref (a 5)) rfl ?_
  refine v_aload_n C d_Tree_toLeft_105 rfl ?_
  refine v_iload C d_Tree_toLeft_106 rfl ?_
  refine v_iconst C d_Tree_toLeft_108 (nI 0) (by decide) ?_
  refine v_cI C (As := [.int (nI v), .int (nI 0)]) (st := [.ref (a 5)]) (c_Tree_kid l D kA h a (un N u (va_up (nK (N u)) (nc (N u)) (nK (N n) q)) (va_up (nC (N u)) (nc (N u) + 1) (nC (N v) 0)) (nc (N u) + 1) (nl (N u)) (nx (N u)) (ns (N u))) fr rt ky up fl fp v 0 hv (by omega)) cv_Tree_kid ml_Tree_65 d_Tree_toLeft_109 ⟨by omega, by decide⟩ tw_rcv ⟨rfl, rfl⟩ rfl ?_
  rintro _ _ ⟨rfl, rfl⟩
  rw [un_ne huv.symm]
  refine v_iald C (List.mem_of_getElem? (i := 6) rfl) (hw.1) (by decide) d_Tree_toLeft_112 (nI (ns (N (nC (N v) 0)))) (congrArg (fun z => nI (ns z)) (un_ne hw.2.2.1)) ?_
  refine v_istore C d_Tree_toLeft_113 ⟨Nat.le_of_ble_eq_true rfl, Nat.le_of_ble_eq_true rfl⟩ [.ref h, .int (nI n), .int (nI q), .int (nI u), .int (nI v), .int (nI (ns (N (nC (N v) 0))))] rfl ?_
  refine v_aload_n C d_Tree_toLeft_115 rfl ?_
  refine v_iload C d_Tree_toLeft_116 rfl ?_
  refine v_iconst C d_Tree_toLeft_118 (nI 0) (by decide) ?_
  refine v_iload_n C d_Tree_toLeft_119 rfl ?_
  refine v_iload_n C d_Tree_toLeft_120 rfl ?_
  refine v_cV C (As := [.int (nI v), .int (nI 0), .int (nI n), .int (nI q)]) (st := []) (c_Tree_copy l D kA h a (un N u (va_up (nK (N u)) (nc (N u)) (nK (N n) q)) (va_up (nC (N u)) (nc (N u) + 1) (nC (N v) 0)) (nc (N u) + 1) (nl (N u)) (nx (N u)) (ns (N u))) fr rt ky up fl fp v 0 n q hv (by omega) hn (by omega)) cv_Tree_copy ml_Tree_81 d_Tree_toLeft_121 ⟨by omega, by decide⟩ tw_rcv ⟨rfl, rfl⟩ rfl ?_
  rintro _ rfl
  rw [un_ne huv.symm]
  obtain ⟨N0, hN0⟩ : ∃ z, z = sK (un N u (va_up (nK (N u)) (nc (N u)) (nK (N n) q)) (va_up (nC (N u)) (nc (N u) + 1) (nC (N v) 0)) (nc (N u) + 1) (nl (N u)) (nx (N u)) (ns (N u))) n q (nK (N v) 0) := ⟨_, rfl⟩
  rw [← hN0]
  have p1 : N0 v = N v := by rw [hN0]; simp only [sK, sC, sc, sl, sx, ss, un, uN_self, nK_nd, nC_nd, nc_nd, nl_nd, nx_nd, ns_nd, uN_ne hnu, uN_ne hnu.symm, uN_ne hnv, uN_ne hnv.symm, uN_ne huv, uN_ne huv.symm]
  refine v_aload_n C d_Tree_toLeft_124 rfl ?_
  refine v_getf C i_Tree (ci := 0) rfl 1 (by decide) (List.mem_of_getElem? (i := 0) rfl) fl_Tree_15 d_Tree_toLeft_125 (.ref (a 1)) rfl ?_
  refine v_bipush C d_Tree_toLeft_128 (nI 11) (by decide) ?_
  refine v_iload C d_Tree_toLeft_130 rfl ?_
  refine v_imul C d_Tree_toLeft_132 ?_
  refine v_aload_n C d_Tree_toLeft_133 rfl ?_
  refine v_iload C d_Tree_toLeft_134 rfl ?_
  refine v_iconst C d_Tree_toLeft_136 (nI 1) (by decide) ?_
  refine v_cI C (As := [.int (nI v), .int (nI 1)]) (st := [.int (nI (11 * v)), .ref (a 1)]) (c_Tree_kid l D kA h a N0 fr rt ky up fl fp v 1 hv (by omega)) cv_Tree_kid ml_Tree_65 d_Tree_toLeft_137 ⟨by omega, by decide⟩ tw_rcv ⟨rfl, rfl⟩ rfl ?_
  rintro _ _ ⟨rfl, rfl⟩
  rw [p1]
  refine v_iast C (ws' := (tw kA h a (sC N0 v 0 (nC (N v) 1)) fr rt ky up fl fp)) (tw_sC) (by omega) (by decide) d_Tree_toLeft_140 (fun j _ => kidsF_sC (by omega) j) ?_
  refine v_aload_n C d_Tree_toLeft_141 rfl ?_
  refine v_iload C d_Tree_toLeft_142 rfl ?_
  refine v_iconst C d_Tree_toLeft_144 (nI 0) (by decide) ?_
  obtain ⟨N1, hN1⟩ : ∃ z, z = (sC N0 v 0 (nC (N v) 1)) := ⟨_, rfl⟩
  rw [← hN1]
  have q1 : N1 v = nd (nK (N v)) (va_up (nC (N v)) 0 (nC (N v) 1)) (nc (N v)) (nl (N v)) (nx (N v)) (ns (N v)) := by rw [hN1]; simp only [sC, uN_self, p1]
  refine v_cV C (As := [.int (nI v), .int (nI 0)]) (st := []) (c_Tree_shut l D kA h a N1 fr rt ky up fl fp v 0 hv (by rw [q1]; simp only [nc_nd]; omega) (by rw [q1]; simp only [nc_nd]; omega)) cv_Tree_shut ml_Tree_112 d_Tree_toLeft_145 ⟨by omega, by decide⟩ tw_rcv ⟨rfl, rfl⟩ rfl ?_
  rintro _ rfl
  obtain ⟨N2, hN2⟩ : ∃ z, z = (shN N1 v 0) := ⟨_, rfl⟩
  rw [← hN2]
  have a1 : N2 n = nd (va_up (nK (N n)) q (nK (N v) 0)) (nC (N n)) (nc (N n)) (nl (N n)) (nx (N n)) (ns (N n)) := by rw [hN2]; simp only [shN, hN1, hN0, sK, sC, sc, sl, sx, ss, un, uN_self, nK_nd, nC_nd, nc_nd, nl_nd, nx_nd, ns_nd, uN_ne hnu, uN_ne hnu.symm, uN_ne hnv, uN_ne hnv.symm, uN_ne huv, uN_ne huv.symm]
  have a2 : N2 u = nd (va_up (nK (N u)) (nc (N u)) (nK (N n) q)) (va_up (nC (N u)) (nc (N u) + 1) (nC (N v) 0)) (nc (N u) + 1) (nl (N u)) (nx (N u)) (ns (N u)) := by rw [hN2]; simp only [shN, hN1, hN0, sK, sC, sc, sl, sx, ss, un, uN_self, nK_nd, nC_nd, nc_nd, nl_nd, nx_nd, ns_nd, uN_ne hnu, uN_ne hnu.symm, uN_ne hnv, uN_ne hnv.symm, uN_ne huv, uN_ne huv.symm]
  have eh : shC (va_up (nC (N v)) 0 (nC (N v) 1)) 0 (nc (N v)) = fun i => if i < nc (N v) then nC (N v) (i + 1) else nC (N v) i := by
    funext i; simp only [shC, va_up]; repeat' split
    all_goals first | rfl | (exfalso; omega) | (congr 1 <;> omega)
  have a3 : N2 v = nd (shK (nK (N v)) 0 (nc (N v) - 1)) (fun i => if i < nc (N v) then nC (N v) (i + 1) else nC (N v) i) (nc (N v) - 1) (nl (N v)) (nx (N v)) (ns (N v)) := by rw [hN2]; simp only [shN, un_at, q1, nK_nd, nC_nd, nc_nd, nl_nd, nx_nd, ns_nd]; rw [eh]
  have a4 : ∀ z, z ≠ n → z ≠ u → z ≠ v → N2 z = N z := fun z h1 h2 h3 => by rw [hN2]; simp only [shN, hN1, hN0, sK, sC, sc, sl, sx, ss, un, uN_self, nK_nd, nC_nd, nc_nd, nl_nd, nx_nd, ns_nd, uN_ne h1, uN_ne h2, uN_ne h3]
  refine v_aload_n C d_Tree_toLeft_148 rfl ?_
  refine v_getf C i_Tree (ci := 0) rfl 5 (by decide) (List.mem_of_getElem? (i := 0) rfl) fl_Tree_28 d_Tree_toLeft_149 (.ref (a 5)) rfl ?_
  refine v_iload_n C d_Tree_toLeft_152 rfl ?_
  refine v_dup2 C d_Tree_toLeft_153 rfl rfl ?_
  refine v_iald C (List.mem_of_getElem? (i := 6) rfl) (by omega) (by decide) d_Tree_toLeft_154 (nI (ns (N u))) (by simp only [sizF, a2, ns_nd]) ?_
  refine v_iload C d_Tree_toLeft_155 rfl ?_
  refine v_iadd C d_Tree_toLeft_157 ?_
  refine v_iast C (ws' := (tw kA h a (ss N2 u (ns (N u) + (ns (N (nC (N v) 0))))) fr rt ky up fl fp)) (tw_ss) (by omega) (by decide) d_Tree_toLeft_158 (fun j _ => sizF_ss j) ?_
  refine v_aload_n C d_Tree_toLeft_159 rfl ?_
  refine v_getf C i_Tree (ci := 0) rfl 5 (by decide) (List.mem_of_getElem? (i := 0) rfl) fl_Tree_28 d_Tree_toLeft_160 (.ref (a 5)) rfl ?_
  refine v_iload C d_Tree_toLeft_163 rfl ?_
  refine v_dup2 C d_Tree_toLeft_165 rfl rfl ?_
  refine v_iald C (List.mem_of_getElem? (i := 6) rfl) (by omega) (by decide) d_Tree_toLeft_166 (nI (ns (N v))) (by simp only [sizF, ss, uN_ne huv.symm, a3, ns_nd]) ?_
  refine v_iload C d_Tree_toLeft_167 rfl ?_
  refine v_isub C d_Tree_toLeft_169 (by omega) ?_
  refine v_iast C (ws' := (tw kA h a (ss (ss N2 u (ns (N u) + (ns (N (nC (N v) 0))))) v (ns (N v) - (ns (N (nC (N v) 0))))) fr rt ky up fl fp)) (tw_ss) (by omega) (by decide) d_Tree_toLeft_170 (fun j _ => sizF_ss j) ?_
  exact v_vret C rfl d_Tree_toLeft_171 (⟨rfl, _, rfl, by simp only [ss, uN_ne hnv, uN_ne hnu, a1], by simp only [ss, uN_ne huv, uN_self, a2, nK_nd, nC_nd, nc_nd, nl_nd, nx_nd], by simp only [ss, uN_ne huv.symm, uN_self, a3, nK_nd, nC_nd, nc_nd, nl_nd, nx_nd], fun z h1 h2 h3 => by simp only [ss, uN_ne h3, uN_ne h2, a4 z h1 h2 h3]⟩)
