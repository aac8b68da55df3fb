set_option maxHeartbeats 4000000 in
set_option maxRecDepth 20000 in
theorem c_Tree_join_l (l : Launch) (D : va_G) (kA : Nat → ClassId) (h : Nat) (a : Nat → Nat) (N : Nat → Nd) (fr rt ky up fl fp : Nat) (n q u v : Nat) (hn : n < 500) (hu : u < 500) (hv : v < 500) (hnu : n ≠ u) (hnv : n ≠ v) (huv : u ≠ v) (hl : nl (N u) = 1) (hc : nc (N u) + nc (N v) ≤ 8) (hq : q < nc (N n)) (hcn : nc (N n) ≤ 9) : Ct l D kA 3 y_Tree_join b_Tree_join 6 none [.ref h, .int (nI n), .int (nI q), .int (nI u), .int (nI v)] (tw kA h a N fr rt ky up fl fp) (pV fun w => ∃ N', w = tw kA h a N' v rt ky up fl fp ∧ N' n = nd (shK (nK (N n)) q (nc (N n) - 1)) (shC (nC (N n)) q (nc (N n))) (nc (N n) - 1) (nl (N n)) (nx (N n)) (ns (N n)) ∧ N' u = nd (fun i => if nc (N u) ≤ i ∧ i < nc (N u) + nc (N v) then nK (N v) (i - nc (N u)) else nK (N u) i) (nC (N u)) (nc (N u) + nc (N v)) (nl (N u)) (nx (N v)) (ns (N u) + ns (N v)) ∧ N' v = nd (nK (N v)) (nC (N v)) (nc (N v)) (nl (N v)) fr (ns (N v)) ∧ ∀ z, z ≠ n → z ≠ u → z ≠ v → N' z = N z) := by
  refine ct_of (by decide) (Nat.le_of_ble_eq_true rfl) rfl ?_
  intro p e s m args below meth c C
  refine v_aload_n C d_Tree_join_0 rfl ?_
  refine v_getf C i_Tree (ci := 0) rfl 3 (by decide) (List.mem_of_getElem? (i := 0) rfl) fl_Tree_21 d_Tree_join_1 (.ref (a 3)) rfl ?_
  refine v_iload_n C d_Tree_join_4 rfl ?_
  refine v_zald C (List.mem_of_getElem? (i := 4) rfl) (by omega) (by decide) d_Tree_join_5 (nI (nl (N u))) (rfl) ?_
  refine v_if_eq C d_Tree_join_6 80 (by decide) (by omega) (fun cl => False.elim (by omega)) (fun cl => ?_)
  refine v_iconst C d_Tree_join_9 (nI 0) (by decide) ?_
  refine v_istore C d_Tree_join_10 ⟨Nat.le_of_ble_eq_true rfl, Nat.le_of_ble_eq_true rfl⟩ [.ref h, .int (nI n), .int (nI q), .int (nI u), .int (nI v), .int (nI 0)] rfl ?_
  have lp : ∀ (t : Nat) (k : Nat) (f : Nat → Nat), nc (N v) - k < t → k ≤ nc (N v) → (∀ i, f i = if nc (N u) ≤ i ∧ i < nc (N u) + k then nK (N v) (i - nc (N u)) else nK (N u) i) → V p l e (rmk 3) s m args below meth c D (qA (tw kA h a N fr rt ky up fl fp)) 6 0 0 (MQ below (QC D (tw kA h a N fr rt ky up fl fp) (pV fun w => ∃ N', w = tw kA h a N' v rt ky up fl fp ∧ N' n = nd (shK (nK (N n)) q (nc (N n) - 1)) (shC (nC (N n)) q (nc (N n))) (nc (N n) - 1) (nl (N n)) (nx (N n)) (ns (N n)) ∧ N' u = nd (fun i => if nc (N u) ≤ i ∧ i < nc (N u) + nc (N v) then nK (N v) (i - nc (N u)) else nK (N u) i) (nC (N u)) (nc (N u) + nc (N v)) (nl (N u)) (nx (N v)) (ns (N u) + ns (N v)) ∧ N' v = nd (nK (N v)) (nC (N v)) (nc (N v)) (nl (N v)) fr (ns (N v)) ∧ ∀ z, z ≠ n → z ≠ u → z ≠ v → N' z = N z)) args s 0 0 (qA (tw kA h a N fr rt ky up fl fp))) 12 [.ref h, .int (nI n), .int (nI q), .int (nI u), .int (nI v), .int (nI k)] [] (tw kA h a (un N u f (nC (N u)) (nc (N u)) (nl (N u)) (nx (N u)) (ns (N u))) fr rt ky up fl fp) := by
    intro t
    induction t with
    | zero => intro k f hk; omega
    | succ t ih =>
      intro k f hk hk2 hf
      refine v_iload C d_Tree_join_12 rfl ?_
      refine v_aload_n C d_Tree_join_14 rfl ?_
      refine v_getf C i_Tree (ci := 0) rfl 2 (by decide) (List.mem_of_getElem? (i := 0) rfl) fl_Tree_18 d_Tree_join_15 (.ref (a 2)) rfl ?_
      refine v_iload C d_Tree_join_18 rfl ?_
      refine v_iald C (List.mem_of_getElem? (i := 3) rfl) (by omega) (by decide) d_Tree_join_20 (nI (nc (N v))) (congrArg (fun z => nI (nc z)) (un_ne huv.symm)) ?_
      refine v_icmp_ge C d_Tree_join_21 48 (by decide) (by omega) (by omega) (fun ck => ?_) (fun ck => ?_)
      · obtain rfl : k = nc (N v) := by omega
        refine v_aload_n C d_Tree_join_48 rfl ?_
        refine v_getf C i_Tree (ci := 0) rfl 2 (by decide) (List.mem_of_getElem? (i := 0) rfl) fl_Tree_18 d_Tree_join_49 (.ref (a 2)) rfl ?_
        refine v_iload_n C d_Tree_join_52 rfl ?_
        refine v_dup2 C d_Tree_join_53 rfl rfl ?_
        refine v_iald C (List.mem_of_getElem? (i := 3) rfl) (by omega) (by decide) d_Tree_join_54 (nI (nc (N u))) (congrArg (fun z => nI (nc z)) un_at) ?_
        refine v_aload_n C d_Tree_join_55 rfl ?_
        refine v_getf C i_Tree (ci := 0) rfl 2 (by decide) (List.mem_of_getElem? (i := 0) rfl) fl_Tree_18 d_Tree_join_56 (.ref (a 2)) rfl ?_
        refine v_iload C d_Tree_join_59 rfl ?_
        refine v_iald C (List.mem_of_getElem? (i := 3) rfl) (by omega) (by decide) d_Tree_join_61 (nI (nc (N v))) (congrArg (fun z => nI (nc z)) (un_ne huv.symm)) ?_
        refine v_iadd C d_Tree_join_62 ?_
        refine v_iast C (ws' := (tw kA h a (sc (un N u f (nC (N u)) (nc (N u)) (nl (N u)) (nx (N u)) (ns (N u))) u (nc (N u) + nc (N v))) fr rt ky up fl fp)) (tw_sc) (by omega) (by decide) d_Tree_join_63 (fun j _ => cntF_sc j) ?_
        rw [sc_un]
        refine v_aload_n C d_Tree_join_64 rfl ?_
        refine v_getf C i_Tree (ci := 0) rfl 4 (by decide) (List.mem_of_getElem? (i := 0) rfl) fl_Tree_25 d_Tree_join_65 (.ref (a 4)) rfl ?_
        refine v_iload_n C d_Tree_join_68 rfl ?_
        refine v_aload_n C d_Tree_join_69 rfl ?_
        refine v_getf C i_Tree (ci := 0) rfl 4 (by decide) (List.mem_of_getElem? (i := 0) rfl) fl_Tree_25 d_Tree_join_70 (.ref (a 4)) rfl ?_
        refine v_iload C d_Tree_join_73 rfl ?_
        refine v_iald C (List.mem_of_getElem? (i := 5) rfl) (by omega) (by decide) d_Tree_join_75 (nI (nx (N v))) (congrArg (fun z => nI (nx z)) (un_ne huv.symm)) ?_
        refine v_iast C (ws' := (tw kA h a (sx (un N u f (nC (N u)) (nc (N u) + nc (N v)) (nl (N u)) (nx (N u)) (ns (N u))) u (nx (N v))) fr rt ky up fl fp)) (tw_sx) (by omega) (by decide) d_Tree_join_76 (fun j _ => nxtF_sx j) ?_
        rw [sx_un]
        refine v_goto C d_Tree_join_77 202 (by decide) ?_
        refine v_aload_n C d_Tree_join_202 rfl ?_
        refine v_getf C i_Tree (ci := 0) rfl 5 (by decide) (List.mem_of_getElem? (i := 0) rfl) fl_Tree_28 d_Tree_join_203 (.ref (a 5)) rfl ?_
        refine v_iload_n C d_Tree_join_206 rfl ?_
        refine v_dup2 C d_Tree_join_207 rfl rfl ?_
        refine v_iald C (List.mem_of_getElem? (i := 6) rfl) (by omega) (by decide) d_Tree_join_208 (nI (ns (N u))) (congrArg (fun z => nI (ns z)) un_at) ?_
        refine v_aload_n C d_Tree_join_209 rfl ?_
        refine v_getf C i_Tree (ci := 0) rfl 5 (by decide) (List.mem_of_getElem? (i := 0) rfl) fl_Tree_28 d_Tree_join_210 (.ref (a 5)) rfl ?_
        refine v_iload C d_Tree_join_213 rfl ?_
        refine v_iald C (List.mem_of_getElem? (i := 6) rfl) (by omega) (by decide) d_Tree_join_215 (nI (ns (N v))) (congrArg (fun z => nI (ns z)) (un_ne huv.symm)) ?_
        refine v_iadd C d_Tree_join_216 ?_
        refine v_iast C (ws' := (tw kA h a (ss (un N u f (nC (N u)) (nc (N u) + nc (N v)) (nl (N u)) (nx (N v)) (ns (N u))) u (ns (N u) + ns (N v))) fr rt ky up fl fp)) (tw_ss) (by omega) (by decide) d_Tree_join_217 (fun j _ => sizF_ss j) ?_
        rw [ss_un]
        refine v_aload_n C d_Tree_join_218 rfl ?_
        refine v_iload C d_Tree_join_219 rfl ?_
        refine v_cV C (As := [.int (nI v)]) (st := []) (c_Tree_drop l D kA h a (un N u f (nC (N u)) (nc (N u) + nc (N v)) (nl (N u)) (nx (N v)) (ns (N u) + ns (N v))) fr rt ky up fl fp v hv) cv_Tree_drop ml_Tree_109 d_Tree_join_221 ⟨by omega, by decide⟩ tw_rcv ⟨rfl, rfl⟩ rfl ?_
        rintro _ rfl
        refine v_aload_n C d_Tree_join_224 rfl ?_
        refine v_iload_n C d_Tree_join_225 rfl ?_
        refine v_iload_n C d_Tree_join_226 rfl ?_
        obtain ⟨N1, hN1⟩ : ∃ z, z = (sx (un N u f (nC (N u)) (nc (N u) + nc (N v)) (nl (N u)) (nx (N v)) (ns (N u) + ns (N v))) v fr) := ⟨_, rfl⟩
        rw [← hN1]
        have q1 : N1 n = N n := by rw [hN1]; simp only [sK, sC, sc, sl, sx, ss, un, uN_self, nK_nd, nC_nd, nc_nd, nl_nd, nx_nd, ns_nd, uN_ne hnu, uN_ne hnu.symm, uN_ne hnv, uN_ne hnv.symm, uN_ne huv, uN_ne huv.symm]
        refine v_cV C (As := [.int (nI n), .int (nI q)]) (st := []) (c_Tree_shut l D kA h a N1 v rt ky up fl fp n q hn (by rw [q1]; omega) (by rw [q1]; exact hq)) cv_Tree_shut ml_Tree_112 d_Tree_join_227 ⟨by omega, by decide⟩ tw_rcv ⟨rfl, rfl⟩ rfl ?_
        rintro _ rfl
        exact v_vret C rfl d_Tree_join_230 (⟨rfl, _, rfl, by simp only [shN, un_at, q1], by simp only [shN, un, uN_ne hnu.symm, hN1, sx, uN_ne huv, uN_self]; rw [show f = fun i => if nc (N u) ≤ i ∧ i < nc (N u) + nc (N v) then nK (N v) (i - nc (N u)) else nK (N u) i from funext hf], by simp only [shN, un, uN_ne hnv.symm, hN1, sx, uN_self, uN_ne huv.symm], fun z h1 h2 h3 => by simp only [shN, un, uN_ne h1, hN1, sx, uN_ne h2, uN_ne h3]⟩)
      · refine v_aload_n C d_Tree_join_24 rfl ?_
        refine v_iload C d_Tree_join_25 rfl ?_
        refine v_iload C d_Tree_join_27 rfl ?_
        refine v_iload_n C d_Tree_join_29 rfl ?_
        refine v_aload_n C d_Tree_join_30 rfl ?_
        refine v_getf C i_Tree (ci := 0) rfl 2 (by decide) (List.mem_of_getElem? (i := 0) rfl) fl_Tree_18 d_Tree_join_31 (.ref (a 2)) rfl ?_
        refine v_iload_n C d_Tree_join_34 rfl ?_
        refine v_iald C (List.mem_of_getElem? (i := 3) rfl) (by omega) (by decide) d_Tree_join_35 (nI (nc (N u))) (congrArg (fun z => nI (nc z)) un_at) ?_
        refine v_iload C d_Tree_join_36 rfl ?_
        refine v_iadd C d_Tree_join_38 ?_
        refine v_cV C (As := [.int (nI v), .int (nI k), .int (nI u), .int (nI ((nc (N u)) + k))]) (st := []) (c_Tree_copy l D kA h a (un N u f (nC (N u)) (nc (N u)) (nl (N u)) (nx (N u)) (ns (N u))) fr rt ky up fl fp v k u (nc (N u) + k) hv (by omega) hu (by omega)) cv_Tree_copy ml_Tree_81 d_Tree_join_39 ⟨by omega, by decide⟩ tw_rcv ⟨rfl, rfl⟩ rfl ?_
        rintro _ rfl
        simp only [un_ne huv.symm, sK_un]
        refine v_iinc C d_Tree_join_42 rfl ⟨Nat.le_of_ble_eq_true rfl, Nat.le_of_ble_eq_true rfl⟩ (nI (k + 1)) (inc1 _) [.ref h, .int (nI n), .int (nI q), .int (nI u), .int (nI v), .int (nI (k + 1))] rfl ?_
        refine v_goto C d_Tree_join_45 12 (by decide) ?_
        refine ih (k + 1) _ (by omega) (by omega) ?_
        intro i; simp only [va_up, hf]; repeat' split
        all_goals first | rfl | (exfalso; omega) | (congr 1 <;> omega)
  have z := lp (nc (N v) + 1) 0 (nK (N u)) (by omega) (by omega) (fun i => by rw [if_neg (by omega)])
  rw [un_id] at z
  exact z

set_option maxHeartbeats 4000000 in
set_option maxRecDepth 20000 in
theorem c_Tree_join_n (l : Launch) (D : va_G) (kA : Nat → ClassId) (h : Nat) (a : Nat → Nat) (N : Nat → Nd) (fr rt ky up fl fp : Nat) (n q u v : Nat) (hn : n < 500) (hu : u < 500) (hv : v < 500) (hnu : n ≠ u) (hnv : n ≠ v) (huv : u ≠ v) (hl : nl (N u) = 0) (hc : nc (N u) + nc (N v) + 1 ≤ 8) (hq : q < nc (N n)) (hcn : nc (N n) ≤ 9) : Ct l D kA 3 y_Tree_join b_Tree_join 6 none [.ref h, .int (nI n), .int (nI q), .int (nI u), .int (nI v)] (tw kA h a N fr rt ky up fl fp) (pV fun w => ∃ N', w = tw kA h a N' v rt ky up fl fp ∧ N' n = nd (shK (nK (N n)) q (nc (N n) - 1)) (shC (nC (N n)) q (nc (N n))) (nc (N n) - 1) (nl (N n)) (nx (N n)) (ns (N n)) ∧ N' u = nd (fun i => if nc (N u) + 1 ≤ i ∧ i < nc (N u) + 1 + nc (N v) then nK (N v) (i - (nc (N u) + 1)) else if i = nc (N u) then nK (N n) q else nK (N u) i) (fun i => if nc (N u) + 1 ≤ i ∧ i < nc (N u) + 1 + (nc (N v) + 1) then nC (N v) (i - (nc (N u) + 1)) else nC (N u) i) (nc (N u) + (nc (N v) + 1)) (nl (N u)) (nx (N u)) (ns (N u) + ns (N v)) ∧ N' v = nd (nK (N v)) (nC (N v)) (nc (N v)) (nl (N v)) fr (ns (N v)) ∧ ∀ z, z ≠ n → z ≠ u → z ≠ v → N' z = N z) := by
  refine ct_of (by decide) (Nat.le_of_ble_eq_true rfl) rfl ?_
  intro p e s m args below meth c C
  refine v_aload_n C d_Tree_join_0 rfl ?_
  refine v_getf C i_Tree (ci := 0) rfl 3 (by decide) (List.mem_of_getElem? (i := 0) rfl) fl_Tree_21 d_Tree_join_1 (.ref (a 3)) rfl ?_
  refine v_iload_n C d_Tree_join_4 rfl ?_
  refine v_zald C (List.mem_of_getElem? (i := 4) rfl) (by omega) (by decide) d_Tree_join_5 (nI (nl (N u))) (rfl) ?_
  refine v_if_eq C d_Tree_join_6 80 (by decide) (by omega) (fun cl => ?_) (fun cl => False.elim (by omega))
  refine v_aload_n C d_Tree_join_80 rfl ?_
  refine v_iload_n C d_Tree_join_81 rfl ?_
  refine v_iload_n C d_Tree_join_82 rfl ?_
  refine v_iload_n C d_Tree_join_83 rfl ?_
  refine v_aload_n C d_Tree_join_84 rfl ?_
  refine v_getf C i_Tree (ci := 0) rfl 2 (by decide) (List.mem_of_getElem? (i := 0) rfl) fl_Tree_18 d_Tree_join_85 (.ref (a 2)) rfl ?_
  refine v_iload_n C d_Tree_join_88 rfl ?_
  refine v_iald C (List.mem_of_getElem? (i := 3) rfl) (by omega) (by decide) d_Tree_join_89 (nI (nc (N u))) (rfl) ?_
  refine v_cV C (As := [.int (nI n), .int (nI q), .int (nI u), .int (nI (nc (N u)))]) (st := []) (c_Tree_copy l D kA h a N fr rt ky up fl fp n q u (nc (N u)) hn (by omega) hu (by omega)) cv_Tree_copy ml_Tree_81 d_Tree_join_90 ⟨by omega, by decide⟩ tw_rcv ⟨rfl, rfl⟩ rfl ?_
  rintro _ rfl
  rw [show sK N u (nc (N u)) (nK (N n) q) = un N u (va_up (nK (N u)) (nc (N u)) (nK (N n) q)) (nC (N u)) (nc (N u)) (nl (N u)) (nx (N u)) (ns (N u)) from rfl]
  refine v_iconst C d_Tree_join_93 (nI 0) (by decide) ?_
  refine v_istore C d_Tree_join_94 ⟨Nat.le_of_ble_eq_true rfl, Nat.le_of_ble_eq_true rfl⟩ [.ref h, .int (nI n), .int (nI q), .int (nI u), .int (nI v), .int (nI 0)] rfl ?_
  have lp2 : ∀ (t : Nat) (k : Nat) (f g : Nat → Nat), nc (N v) + 1 - k < t → k ≤ nc (N v) + 1 → (∀ i, f i = if nc (N u) + 1 ≤ i ∧ i < nc (N u) + 1 + nc (N v) then nK (N v) (i - (nc (N u) + 1)) else if i = nc (N u) then nK (N n) q else nK (N u) i) → (∀ i, g i = if nc (N u) + 1 ≤ i ∧ i < nc (N u) + 1 + k then nC (N v) (i - (nc (N u) + 1)) else nC (N u) i) → V p l e (rmk 3) s m args below meth c D (qA (tw kA h a N fr rt ky up fl fp)) 6 0 0 (MQ below (QC D (tw kA h a N fr rt ky up fl fp) (pV fun w => ∃ N', w = tw kA h a N' v rt ky up fl fp ∧ N' n = nd (shK (nK (N n)) q (nc (N n) - 1)) (shC (nC (N n)) q (nc (N n))) (nc (N n) - 1) (nl (N n)) (nx (N n)) (ns (N n)) ∧ N' u = nd (fun i => if nc (N u) + 1 ≤ i ∧ i < nc (N u) + 1 + nc (N v) then nK (N v) (i - (nc (N u) + 1)) else if i = nc (N u) then nK (N n) q else nK (N u) i) (fun i => if nc (N u) + 1 ≤ i ∧ i < nc (N u) + 1 + (nc (N v) + 1) then nC (N v) (i - (nc (N u) + 1)) else nC (N u) i) (nc (N u) + (nc (N v) + 1)) (nl (N u)) (nx (N u)) (ns (N u) + ns (N v)) ∧ N' v = nd (nK (N v)) (nC (N v)) (nc (N v)) (nl (N v)) fr (ns (N v)) ∧ ∀ z, z ≠ n → z ≠ u → z ≠ v → N' z = N z)) args s 0 0 (qA (tw kA h a N fr rt ky up fl fp))) 137 [.ref h, .int (nI n), .int (nI q), .int (nI u), .int (nI v), .int (nI k)] [] (tw kA h a (un N u f g (nc (N u)) (nl (N u)) (nx (N u)) (ns (N u))) fr rt ky up fl fp) := by
    intro t
    induction t with
    | zero => intro k f g hk; omega
    | succ t ih =>
      intro k f g hk hk2 hf hg
      refine v_iload C d_Tree_join_137 rfl ?_
      refine v_aload_n C d_Tree_join_139 rfl ?_
      refine v_getf C i_Tree (ci := 0) rfl 2 (by decide) (List.mem_of_getElem? (i := 0) rfl) fl_Tree_18 d_Tree_join_140 (.ref (a 2)) rfl ?_
      refine v_iload C d_Tree_join_143 rfl ?_
      refine v_iald C (List.mem_of_getElem? (i := 3) rfl) (by omega) (by decide) d_Tree_join_145 (nI (nc (N v))) (congrArg (fun z => nI (nc z)) (un_ne huv.symm)) ?_
      refine v_icmp_gt C d_Tree_join_146 184 (by decide) (by omega) (by omega) (fun ck => ?_) (fun ck => ?_)
      · obtain rfl : k = nc (N v) + 1 := by omega
        refine v_aload_n C d_Tree_join_184 rfl ?_
        refine v_getf C i_Tree (ci := 0) rfl 2 (by decide) (List.mem_of_getElem? (i := 0) rfl) fl_Tree_18 d_Tree_join_185 (.ref (a 2)) rfl ?_
        refine v_iload_n C d_Tree_join_188 rfl ?_
        refine v_dup2 C d_Tree_join_189 rfl rfl ?_
        refine v_iald C (List.mem_of_getElem? (i := 3) rfl) (by omega) (by decide) d_Tree_join_190 (nI (nc (N u))) (congrArg (fun z => nI (nc z)) un_at) ?_
        refine v_aload_n C d_Tree_join_191 rfl ?_
        refine v_getf C i_Tree (ci := 0) rfl 2 (by decide) (List.mem_of_getElem? (i := 0) rfl) fl_Tree_18 d_Tree_join_192 (.ref (a 2)) rfl ?_
        refine v_iload C d_Tree_join_195 rfl ?_
        refine v_iald C (List.mem_of_getElem? (i := 3) rfl) (by omega) (by decide) d_Tree_join_197 (nI (nc (N v))) (congrArg (fun z => nI (nc z)) (un_ne huv.symm)) ?_
        refine v_iconst C d_Tree_join_198 (nI 1) (by decide) ?_
        refine v_iadd C d_Tree_join_199 ?_
        refine v_iadd C d_Tree_join_200 ?_
        refine v_iast C (ws' := (tw kA h a (sc (un N u f g (nc (N u)) (nl (N u)) (nx (N u)) (ns (N u))) u (nc (N u) + (nc (N v) + 1))) fr rt ky up fl fp)) (tw_sc) (by omega) (by decide) d_Tree_join_201 (fun j _ => cntF_sc j) ?_
        rw [sc_un]
        refine v_aload_n C d_Tree_join_202 rfl ?_
        refine v_getf C i_Tree (ci := 0) rfl 5 (by decide) (List.mem_of_getElem? (i := 0) rfl) fl_Tree_28 d_Tree_join_203 (.ref (a 5)) rfl ?_
        refine v_iload_n C d_Tree_join_206 rfl ?_
        refine v_dup2 C d_Tree_join_207 rfl rfl ?_
        refine v_iald C (List.mem_of_getElem? (i := 6) rfl) (by omega) (by decide) d_Tree_join_208 (nI (ns (N u))) (congrArg (fun z => nI (ns z)) un_at) ?_
        refine v_aload_n C d_Tree_join_209 rfl ?_
        refine v_getf C i_Tree (ci := 0) rfl 5 (by decide) (List.mem_of_getElem? (i := 0) rfl) fl_Tree_28 d_Tree_join_210 (.ref (a 5)) rfl ?_
        refine v_iload C d_Tree_join_213 rfl ?_
        refine v_iald C (List.mem_of_getElem? (i := 6) rfl) (by omega) (by decide) d_Tree_join_215 (nI (ns (N v))) (congrArg (fun z => nI (ns z)) (un_ne huv.symm)) ?_
        refine v_iadd C d_Tree_join_216 ?_
        refine v_iast C (ws' := (tw kA h a (ss (un N u f g (nc (N u) + (nc (N v) + 1)) (nl (N u)) (nx (N u)) (ns (N u))) u (ns (N u) + ns (N v))) fr rt ky up fl fp)) (tw_ss) (by omega) (by decide) d_Tree_join_217 (fun j _ => sizF_ss j) ?_
        rw [ss_un]
        refine v_aload_n C d_Tree_join_218 rfl ?_
        refine v_iload C d_Tree_join_219 rfl ?_
        refine v_cV C (As := [.int (nI v)]) (st := []) (c_Tree_drop l D kA h a (un N u f g (nc (N u) + (nc (N v) + 1)) (nl (N u)) (nx (N u)) (ns (N u) + ns (N v))) fr rt ky up fl fp v hv) cv_Tree_drop ml_Tree_109 d_Tree_join_221 ⟨by omega, by decide⟩ tw_rcv ⟨rfl, rfl⟩ rfl ?_
        rintro _ rfl
        refine v_aload_n C d_Tree_join_224 rfl ?_
        refine v_iload_n C d_Tree_join_225 rfl ?_
        refine v_iload_n C d_Tree_join_226 rfl ?_
        obtain ⟨N1, hN1⟩ : ∃ z, z = (sx (un N u f g (nc (N u) + (nc (N v) + 1)) (nl (N u)) (nx (N u)) (ns (N u) + ns (N v))) v fr) := ⟨_, rfl⟩
        rw [← hN1]
        have q1 : N1 n = N n := by rw [hN1]; simp only [sK, sC, sc, sl, sx, ss, un, uN_self, nK_nd, nC_nd, nc_nd, nl_nd, nx_nd, ns_nd, uN_ne hnu, uN_ne hnu.symm, uN_ne hnv, uN_ne hnv.symm, uN_ne huv, uN_ne huv.symm]
        refine v_cV C (As := [.int (nI n), .int (nI q)]) (st := []) (c_Tree_shut l D kA h a N1 v rt ky up fl fp n q hn (by rw [q1]; omega) (by rw [q1]; exact hq)) cv_Tree_shut ml_Tree_112 d_Tree_join_227 ⟨by omega, by decide⟩ tw_rcv ⟨rfl, rfl⟩ rfl ?_
        rintro _ rfl
        exact v_vret C rfl d_Tree_join_230 (⟨rfl, _, rfl, by simp only [shN, un_at, q1], by simp only [shN, un, uN_ne hnu.symm, hN1, sx, uN_ne huv, uN_self]; rw [show f = fun i => if nc (N u) + 1 ≤ i ∧ i < nc (N u) + 1 + nc (N v) then nK (N v) (i - (nc (N u) + 1)) else if i = nc (N u) then nK (N n) q else nK (N u) i from funext hf, show g = fun i => if nc (N u) + 1 ≤ i ∧ i < nc (N u) + 1 + (nc (N v) + 1) then nC (N v) (i - (nc (N u) + 1)) else nC (N u) i from funext hg], by simp only [shN, un, uN_ne hnv.symm, hN1, sx, uN_self, uN_ne huv.symm], fun z h1 h2 h3 => by simp only [shN, un, uN_ne h1, hN1, sx, uN_ne h2, uN_ne h3]⟩)
      · refine v_aload_n C d_Tree_join_149 rfl ?_
        refine v_getf C i_Tree (ci := 0) rfl 1 (by decide) (List.mem_of_getElem? (i := 0) rfl) fl_Tree_15 d_Tree_join_150 (.ref (a 1)) rfl ?_
        refine v_bipush C d_Tree_join_153 (nI 11) (by decide) ?_
        refine v_iload_n C d_Tree_join_155 rfl ?_
        refine v_imul C d_Tree_join_156 ?_
        refine v_aload_n C d_Tree_join_157 rfl ?_
        refine v_getf C i_Tree (ci := 0) rfl 2 (by decide) (List.mem_of_getElem? (i := 0) rfl) fl_Tree_18 d_Tree_join_158 (.ref (a 2)) rfl ?_
        refine v_iload_n C d_Tree_join_161 rfl ?_
        refine v_iald C (List.mem_of_getElem? (i := 3) rfl) (by omega) (by decide) d_Tree_join_162 (nI (nc (N u))) (congrArg (fun z => nI (nc z)) un_at) ?_
        refine v_iadd C d_Tree_join_163 ?_
        refine v_iconst C d_Tree_join_164 (nI 1) (by decide) ?_
        refine v_iadd C d_Tree_join_165 ?_
        refine v_iload C d_Tree_join_166 rfl ?_
        refine v_iadd C d_Tree_join_168 ?_
        refine v_top (y := nI (11 * u + (nc (N u) + 1 + k))) (congrArg nI (show (((11 * u) + (nc (N u))) + 1) + k = 11 * u + (nc (N u) + 1 + k) from by omega)) ?_
        refine v_aload_n C d_Tree_join_169 rfl ?_
        refine v_iload C d_Tree_join_170 rfl ?_
        refine v_iload C d_Tree_join_172 rfl ?_
        refine v_cI C (As := [.int (nI v), .int (nI k)]) (st := [.int (nI (11 * u + (nc (N u) + 1 + k))), .ref (a 1)]) (c_Tree_kid l D kA h a (un N u f g (nc (N u)) (nl (N u)) (nx (N u)) (ns (N u))) fr rt ky up fl fp v k hv (by omega)) cv_Tree_kid ml_Tree_65 d_Tree_join_174 ⟨by omega, by decide⟩ tw_rcv ⟨rfl, rfl⟩ rfl ?_
        rintro _ _ ⟨rfl, rfl⟩
        rw [un_ne huv.symm]
        refine v_iast C (ws' := (tw kA h a (sC (un N u f g (nc (N u)) (nl (N u)) (nx (N u)) (ns (N u))) u (nc (N u) + 1 + k) (nC (N v) k)) fr rt ky up fl fp)) (tw_sC) (by omega) (by decide) d_Tree_join_177 (fun j _ => kidsF_sC (by omega) j) ?_
        rw [sC_un]
        refine v_iinc C d_Tree_join_178 rfl ⟨Nat.le_of_ble_eq_true rfl, Nat.le_of_ble_eq_true rfl⟩ (nI (k + 1)) (inc1 _) [.ref h, .int (nI n), .int (nI q), .int (nI u), .int (nI v), .int (nI (k + 1))] rfl ?_
        refine v_goto C d_Tree_join_181 137 (by decide) ?_
        refine ih (k + 1) _ _ (by omega) (by omega) hf ?_
        intro i; simp only [va_up, hg]; repeat' split
        all_goals first | rfl | (exfalso; omega) | (congr 1 <;> omega)
  have lp : ∀ (t : Nat) (k : Nat) (f : Nat → Nat), nc (N v) - k < t → k ≤ nc (N v) → (∀ i, f i = if nc (N u) + 1 ≤ i ∧ i < nc (N u) + 1 + k then nK (N v) (i - (nc (N u) + 1)) else if i = nc (N u) then nK (N n) q else nK (N u) i) → V p l e (rmk 3) s m args below meth c D (qA (tw kA h a N fr rt ky up fl fp)) 6 0 0 (MQ below (QC D (tw kA h a N fr rt ky up fl fp) (pV fun w => ∃ N', w = tw kA h a N' v rt ky up fl fp ∧ N' n = nd (shK (nK (N n)) q (nc (N n) - 1)) (shC (nC (N n)) q (nc (N n))) (nc (N n) - 1) (nl (N n)) (nx (N n)) (ns (N n)) ∧ N' u = nd (fun i => if nc (N u) + 1 ≤ i ∧ i < nc (N u) + 1 + nc (N v) then nK (N v) (i - (nc (N u) + 1)) else if i = nc (N u) then nK (N n) q else nK (N u) i) (fun i => if nc (N u) + 1 ≤ i ∧ i < nc (N u) + 1 + (nc (N v) + 1) then nC (N v) (i - (nc (N u) + 1)) else nC (N u) i) (nc (N u) + (nc (N v) + 1)) (nl (N u)) (nx (N u)) (ns (N u) + ns (N v)) ∧ N' v = nd (nK (N v)) (nC (N v)) (nc (N v)) (nl (N v)) fr (ns (N v)) ∧ ∀ z, z ≠ n → z ≠ u → z ≠ v → N' z = N z)) args s 0 0 (qA (tw kA h a N fr rt ky up fl fp))) 96 [.ref h, .int (nI n), .int (nI q), .int (nI u), .int (nI v), .int (nI k)] [] (tw kA h a (un N u f (nC (N u)) (nc (N u)) (nl (N u)) (nx (N u)) (ns (N u))) fr rt ky up fl fp) := by
    intro t
    induction t with
    | zero => intro k f hk; omega
    | succ t ih =>
      intro k f hk hk2 hf
      refine v_iload C d_Tree_join_96 rfl ?_
      refine v_aload_n C d_Tree_join_98 rfl ?_
      refine v_getf C i_Tree (ci := 0) rfl 2 (by decide) (List.mem_of_getElem? (i := 0) rfl) fl_Tree_18 d_Tree_join_99 (.ref (a 2)) rfl ?_
      refine v_iload C d_Tree_join_102 rfl ?_
      refine v_iald C (List.mem_of_getElem? (i := 3) rfl) (by omega) (by decide) d_Tree_join_104 (nI (nc (N v))) (congrArg (fun z => nI (nc z)) (un_ne huv.symm)) ?_
      refine v_icmp_ge C d_Tree_join_105 134 (by decide) (by omega) (by omega) (fun ck => ?_) (fun ck => ?_)
      · obtain rfl : k = nc (N v) := by omega
        refine v_iconst C d_Tree_join_134 (nI 0) (by decide) ?_
        refine v_istore C d_Tree_join_135 ⟨Nat.le_of_ble_eq_true rfl, Nat.le_of_ble_eq_true rfl⟩ [.ref h, .int (nI n), .int (nI q), .int (nI u), .int (nI v), .int (nI 0)] rfl ?_
        exact lp2 (nc (N v) + 2) 0 f _ (by omega) (by omega) hf (fun i => by rw [if_neg (by omega)])
      · refine v_aload_n C d_Tree_join_108 rfl ?_
        refine v_iload C d_Tree_join_109 rfl ?_
        refine v_iload C d_Tree_join_111 rfl ?_
        refine v_iload_n C d_Tree_join_113 rfl ?_
        refine v_aload_n C d_Tree_join_114 rfl ?_
        refine v_getf C i_Tree (ci := 0) rfl 2 (by decide) (List.mem_of_getElem? (i := 0) rfl) fl_Tree_18 d_Tree_join_115 (.ref (a 2)) rfl ?_
        refine v_iload_n C d_Tree_join_118 rfl ?_
        refine v_iald C (List.mem_of_getElem? (i := 3) rfl) (by omega) (by decide) d_Tree_join_119 (nI (nc (N u))) (congrArg (fun z => nI (nc z)) un_at) ?_
        refine v_iconst C d_Tree_join_120 (nI 1) (by decide) ?_
        refine v_iadd C d_Tree_join_121 ?_
        refine v_iload C d_Tree_join_122 rfl ?_
        refine v_iadd C d_Tree_join_124 ?_
        refine v_cV C (As := [.int (nI v), .int (nI k), .int (nI u), .int (nI (((nc (N u)) + 1) + k))]) (st := []) (c_Tree_copy l D kA h a (un N u f (nC (N u)) (nc (N u)) (nl (N u)) (nx (N u)) (ns (N u))) fr rt ky up fl fp v k u (nc (N u) + 1 + k) hv (by omega) hu (by omega)) cv_Tree_copy ml_Tree_81 d_Tree_join_125 ⟨by omega, by decide⟩ tw_rcv ⟨rfl, rfl⟩ rfl ?_
        rintro _ rfl
        simp only [un_ne huv.symm, sK_un]
        refine v_iinc C d_Tree_join_128 rfl ⟨Nat.le_of_ble_eq_true rfl, Nat.le_of_ble_eq_true rfl⟩ (nI (k + 1)) (inc1 _) [.ref h, .int (nI n), .int (nI q), .int (nI u), .int (nI v), .int (nI (k + 1))] rfl ?_
        refine v_goto C d_Tree_join_131 96 (by decide) ?_
        refine ih (k + 1) _ (by omega) (by omega) ?_
        intro i; simp only [va_up, hf]; repeat' split
        all_goals first | rfl | (exfalso; omega) | (congr 1 <;> omega)
  exact lp (nc (N v) + 1) 0 _ (by omega) (by omega) (fun i => by rw [if_neg (by omega)]; rfl)

set_option maxHeartbeats 4000000 in
set_option maxRecDepth 20000 in
theorem c_Tree_toRight_l (l : Launch) (D : va_G) (kA : Nat → ClassId) (h : Nat) (a : Nat → Nat) (N : Nat → Nd) (fr rt ky up fl fp : Nat) (n q u v : Nat) (hn : n < 500) (hu : u < 500) (hv : v < 500) (hnu : n ≠ u) (hnv : n ≠ v) (huv : u ≠ v) (hcu : 0 < nc (N u) ∧ nc (N u) ≤ 9) (hcv : nc (N v) ≤ 8) (hq : q < 9) (hl : nl (N u) = 1) (hs : 1 ≤ ns (N u)) : Ct l D kA 3 y_Tree_toRight b_Tree_toRight 7 none [.ref h, .int (nI n), .int (nI q), .int (nI u), .int (nI v)] (tw kA h a N fr rt ky up fl fp) (pV fun w => ∃ N', w = tw kA h a N' fr rt ky up fl fp ∧ N' n = nd (va_up (nK (N n)) q (nK (N u) (nc (N u) - 1))) (nC (N n)) (nc (N n)) (nl (N n)) (nx (N n)) (ns (N n)) ∧ N' u = nd (nK (N u)) (nC (N u)) (nc (N u) - 1) (nl (N u)) (nx (N u)) (ns (N u) - 1) ∧ N' v = nd (fun i => if i = 0 then nK (N u) (nc (N u) - 1) else if i ≤ nc (N v) then nK (N v) (i - 1) else nK (N v) i) (fun i => if i = 0 then nC (N v) 0 else if i ≤ nc (N v) + 1 then nC (N v) (i - 1) else nC (N v) i) (nc (N v) + 1) (nl (N v)) (nx (N v)) (ns (N v) + 1) ∧ ∀ z, z ≠ n → z ≠ u → z ≠ v → N' z = N z) := by
  refine ct_of (by decide) (Nat.le_of_ble_eq_true rfl) rfl ?_
  intro p e s m args below meth c C
  refine v_aload_n C d_Tree_toRight_0 rfl ?_
  refine v_getf C i_Tree (ci := 0) rfl 2 (by decide) (List.mem_of_getElem? (i := 0) rfl) fl_Tree_18 d_Tree_toRight_1 (.ref (a 2)) rfl ?_
  refine v_iload_n C d_Tree_toRight_4 rfl ?_
  refine v_iald C (List.mem_of_getElem? (i := 3) rfl) (by omega) (by decide) d_Tree_toRight_5 (nI (nc (N u))) (rfl) ?_
  refine v_iconst C d_Tree_toRight_6 (nI 1) (by decide) ?_
  refine v_isub C d_Tree_toRight_7 (by omega) ?_
  refine v_istore C d_Tree_toRight_8 ⟨Nat.le_of_ble_eq_true rfl, Nat.le_of_ble_eq_true rfl⟩ [.ref h, .int (nI n), .int (nI q), .int (nI u), .int (nI v), .int (nI ((nc (N u)) - 1))] rfl ?_
  refine v_aload_n C d_Tree_toRight_10 rfl ?_
  refine v_getf C i_Tree (ci := 0) rfl 2 (by decide) (List.mem_of_getElem? (i := 0) rfl) fl_Tree_18 d_Tree_toRight_11 (.ref (a 2)) rfl ?_
  refine v_iload C d_Tree_toRight_14 rfl ?_
  refine v_iald C (List.mem_of_getElem? (i := 3) rfl) (by omega) (by decide) d_Tree_toRight_16 (nI (nc (N v))) (rfl) ?_
  refine v_istore C d_Tree_toRight_17 ⟨Nat.le_of_ble_eq_true rfl, Nat.le_of_ble_eq_true rfl⟩ [.ref h, .int (nI n), .int (nI q), .int (nI u), .int (nI v), .int (nI ((nc (N u)) - 1)), .int (nI (nc (N v)))] rfl ?_
  have lp2 : ∀ (t : Nat) (k : Nat) (f g : Nat → Nat), k < t → k ≤ nc (N v) + 1 → (∀ i, f i = if 0 < i ∧ i ≤ nc (N v) then nK (N v) (i - 1) else nK (N v) i) → (∀ i, g i = if k < i ∧ i ≤ nc (N v) + 1 then nC (N v) (i - 1) else nC (N v) i) → V p l e (rmk 3) s m args below meth c D (qA (tw kA h a N fr rt ky up fl fp)) 7 0 0 (MQ below (QC D (tw kA h a N fr rt ky up fl fp) (pV fun w => ∃ N', w = tw kA h a N' fr rt ky up fl fp ∧ N' n = nd (va_up (nK (N n)) q (nK (N u) (nc (N u) - 1))) (nC (N n)) (nc (N n)) (nl (N n)) (nx (N n)) (ns (N n)) ∧ N' u = nd (nK (N u)) (nC (N u)) (nc (N u) - 1) (nl (N u)) (nx (N u)) (ns (N u) - 1) ∧ N' v = nd (fun i => if i = 0 then nK (N u) (nc (N u) - 1) else if i ≤ nc (N v) then nK (N v) (i - 1) else nK (N v) i) (fun i => if i = 0 then nC (N v) 0 else if i ≤ nc (N v) + 1 then nC (N v) (i - 1) else nC (N v) i) (nc (N v) + 1) (nl (N v)) (nx (N v)) (ns (N v) + 1) ∧ ∀ z, z ≠ n → z ≠ u → z ≠ v → N' z = N z)) args s 0 0 (qA (tw kA h a N fr rt ky up fl fp))) 55 [.ref h, .int (nI n), .int (nI q), .int (nI u), .int (nI v), .int (nI (nc (N u) - 1)), .int (nI k)] [] (tw kA h a (un N v f g (nc (N v)) (nl (N v)) (nx (N v)) (ns (N v))) fr rt ky up fl fp) := by
    intro t
    induction t with
    | zero => intro k f g hk; omega
    | succ t ih =>
      intro k f g hk hk2 hf hg
      refine v_iload C d_Tree_toRight_55 rfl ?_
      refine v_if_leR C d_Tree_toRight_57 94 (by decide) (fun ck => ?_) (fun ck => ?_)
      · obtain rfl : k = 0 := Nat.eq_zero_of_not_pos (fun z => nI_nle z (by omega) ck)
        refine v_iconst C d_Tree_toRight_94 (nI 1) (by decide) ?_
        refine v_istore C d_Tree_toRight_95 ⟨Nat.le_of_ble_eq_true rfl, Nat.le_of_ble_eq_true rfl⟩ [.ref h, .int (nI n), .int (nI q), .int (nI u), .int (nI v), .int (nI (nc (N u) - 1)), .int (nI 1)] rfl ?_
        refine v_aload_n C d_Tree_toRight_97 rfl ?_
        refine v_getf C i_Tree (ci := 0) rfl 3 (by decide) (List.mem_of_getElem? (i := 0) rfl) fl_Tree_21 d_Tree_toRight_98 (.ref (a 3)) rfl ?_
        refine v_iload_n C d_Tree_toRight_101 rfl ?_
        refine v_zald C (List.mem_of_getElem? (i := 4) rfl) (by omega) (by decide) d_Tree_toRight_102 (nI (nl ((un N v f g (nc (N v)) (nl (N v)) (nx (N v)) (ns (N v))) u))) (rfl) ?_
        refine v_if_eq C d_Tree_toRight_103 128 (by decide) (by rw [show nl ((un N v f g (nc (N v)) (nl (N v)) (nx (N v)) (ns (N v))) u) = nl (N u) from congrArg nl (un_ne huv)]; omega) (fun cl => False.elim (by rw [un_ne huv] at cl; omega)) (fun cl => ?_)
        refine v_aload_n C d_Tree_toRight_106 rfl ?_
        refine v_iload_n C d_Tree_toRight_107 rfl ?_
        refine v_iload C d_Tree_toRight_108 rfl ?_
        refine v_iload C d_Tree_toRight_110 rfl ?_
        refine v_iconst C d_Tree_toRight_112 (nI 0) (by decide) ?_
        refine v_cV C (As := [.int (nI u), .int (nI (nc (N u) - 1)), .int (nI v), .int (nI 0)]) (st := []) (c_Tree_copy l D kA h a (un N v f g (nc (N v)) (nl (N v)) (nx (N v)) (ns (N v))) fr rt ky up fl fp u (nc (N u) - 1) v 0 hu (by omega) hv (by omega)) cv_Tree_copy ml_Tree_81 d_Tree_toRight_113 ⟨by omega, by decide⟩ tw_rcv ⟨rfl, rfl⟩ rfl ?_
        rintro _ rfl
        simp only [un_ne huv, sK_un]
        refine v_aload_n C d_Tree_toRight_116 rfl ?_
        refine v_iload_n C d_Tree_toRight_117 rfl ?_
        refine v_iload C d_Tree_toRight_118 rfl ?_
        refine v_iload_n C d_Tree_toRight_120 rfl ?_
        refine v_iload_n C d_Tree_toRight_121 rfl ?_
        refine v_cV C (As := [.int (nI u), .int (nI (nc (N u) - 1)), .int (nI n), .int (nI q)]) (st := []) (c_Tree_copy l D kA h a (un N v (va_up f 0 (nK (N u) (nc (N u) - 1))) g (nc (N v)) (nl (N v)) (nx (N v)) (ns (N v))) fr rt ky up fl fp u (nc (N u) - 1) n q hu (by omega) hn (by omega)) cv_Tree_copy ml_Tree_81 d_Tree_toRight_122 ⟨by omega, by decide⟩ tw_rcv ⟨rfl, rfl⟩ rfl ?_
        rintro _ rfl
        simp only [un_ne huv]
        refine v_goto C d_Tree_toRight_125 181 (by decide) ?_
        refine v_aload_n C d_Tree_toRight_181 rfl ?_
        refine v_getf C i_Tree (ci := 0) rfl 2 (by decide) (List.mem_of_getElem? (i := 0) rfl) fl_Tree_18 d_Tree_toRight_182 (.ref (a 2)) rfl ?_
        refine v_iload_n C d_Tree_toRight_185 rfl ?_
        refine v_dup2 C d_Tree_toRight_186 rfl rfl ?_
        refine v_iald C (List.mem_of_getElem? (i := 3) rfl) (by omega) (by decide) d_Tree_toRight_187 (nI (nc (N u))) (by simp only [cntF, sK, sC, sc, sl, sx, ss, un, uN_self, nK_nd, nC_nd, nc_nd, nl_nd, nx_nd, ns_nd, uN_ne hnu, uN_ne hnu.symm, uN_ne hnv, uN_ne hnv.symm, uN_ne huv, uN_ne huv.symm]) ?_
        refine v_iconst C d_Tree_toRight_188 (nI 1) (by decide) ?_
        refine v_isub C d_Tree_toRight_189 (by omega) ?_
        refine v_iast C (ws' := (tw kA h a (sc (sK (un N v (va_up f 0 (nK (N u) (nc (N u) - 1))) g (nc (N v)) (nl (N v)) (nx (N v)) (ns (N v))) n q (nK (N u) (nc (N u) - 1))) u (nc (N u) - 1)) fr rt ky up fl fp)) (tw_sc) (by omega) (by decide) d_Tree_toRight_190 (fun j _ => cntF_sc j) ?_
        refine v_aload_n C d_Tree_toRight_191 rfl ?_
        refine v_getf C i_Tree (ci := 0) rfl 2 (by decide) (List.mem_of_getElem? (i := 0) rfl) fl_Tree_18 d_Tree_toRight_192 (.ref (a 2)) rfl ?_
        refine v_iload C d_Tree_toRight_195 rfl ?_
        refine v_dup2 C d_Tree_toRight_197 rfl rfl ?_
        refine v_iald C (List.mem_of_getElem? (i := 3) rfl) (by omega) (by decide) d_Tree_toRight_198 (nI (nc (N v))) (by simp only [cntF, sK, sC, sc, sl, sx, ss, un, uN_self, nK_nd, nC_nd, nc_nd, nl_nd, nx_nd, ns_nd, uN_ne hnu, uN_ne hnu.symm, uN_ne hnv, uN_ne hnv.symm, uN_ne huv, uN_ne huv.symm]) ?_
        refine v_iconst C d_Tree_toRight_199 (nI 1) (by decide) ?_
        refine v_iadd C d_Tree_toRight_200 ?_
        refine v_iast C (ws' := (tw kA h a (sc (sc (sK (un N v (va_up f 0 (nK (N u) (nc (N u) - 1))) g (nc (N v)) (nl (N v)) (nx (N v)) (ns (N v))) n q (nK (N u) (nc (N u) - 1))) u (nc (N u) - 1)) v (nc (N v) + 1)) fr rt ky up fl fp)) (tw_sc) (by omega) (by decide) d_Tree_toRight_201 (fun j _ => cntF_sc j) ?_
        refine v_aload_n C d_Tree_toRight_202 rfl ?_
        refine v_getf C i_Tree (ci := 0) rfl 5 (by decide) (List.mem_of_getElem? (i := 0) rfl) fl_Tree_28 d_Tree_toRight_203 (.ref (a 5)) rfl ?_
        refine v_iload_n C d_Tree_toRight_206 rfl ?_
        refine v_dup2 C d_Tree_toRight_207 rfl rfl ?_
        refine v_iald C (List.mem_of_getElem? (i := 6) rfl) (by omega) (by decide) d_Tree_toRight_208 (nI (ns (N u))) (by simp only [sizF, sK, sC, sc, sl, sx, ss, un, uN_self, nK_nd, nC_nd, nc_nd, nl_nd, nx_nd, ns_nd, uN_ne hnu, uN_ne hnu.symm, uN_ne hnv, uN_ne hnv.symm, uN_ne huv, uN_ne huv.symm]) ?_
        refine v_iload C d_Tree_toRight_209 rfl ?_
        refine v_isub C d_Tree_toRight_211 (by omega) ?_
        refine v_iast C (ws' := (tw kA h a (ss (sc (sc (sK (un N v (va_up f 0 (nK (N u) (nc (N u) - 1))) g (nc (N v)) (nl (N v)) (nx (N v)) (ns (N v))) n q (nK (N u) (nc (N u) - 1))) u (nc (N u) - 1)) v (nc (N v) + 1)) u (ns (N u) - 1)) fr rt ky up fl fp)) (tw_ss) (by omega) (by decide) d_Tree_toRight_212 (fun j _ => sizF_ss j) ?_
        refine v_aload_n C d_Tree_toRight_213 rfl ?_
        refine v_getf C i_Tree (ci := 0) rfl 5 (by decide) (List.mem_of_getElem? (i := 0) rfl) fl_Tree_28 d_Tree_toRight_214 (.ref (a 5)) rfl ?_
        refine v_iload C d_Tree_toRight_217 rfl ?_
        refine v_dup2 C d_Tree_toRight_219 rfl rfl ?_
        refine v_iald C (List.mem_of_getElem? (i := 6) rfl) (by omega) (by decide) d_Tree_toRight_220 (nI (ns (N v))) (by simp only [sizF, sK, sC, sc, sl, sx, ss, un, uN_self, nK_nd, nC_nd, nc_nd, nl_nd, nx_nd, ns_nd, uN_ne hnu, uN_ne hnu.symm, uN_ne hnv, uN_ne hnv.symm, uN_ne huv, uN_ne huv.symm]) ?_
        refine v_iload C d_Tree_toRight_221 rfl ?_
        refine v_iadd C d_Tree_toRight_223 ?_
        refine v_iast C (ws' := (tw kA h a (ss (ss (sc (sc (sK (un N v (va_up f 0 (nK (N u) (nc (N u) - 1))) g (nc (N v)) (nl (N v)) (nx (N v)) (ns (N v))) n q (nK (N u) (nc (N u) - 1))) u (nc (N u) - 1)) v (nc (N v) + 1)) u (ns (N u) - 1)) v (ns (N v) + 1)) fr rt ky up fl fp)) (tw_ss) (by omega) (by decide) d_Tree_toRight_224 (fun j _ => sizF_ss j) ?_
        have ef : va_up f 0 (nK (N u) (nc (N u) - 1)) = (fun i => if i = 0 then nK (N u) (nc (N u) - 1) else if i ≤ nc (N v) then nK (N v) (i - 1) else nK (N v) i) := by
          funext i; simp only [va_up, hf]; repeat' split
          all_goals first | rfl | (exfalso; omega) | (congr 1 <;> omega)
        have eg : g = (fun i => if i = 0 then nC (N v) 0 else if i ≤ nc (N v) + 1 then nC (N v) (i - 1) else nC (N v) i) := by
          funext i; simp only [va_up, hg]; repeat' split
          all_goals first | rfl | (exfalso; omega) | (congr 1 <;> omega)
        exact v_vret C rfl d_Tree_toRight_225 (⟨rfl, _, rfl, by simp only [sK, sC, sc, sl, sx, ss, un, uN_self, nK_nd, nC_nd, nc_nd, nl_nd, nx_nd, ns_nd, uN_ne hnu, uN_ne hnu.symm, uN_ne hnv, uN_ne hnv.symm, uN_ne huv, uN_ne huv.symm], by simp only [sK, sC, sc, sl, sx, ss, un, uN_self, nK_nd, nC_nd, nc_nd, nl_nd, nx_nd, ns_nd, uN_ne hnu, uN_ne hnu.symm, uN_ne hnv, uN_ne hnv.symm, uN_ne huv, uN_ne huv.symm], by simp only [sK, sC, sc, sl, sx, ss, un, uN_self, nK_nd, nC_nd, nc_nd, nl_nd, nx_nd, ns_nd, uN_ne hnu, uN_ne hnu.symm, uN_ne hnv, uN_ne hnv.symm, uN_ne huv, uN_ne huv.symm]; rw [ef, eg], fun z h1 h2 h3 => by simp only [sK, sC, sc, sl, sx, ss, un, uN_self, nK_nd, nC_nd, nc_nd, nl_nd, nx_nd, ns_nd, uN_ne h1, uN_ne h2, uN_ne h3]⟩)
      · have ck0 : 0 < k := Nat.pos_of_ne_zero (fun z => ck (by rw [z]; decide))
        refine v_aload_n C d_Tree_toRight_60 rfl ?_
        refine v_getf C i_Tree (ci := 0) rfl 1 (by decide) (List.mem_of_getElem? (i := 0) rfl) fl_Tree_15 d_Tree_toRight_61 (.ref (a 1)) rfl ?_
        refine v_bipush C d_Tree_toRight_64 (nI 11) (by decide) ?_
        refine v_iload C d_Tree_toRight_66 rfl ?_
        refine v_imul C d_Tree_toRight_68 ?_
        refine v_iload C d_Tree_toRight_69 rfl ?_
        refine v_iadd C d_Tree_toRight_71 ?_
        refine v_top (y := nI (11 * v + k)) (congrArg nI (show (11 * v) + k = 11 * v + k from by omega)) ?_
        refine v_aload_n C d_Tree_toRight_72 rfl ?_
        refine v_getf C i_Tree (ci := 0) rfl 1 (by decide) (List.mem_of_getElem? (i := 0) rfl) fl_Tree_15 d_Tree_toRight_73 (.ref (a 1)) rfl ?_
        refine v_bipush C d_Tree_toRight_76 (nI 11) (by decide) ?_
        refine v_iload C d_Tree_toRight_78 rfl ?_
        refine v_imul C d_Tree_toRight_80 ?_
        refine v_iload C d_Tree_toRight_81 rfl ?_
        refine v_iadd C d_Tree_toRight_83 ?_
        refine v_iconst C d_Tree_toRight_84 (nI 1) (by decide) ?_
        refine v_isub C d_Tree_toRight_85 (by omega) ?_
        refine v_top (y := nI (11 * v + (k - 1))) (congrArg nI (show ((11 * v) + k) - 1 = 11 * v + (k - 1) from by omega)) ?_
        refine v_iald C (List.mem_of_getElem? (i := 2) rfl) (by omega) (by decide) d_Tree_toRight_86 (nI (g (k - 1))) ((kidsF_at (by omega)).trans (congrArg (fun z => nI (nC z (k - 1))) un_at)) ?_
        refine v_iast C (ws' := (tw kA h a (sC (un N v f g (nc (N v)) (nl (N v)) (nx (N v)) (ns (N v))) v k (g (k - 1))) fr rt ky up fl fp)) (tw_sC) (by omega) (by decide) d_Tree_toRight_87 (fun j _ => kidsF_sC (by omega) j) ?_
        rw [sC_un]
        refine v_iinc C d_Tree_toRight_88 rfl ⟨Nat.le_of_ble_eq_true rfl, Nat.le_of_ble_eq_true rfl⟩ (nI (k - 1)) (dec1 (by omega)) [.ref h, .int (nI n), .int (nI q), .int (nI u), .int (nI v), .int (nI (nc (N u) - 1)), .int (nI (k - 1))] rfl ?_
        refine v_goto C d_Tree_toRight_91 55 (by decide) ?_
        refine ih (k - 1) _ _ (by omega) (by omega) hf ?_
        intro i; simp only [va_up, hg]; repeat' split
        all_goals first | rfl | (exfalso; omega) | (congr 1 <;> omega)
  have lp : ∀ (t : Nat) (k : Nat) (f : Nat → Nat), k < t → k ≤ nc (N v) → (∀ i, f i = if k < i ∧ i ≤ nc (N v) then nK (N v) (i - 1) else nK (N v) i) → V p l e (rmk 3) s m args below meth c D (qA (tw kA h a N fr rt ky up fl fp)) 7 0 0 (MQ below (QC D (tw kA h a N fr rt ky up fl fp) (pV fun w => ∃ N', w = tw kA h a N' fr rt ky up fl fp ∧ N' n = nd (va_up (nK (N n)) q (nK (N u) (nc (N u) - 1))) (nC (N n)) (nc (N n)) (nl (N n)) (nx (N n)) (ns (N n)) ∧ N' u = nd (nK (N u)) (nC (N u)) (nc (N u) - 1) (nl (N u)) (nx (N u)) (ns (N u) - 1) ∧ N' v = nd (fun i => if i = 0 then nK (N u) (nc (N u) - 1) else if i ≤ nc (N v) then nK (N v) (i - 1) else nK (N v) i) (fun i => if i = 0 then nC (N v) 0 else if i ≤ nc (N v) + 1 then nC (N v) (i - 1) else nC (N v) i) (nc (N v) + 1) (nl (N v)) (nx (N v)) (ns (N v) + 1) ∧ ∀ z, z ≠ n → z ≠ u → z ≠ v → N' z = N z)) args s 0 0 (qA (tw kA h a N fr rt ky up fl fp))) 19 [.ref h, .int (nI n), .int (nI q), .int (nI u), .int (nI v), .int (nI (nc (N u) - 1)), .int (nI k)] [] (tw kA h a (un N v f (nC (N v)) (nc (N v)) (nl (N v)) (nx (N v)) (ns (N v))) fr rt ky up fl fp) := by
    intro t
    induction t with
    | zero => intro k f hk; omega
    | succ t ih =>
      intro k f hk hk2 hf
      refine v_iload C d_Tree_toRight_19 rfl ?_
      refine v_if_leR C d_Tree_toRight_21 44 (by decide) (fun ck => ?_) (fun ck => ?_)
      · obtain rfl : k = 0 := Nat.eq_zero_of_not_pos (fun z => nI_nle z (by omega) ck)
        refine v_aload_n C d_Tree_toRight_44 rfl ?_
        refine v_getf C i_Tree (ci := 0) rfl 2 (by decide) (List.mem_of_getElem? (i := 0) rfl) fl_Tree_18 d_Tree_toRight_45 (.ref (a 2)) rfl ?_
        refine v_iload C d_Tree_toRight_48 rfl ?_
        refine v_iald C (List.mem_of_getElem? (i := 3) rfl) (by omega) (by decide) d_Tree_toRight_50 (nI (nc (N v))) (congrArg (fun z => nI (nc z)) un_at) ?_
        refine v_iconst C d_Tree_toRight_51 (nI 1) (by decide) ?_
        refine v_iadd C d_Tree_toRight_52 ?_
        refine v_istore C d_Tree_toRight_53 ⟨Nat.le_of_ble_eq_true rfl, Nat.le_of_ble_eq_true rfl⟩ [.ref h, .int (nI n), .int (nI q), .int (nI u), .int (nI v), .int (nI (nc (N u) - 1)), .int (nI ((nc (N v)) + 1))] rfl ?_
        exact lp2 (nc (N v) + 2) (nc (N v) + 1) f _ (by omega) (by omega) hf (fun i => by rw [if_neg (by omega)])
      · have ck0 : 0 < k := Nat.pos_of_ne_zero (fun z => ck (by rw [z]; decide))
        refine v_aload_n C d_Tree_toRight_24 rfl ?_
        refine v_iload C d_Tree_toRight_25 rfl ?_
        refine v_iload C d_Tree_toRight_27 rfl ?_
        refine v_iconst C d_Tree_toRight_29 (nI 1) (by decide) ?_
        refine v_isub C d_Tree_toRight_30 (by omega) ?_
        refine v_iload C d_Tree_toRight_31 rfl ?_
        refine v_iload C d_Tree_toRight_33 rfl ?_
        refine v_cV C (As := [.int (nI v), .int (nI (k - 1)), .int (nI v), .int (nI k)]) (st := []) (c_Tree_copy l D kA h a (un N v f (nC (N v)) (nc (N v)) (nl (N v)) (nx (N v)) (ns (N v))) fr rt ky up fl fp v (k - 1) v k hv (by omega) hv (by omega)) cv_Tree_copy ml_Tree_81 d_Tree_toRight_35 ⟨by omega, by decide⟩ tw_rcv ⟨rfl, rfl⟩ rfl ?_
        rintro _ rfl
        simp only [un_at, nK_nd, sK_un]
        refine v_iinc C d_Tree_toRight_38 rfl ⟨Nat.le_of_ble_eq_true rfl, Nat.le_of_ble_eq_true rfl⟩ (nI (k - 1)) (dec1 (by omega)) [.ref h, .int (nI n), .int (nI q), .int (nI u), .int (nI v), .int (nI (nc (N u) - 1)), .int (nI (k - 1))] rfl ?_
        refine v_goto C d_Tree_toRight_41 19 (by decide) ?_
        refine ih (k - 1) _ (by omega) (by omega) ?_
        intro i; simp only [va_up, hf]; repeat' split
        all_goals first | rfl | (exfalso; omega) | (congr 1 <;> omega)
  have z := lp (nc (N v) + 1) (nc (N v)) (nK (N v)) (by omega) (by omega) (fun i => by rw [if_neg (by omega)])
  rw [un_id] at z
  exact z

set_option maxHeartbeats 4000000 in
set_option maxRecDepth 20000 in
theorem c_Tree_toRight_n (l : Launch) (D : va_G) (kA : Nat → ClassId) (h : Nat) (a : Nat → Nat) (N : Nat → Nd) (fr rt ky up fl fp : Nat) (n q u v : Nat) (hn : n < 500) (hu : u < 500) (hv : v < 500) (hnu : n ≠ u) (hnv : n ≠ v) (huv : u ≠ v) (hcu : 0 < nc (N u) ∧ nc (N u) ≤ 9) (hcv : nc (N v) ≤ 8) (hq : q < 9) (hl : nl (N u) = 0) (hw : nC (N u) (nc (N u)) < 500 ∧ nC (N u) (nc (N u)) ≠ n ∧ nC (N u) (nc (N u)) ≠ u ∧ nC (N u) (nc (N u)) ≠ v) (hs : ns (N (nC (N u) (nc (N u)))) ≤ ns (N u)) : Ct l D kA 3 y_Tree_toRight b_Tree_toRight 7 none [.ref h, .int (nI n), .int (nI q), .int (nI u), .int (nI v)] (tw kA h a N fr rt ky up fl fp) (pV fun w => ∃ N', w = tw kA h a N' fr rt ky up fl fp ∧ N' n = nd (va_up (nK (N n)) q (nK (N u) (nc (N u) - 1))) (nC (N n)) (nc (N n)) (nl (N n)) (nx (N n)) (ns (N n)) ∧ N' u = nd (nK (N u)) (nC (N u)) (nc (N u) - 1) (nl (N u)) (nx (N u)) (ns (N u) - (ns (N (nC (N u) (nc (N u)))))) ∧ N' v = nd (fun i => if i = 0 then nK (N n) q else if i ≤ nc (N v) then nK (N v) (i - 1) else nK (N v) i) (fun i => if i = 0 then nC (N u) (nc (N u)) else if i ≤ nc (N v) + 1 then nC (N v) (i - 1) else nC (N v) i) (nc (N v) + 1) (nl (N v)) (nx (N v)) (ns (N v) + (ns (N (nC (N u) (nc (N u)))))) ∧ ∀ z, z ≠ n → z ≠ u → z ≠ v → N' z = N z) := by
  refine ct_of (by decide) (Nat.le_of_ble_eq_true rfl) rfl ?_
  intro p e s m args below meth c C
  refine v_aload_n C d_Tree_toRight_0 rfl ?_
  refine v_getf C i_Tree (ci := 0) rfl 2 (by decide) (List.mem_of_getElem? (i := 0) rfl) fl_Tree_18 d_Tree_toRight_1 (.ref (a 2)) rfl ?_
  refine v_iload_n C d_Tree_toRight_4 rfl ?_
  refine v_iald C (List.mem_of_getElem? (i := 3) rfl) (by omega) (by decide) d_Tree_toRight_5 (nI (nc (N u))) (rfl) ?_
  refine v_iconst C d_Tree_toRight_6 (nI 1) (by decide) ?_
  refine v_isub C d_Tree_toRight_7 (by omega) ?_
  refine v_istore C d_Tree_toRight_8 ⟨Nat.le_of_ble_eq_true rfl, Nat.le_of_ble_eq_true rfl⟩ [.ref h, .int (nI n), .int (nI q), .int (nI u), .int (nI v), .int (nI ((nc (N u)) - 1))] rfl ?_
  refine v_aload_n C d_Tree_toRight_10 rfl ?_
  refine v_getf C i_Tree (ci := 0) rfl 2 (by decide) (List.mem_of_getElem? (i := 0) rfl) fl_Tree_18 d_Tree_toRight_11 (.ref (a 2)) rfl ?_
  refine v_iload C d_Tree_toRight_14 rfl ?_
  refine v_iald C (List.mem_of_getElem? (i := 3) rfl) (by omega) (by decide) d_Tree_toRight_16 (nI (nc (N v))) (rfl) ?_
  refine v_istore C d_Tree_toRight_17 ⟨Nat.le_of_ble_eq_true rfl, Nat.le_of_ble_eq_true rfl⟩ [.ref h, .int (nI n), .int (nI q), .int (nI u), .int (nI v), .int (nI ((nc (N u)) - 1)), .int (nI (nc (N v)))] rfl ?_
  have lp2 : ∀ (t : Nat) (k : Nat) (f g : Nat → Nat), k < t → k ≤ nc (N v) + 1 → (∀ i, f i = if 0 < i ∧ i ≤ nc (N v) then nK (N v) (i - 1) else nK (N v) i) → (∀ i, g i = if k < i ∧ i ≤ nc (N v) + 1 then nC (N v) (i - 1) else nC (N v) i) → V p l e (rmk 3) s m args below meth c D (qA (tw kA h a N fr rt ky up fl fp)) 7 0 0 (MQ below (QC D (tw kA h a N fr rt ky up fl fp) (pV fun w => ∃ N', w = tw kA h a N' fr rt ky up fl fp ∧ N' n = nd (va_up (nK (N n)) q (nK (N u) (nc (N u) - 1))) (nC (N n)) (nc (N n)) (nl (N n)) (nx (N n)) (ns (N n)) ∧ N' u = nd (nK (N u)) (nC (N u)) (nc (N u) - 1) (nl (N u)) (nx (N u)) (ns (N u) - (ns (N (nC (N u) (nc (N u)))))) ∧ N' v = nd (fun i => if i = 0 then nK (N n) q else if i ≤ nc (N v) then nK (N v) (i - 1) else nK (N v) i) (fun i => if i = 0 then nC (N u) (nc (N u)) else if i ≤ nc (N v) + 1 then nC (N v) (i - 1) else nC (N v) i) (nc (N v) + 1) (nl (N v)) (nx (N v)) (ns (N v) + (ns (N (nC (N u) (nc (N u)))))) ∧ ∀ z, z ≠ n → z ≠ u → z ≠ v → N' z = N z)) args s 0 0 (qA (tw kA h a N fr rt ky up fl fp))) 55 [.ref h, .int (nI n), .int (nI q), .int (nI u), .int (nI v), .int (nI (nc (N u) - 1)), .int (nI k)] [] (tw kA h a (un N v f g (nc (N v)) (nl (N v)) (nx (N v)) (ns (N v))) fr rt ky up fl fp) := by
    intro t
    induction t with
    | zero => intro k f g hk; omega
    | succ t ih =>
      intro k f g hk hk2 hf hg
      refine v_iload C d_Tree_toRight_55 rfl ?_
      refine v_if_leR C d_Tree_toRight_57 94 (by decide) (fun ck => ?_) (fun ck => ?_)
      · obtain rfl : k = 0 := Nat.eq_zero_of_not_pos (fun z => nI_nle z (by omega) ck)
        refine v_iconst C d_Tree_toRight_94 (nI 1) (by decide) ?_
        refine v_istore C d_Tree_toRight_95 ⟨Nat.le_of_ble_eq_true rfl, Nat.le_of_ble_eq_true rfl⟩ [.ref h, .int (nI n), .int (nI q), .int (nI u), .int (nI v), .int (nI (nc (N u) - 1)), .int (nI 1)] rfl ?_
        refine v_aload_n C d_Tree_toRight_97 rfl ?_
        refine v_getf C i_Tree (ci := 0) rfl 3 (by decide) (List.mem_of_getElem? (i := 0) rfl) fl_Tree_21 d_Tree_toRight_98 (.ref (a 3)) rfl ?_
        refine v_iload_n C d_Tree_toRight_101 rfl ?_
        refine v_zald C (List.mem_of_getElem? (i := 4) rfl) (by omega) (by decide) d_Tree_toRight_102 (nI (nl ((un N v f g (nc (N v)) (nl (N v)) (nx (N v)) (ns (N v))) u))) (rfl) ?_
        refine v_if_eq C d_Tree_toRight_103 128 (by decide) (by rw [show nl ((un N v f g (nc (N v)) (nl (N v)) (nx (N v)) (ns (N v))) u) = nl (N u) from congrArg nl (un_ne huv)]; omega) (fun cl => ?_) (fun cl => False.elim (by rw [un_ne huv] at cl; omega))
        refine v_aload_n C d_Tree_toRight_128 rfl ?_
        refine v_iload_n C d_Tree_toRight_129 rfl ?_
        refine v_iload_n C d_Tree_toRight_130 rfl ?_
        refine v_iload C d_Tree_toRight_131 rfl ?_
        refine v_iconst C d_Tree_toRight_133 (nI 0) (by decide) ?_
        refine v_cV C (As := [.int (nI n), .int (nI q), .int (nI v), .int (nI 0)]) (st := []) (c_Tree_copy l D kA h a (un N v f g (nc (N v)) (nl (N v)) (nx (N v)) (ns (N v))) fr rt ky up fl fp n q v 0 hn (by omega) hv (by omega)) cv_Tree_copy ml_Tree_81 d_Tree_toRight_134 ⟨by omega, by decide⟩ tw_rcv ⟨rfl, rfl⟩ rfl ?_
        rintro _ rfl
        simp only [un_ne hnv, sK_un]
        refine v_aload_n C d_Tree_toRight_137 rfl ?_
        refine v_getf C i_Tree (ci := 0) rfl 1 (by decide) (List.mem_of_getElem? (i := 0) rfl) fl_Tree_15 d_Tree_toRight_138 (.ref (a 1)) rfl ?_
        refine v_bipush C d_Tree_toRight_141 (nI 11) (by decide) ?_
        refine v_iload C d_Tree_toRight_143 rfl ?_
        refine v_imul C d_Tree_toRight_145 ?_
        refine v_aload_n C d_Tree_toRight_146 rfl ?_
        refine v_iload_n C d_Tree_toRight_147 rfl ?_
        refine v_aload_n C d_Tree_toRight_148 rfl ?_
        refine v_getf C i_Tree (ci := 0) rfl 2 (by decide) (List.mem_of_getElem? (i := 0) rfl) fl_Tree_18 d_Tree_toRight_149 (.ref (a 2)) rfl ?_
        refine v_iload_n C d_Tree_toRight_152 rfl ?_
        refine v_iald C (List.mem_of_getElem? (i := 3) rfl) (by omega) (by decide) d_Tree_toRight_153 (nI (nc (N u))) (congrArg (fun z => nI (nc z)) (un_ne huv)) ?_
        refine v_cI C (As := [.int (nI u), .int (nI (nc (N u)))]) (st := [.int (nI (11 * v)), .ref (a 1)]) (c_Tree_kid l D kA h a (un N v (va_up f 0 (nK (N n) q)) g (nc (N v)) (nl (N v)) (nx (N v)) (ns (N v))) fr rt ky up fl fp u (nc (N u)) hu (by omega)) cv_Tree_kid ml_Tree_65 d_Tree_toRight_154 ⟨by omega, by decide⟩ tw_rcv ⟨rfl, rfl⟩ rfl ?_
        rintro _ _ ⟨rfl, rfl⟩
        rw [un_ne huv]
        refine v_ws rfl ?_
        refine v_iast C (ws' := (tw kA h a (sC (un N v (va_up f 0 (nK (N n) q)) g (nc (N v)) (nl (N v)) (nx (N v)) (ns (N v))) v 0 (nC (N u) (nc (N u)))) fr rt ky up fl fp)) (tw_sC) (by omega) (by decide) d_Tree_toRight_157 (fun j _ => kidsF_sC (by omega) j) ?_
        rw [sC_un]
        refine v_aload_n C d_Tree_toRight_158 rfl ?_
        refine v_iload_n C d_Tree_toRight_159 rfl ?_
        refine v_iload C d_Tree_toRight_160 rfl ?_
        refine v_iload_n C d_Tree_toRight_162 rfl ?_
        refine v_iload_n C d_Tree_toRight_163 rfl ?_
        refine v_cV C (As := [.int (nI u), .int (nI (nc (N u) - 1)), .int (nI n), .int (nI q)]) (st := []) (c_Tree_copy l D kA h a (un N v (va_up f 0 (nK (N n) q)) (va_up g 0 (nC (N u) (nc (N u)))) (nc (N v)) (nl (N v)) (nx (N v)) (ns (N v))) fr rt ky up fl fp u (nc (N u) - 1) n q hu (by omega) hn (by omega)) cv_Tree_copy ml_Tree_81 d_Tree_toRight_164 ⟨by omega, by decide⟩ tw_rcv ⟨rfl, rfl⟩ rfl ?_
        rintro _ rfl
        simp only [un_ne huv]
        refine v_aload_n C d_Tree_toRight_167 rfl ?_
        refine v_getf C i_Tree (ci := 0) rfl 5 (by decide) (List.mem_of_getElem? (i := 0) rfl) fl_Tree_28 d_Tree_toRight_168 (.ref (a 5)) rfl ?_
        refine v_aload_n C d_Tree_toRight_171 rfl ?_
        refine v_iload C d_Tree_toRight_172 rfl ?_
        refine v_iconst C d_Tree_toRight_174 (nI 0) (by decide) ?_
        refine v_cI C (As := [.int (nI v), .int (nI 0)]) (st := [.ref (a 5)]) (c_Tree_kid l D kA h a (sK (un N v (va_up f 0 (nK (N n) q)) (va_up g 0 (nC (N u) (nc (N u)))) (nc (N v)) (nl (N v)) (nx (N v)) (ns (N v))) n q (nK (N u) (nc (N u) - 1))) fr rt ky up fl fp v 0 hv (by omega)) cv_Tree_kid ml_Tree_65 d_Tree_toRight_175 ⟨by omega, by decide⟩ tw_rcv ⟨rfl, rfl⟩ rfl ?_
        rintro _ _ ⟨rfl, rfl⟩
        rw [show nC ((sK (un N v (va_up f 0 (nK (N n) q)) (va_up g 0 (nC (N u) (nc (N u)))) (nc (N v)) (nl (N v)) (nx (N v)) (ns (N v))) n q (nK (N u) (nc (N u) - 1))) v) 0 = nC (N u) (nc (N u)) by simp only [sK, sC, sc, sl, sx, ss, un, uN_self, nK_nd, nC_nd, nc_nd, nl_nd, nx_nd, ns_nd, uN_ne hnu, uN_ne hnu.symm, uN_ne hnv, uN_ne hnv.symm, uN_ne huv, uN_ne huv.symm, va_up, if_true]]
        refine v_iald C (List.mem_of_getElem? (i := 6) rfl) (hw.1) (by decide) d_Tree_toRight_178 (nI (ns (N (nC (N u) (nc (N u)))))) (by simp only [sizF, sK, sC, sc, sl, sx, ss, un, uN_self, nK_nd, nC_nd, nc_nd, nl_nd, nx_nd, ns_nd, uN_ne hw.2.1, uN_ne hw.2.2.2]) ?_
        refine v_istore C d_Tree_toRight_179 ⟨Nat.le_of_ble_eq_true rfl, Nat.le_of_ble_eq_true rfl⟩ [.ref h, .int (nI n), .int (nI q), .int (nI u), .int (nI v), .int (nI (nc (N u) - 1)), .int (nI (ns (N (nC (N u) (nc (N u))))))] rfl ?_
        refine v_aload_n C d_Tree_toRight_181 rfl ?_
        refine v_getf C i_Tree (ci := 0) rfl 2 (by decide) (List.mem_of_getElem? (i := 0) rfl) fl_Tree_18 d_Tree_toRight_182 (.ref (a 2)) rfl ?_
        refine v_iload_n C d_Tree_toRight_185 rfl ?_
        refine v_dup2 C d_Tree_toRight_186 rfl rfl ?_
        refine v_iald C (List.mem_of_getElem? (i := 3) rfl) (by omega) (by decide) d_Tree_toRight_187 (nI (nc (N u))) (by simp only [cntF, sK, sC, sc, sl, sx, ss, un, uN_self, nK_nd, nC_nd, nc_nd, nl_nd, nx_nd, ns_nd, uN_ne hnu, uN_ne hnu.symm, uN_ne hnv, uN_ne hnv.symm, uN_ne huv, uN_ne huv.symm]) ?_
        refine v_iconst C d_Tree_toRight_188 (nI 1) (by decide) ?_
        refine v_isub C d_Tree_toRight_189 (by omega) ?_
        refine v_iast C (ws' := (tw kA h a (sc (sK (un N v (va_up f 0 (nK (N n) q)) (va_up g 0 (nC (N u) (nc (N u)))) (nc (N v)) (nl (N v)) (nx (N v)) (ns (N v))) n q (nK (N u) (nc (N u) - 1))) u (nc (N u) - 1)) fr rt ky up fl fp)) (tw_sc) (by omega) (by decide) d_Tree_toRight_190 (fun j _ => cntF_sc j) ?_
        refine v_aload_n C d_Tree_toRight_191 rfl ?_
        refine v_getf C i_Tree (ci := 0) rfl 2 (by decide) (List.mem_of_getElem? (i := 0) rfl) fl_Tree_18 d_Tree_toRight_192 (.ref (a 2)) rfl ?_
        refine v_iload C d_Tree_toRight_195 rfl ?_
        refine v_dup2 C d_Tree_toRight_197 rfl rfl ?_
        refine v_iald C (List.mem_of_getElem? (i := 3) rfl) (by omega) (by decide) d_Tree_toRight_198 (nI (nc (N v))) (by simp only [cntF, sK, sC, sc, sl, sx, ss, un, uN_self, nK_nd, nC_nd, nc_nd, nl_nd, nx_nd, ns_nd, uN_ne hnu, uN_ne hnu.symm, uN_ne hnv, uN_ne hnv.symm, uN_ne huv, uN_ne huv.symm]) ?_
        refine v_iconst C d_Tree_toRight_199 (nI 1) (by decide) ?_
        refine v_iadd C d_Tree_toRight_200 ?_
        refine v_iast C (ws' := (tw kA h a (sc (sc (sK (un N v (va_up f 0 (nK (N n) q)) (va_up g 0 (nC (N u) (nc (N u)))) (nc (N v)) (nl (N v)) (nx (N v)) (ns (N v))) n q (nK (N u) (nc (N u) - 1))) u (nc (N u) - 1)) v (nc (N v) + 1)) fr rt ky up fl fp)) (tw_sc) (by omega) (by decide) d_Tree_toRight_201 (fun j _ => cntF_sc j) ?_
        refine v_aload_n C d_Tree_toRight_202 rfl ?_
        refine v_getf C i_Tree (ci := 0) rfl 5 (by decide) (List.mem_of_getElem? (i := 0) rfl) fl_Tree_28 d_Tree_toRight_203 (.ref (a 5)) rfl ?_
        refine v_iload_n C d_Tree_toRight_206 rfl ?_
        refine v_dup2 C d_Tree_toRight_207 rfl rfl ?_
        refine v_iald C (List.mem_of_getElem? (i := 6) rfl) (by omega) (by decide) d_Tree_toRight_208 (nI (ns (N u))) (by simp only [sizF, sK, sC, sc, sl, sx, ss, un, uN_self, nK_nd, nC_nd, nc_nd, nl_nd, nx_nd, ns_nd, uN_ne hnu, uN_ne hnu.symm, uN_ne hnv, uN_ne hnv.symm, uN_ne huv, uN_ne huv.symm]) ?_
        refine v_iload C d_Tree_toRight_209 rfl ?_
        refine v_isub C d_Tree_toRight_211 (by omega) ?_
        refine v_iast C (ws' := (tw kA h a (ss (sc (sc (sK (un N v (va_up f 0 (nK (N n) q)) (va_up g 0 (nC (N u) (nc (N u)))) (nc (N v)) (nl (N v)) (nx (N v)) (ns (N v))) n q (nK (N u) (nc (N u) - 1))) u (nc (N u) - 1)) v (nc (N v) + 1)) u (ns (N u) - (ns (N (nC (N u) (nc (N u))))))) fr rt ky up fl fp)) (tw_ss) (by omega) (by decide) d_Tree_toRight_212 (fun j _ => sizF_ss j) ?_
        refine v_aload_n C d_Tree_toRight_213 rfl ?_
        refine v_getf C i_Tree (ci := 0) rfl 5 (by decide) (List.mem_of_getElem? (i := 0) rfl) fl_Tree_28 d_Tree_toRight_214 (.ref (a 5)) rfl ?_
        refine v_iload C d_Tree_toRight_217 rfl ?_
        refine v_dup2 C d_Tree_toRight_219 rfl rfl ?_
        refine v_iald C (List.mem_of_getElem? (i := 6) rfl) (by omega) (by decide) d_Tree_toRight_220 (nI (ns (N v))) (by simp only [sizF, sK, sC, sc, sl, sx, ss, un, uN_self, nK_nd, nC_nd, nc_nd, nl_nd, nx_nd, ns_nd, uN_ne hnu, uN_ne hnu.symm, uN_ne hnv, uN_ne hnv.symm, uN_ne huv, uN_ne huv.symm]) ?_
        refine v_iload C d_Tree_toRight_221 rfl ?_
        refine v_iadd C d_Tree_toRight_223 ?_
        refine v_iast C (ws' := (tw kA h a (ss (ss (sc (sc (sK (un N v (va_up f 0 (nK (N n) q)) (va_up g 0 (nC (N u) (nc (N u)))) (nc (N v)) (nl (N v)) (nx (N v)) (ns (N v))) n q (nK (N u) (nc (N u) - 1))) u (nc (N u) - 1)) v (nc (N v) + 1)) u (ns (N u) - (ns (N (nC (N u) (nc (N u))))))) v (ns (N v) + (ns (N (nC (N u) (nc (N u))))))) fr rt ky up fl fp)) (tw_ss) (by omega) (by decide) d_Tree_toRight_224 (fun j _ => sizF_ss j) ?_
        have ef : va_up f 0 (nK (N n) q) = (fun i => if i = 0 then nK (N n) q else if i ≤ nc (N v) then nK (N v) (i - 1) else nK (N v) i) := by
          funext i; simp only [va_up, hf]; repeat' split
          all_goals first | rfl | (exfalso; omega) | (congr 1 <;> omega)
        have eg : va_up g 0 (nC (N u) (nc (N u))) = (fun i => if i = 0 then nC (N u) (nc (N u)) else if i ≤ nc (N v) + 1 then nC (N v) (i - 1) else nC (N v) i) := by
          funext i; simp only [va_up, hg]; repeat' split
          all_goals first | rfl | (exfalso; omega) | (congr 1 <;> omega)
        exact v_vret C rfl d_Tree_toRight_225 (⟨rfl, _, rfl, by simp only [sK, sC, sc, sl, sx, ss, un, uN_self, nK_nd, nC_nd, nc_nd, nl_nd, nx_nd, ns_nd, uN_ne hnu, uN_ne hnu.symm, uN_ne hnv, uN_ne hnv.symm, uN_ne huv, uN_ne huv.symm], by simp only [sK, sC, sc, sl, sx, ss, un, uN_self, nK_nd, nC_nd, nc_nd, nl_nd, nx_nd, ns_nd, uN_ne hnu, uN_ne hnu.symm, uN_ne hnv, uN_ne hnv.symm, uN_ne huv, uN_ne huv.symm], by simp only [sK, sC, sc, sl, sx, ss, un, uN_self, nK_nd, nC_nd, nc_nd, nl_nd, nx_nd, ns_nd, uN_ne hnu, uN_ne hnu.symm, uN_ne hnv, uN_ne hnv.symm, uN_ne huv, uN_ne huv.symm]; rw [ef, eg], fun z h1 h2 h3 => by simp only [sK, sC, sc, sl, sx, ss, un, uN_self, nK_nd, nC_nd, nc_nd, nl_nd, nx_nd, ns_nd, uN_ne h1, uN_ne h2, uN_ne h3]⟩)
      · have ck0 : 0 < k := Nat.pos_of_ne_zero (fun z => ck (by rw [z]; decide))
        refine v_aload_n C d_Tree_toRight_60 rfl ?_
        refine v_getf C i_Tree (ci := 0) rfl 1 (by decide) (List.mem_of_getElem? (i := 0) rfl) fl_Tree_15 d_Tree_toRight_61 (.ref (a 1)) rfl ?_
        refine v_bipush C d_Tree_toRight_64 (nI 11) (by decide) ?_
        refine v_iload C d_Tree_toRight_66 rfl ?_
        refine v_imul C d_Tree_toRight_68 ?_
        refine v_iload C d_Tree_toRight_69 rfl ?_
        refine v_iadd C d_Tree_toRight_71 ?_
        refine v_top (y := nI (11 * v + k)) (congrArg nI (show (11 * v) + k = 11 * v + k from by omega)) ?_
        refine v_aload_n C d_Tree_toRight_72 rfl ?_
        refine v_getf C i_Tree (ci := 0) rfl 1 (by decide) (List.mem_of_getElem? (i := 0) rfl) fl_Tree_15 d_Tree_toRight_73 (.ref (a 1)) rfl ?_
        refine v_bipush C d_Tree_toRight_76 (nI 11) (by decide) ?_
        refine v_iload C d_Tree_toRight_78 rfl ?_
        refine v_imul C d_Tree_toRight_80 ?_
        refine v_iload C d_Tree_toRight_81 rfl ?_
        refine v_iadd C d_Tree_toRight_83 ?_
        refine v_iconst C d_Tree_toRight_84 (nI 1) (by decide) ?_
        refine v_isub C d_Tree_toRight_85 (by omega) ?_
        refine v_top (y := nI (11 * v + (k - 1))) (congrArg nI (show ((11 * v) + k) - 1 = 11 * v + (k - 1) from by omega)) ?_
        refine v_iald C (List.mem_of_getElem? (i := 2) rfl) (by omega) (by decide) d_Tree_toRight_86 (nI (g (k - 1))) ((kidsF_at (by omega)).trans (congrArg (fun z => nI (nC z (k - 1))) un_at)) ?_
        refine v_iast C (ws' := (tw kA h a (sC (un N v f g (nc (N v)) (nl (N v)) (nx (N v)) (ns (N v))) v k (g (k - 1))) fr rt ky up fl fp)) (tw_sC) (by omega) (by decide) d_Tree_toRight_87 (fun j _ => kidsF_sC (by omega) j) ?_
        rw [sC_un]
        refine v_iinc C d_Tree_toRight_88 rfl ⟨Nat.le_of_ble_eq_true rfl, Nat.le_of_ble_eq_true rfl⟩ (nI (k - 1)) (dec1 (by omega)) [.ref h, .int (nI n), .int (nI q), .int (nI u), .int (nI v), .int (nI (nc (N u) - 1)), .int (nI (k - 1))] rfl ?_
        refine v_goto C d_Tree_toRight_91 55 (by decide) ?_
        refine ih (k - 1) _ _ (by omega) (by omega) hf ?_
        intro i; simp only [va_up, hg]; repeat' split
        all_goals first | rfl | (exfalso; omega) | (congr 1 <;> omega)
  have lp : ∀ (t : Nat) (k : Nat) (f : Nat → Nat), k < t → k ≤ nc (N v) → (∀ i, f i = if k < i ∧ i ≤ nc (N v) then nK (N v) (i - 1) else nK (N v) i) → V p l e (rmk 3) s m args below meth c D (qA (tw kA h a N fr rt ky up fl fp)) 7 0 0 (MQ below (QC D (tw kA h a N fr rt ky up fl fp) (pV fun w => ∃ N', w = tw kA h a N' fr rt ky up fl fp ∧ N' n = nd (va_up (nK (N n)) q (nK (N u) (nc (N u) - 1))) (nC (N n)) (nc (N n)) (nl (N n)) (nx (N n)) (ns (N n)) ∧ N' u = nd (nK (N u)) (nC (N u)) (nc (N u) - 1) (nl (N u)) (nx (N u)) (ns (N u) - (ns (N (nC (N u) (nc (N u)))))) ∧ N' v = nd (fun i => if i = 0 then nK (N n) q else if i ≤ nc (N v) then nK (N v) (i - 1) else nK (N v) i) (fun i => if i = 0 then nC (N u) (nc (N u)) else if i ≤ nc (N v) + 1 then nC (N v) (i - 1) else nC (N v) i) (nc (N v) + 1) (nl (N v)) (nx (N v)) (ns (N v) + (ns (N (nC (N u) (nc (N u)))))) ∧ ∀ z, z ≠ n → z ≠ u → z ≠ v → N' z = N z)) args s 0 0 (qA (tw kA h a N fr rt ky up fl fp))) 19 [.ref h, .int (nI n), .int (nI q), .int (nI u), .int (nI v), .int (nI (nc (N u) - 1)), .int (nI k)] [] (tw kA h a (un N v f (nC (N v)) (nc (N v)) (nl (N v)) (nx (N v)) (ns (N v))) fr rt ky up fl fp) := by
    intro t
    induction t with
    | zero => intro k f hk; omega
    | succ t ih =>
      intro k f hk hk2 hf
      refine v_iload C d_Tree_toRight_19 rfl ?_
      refine v_if_leR C d_Tree_toRight_21 44 (by decide) (fun ck => ?_) (fun ck => ?_)
      · obtain rfl : k = 0 := Nat.eq_zero_of_not_pos (fun z => nI_nle z (by omega) ck)
        refine v_aload_n C d_Tree_toRight_44 rfl ?_
        refine v_getf C i_Tree (ci := 0) rfl 2 (by decide) (List.mem_of_getElem? (i := 0) rfl) fl_Tree_18 d_Tree_toRight_45 (.ref (a 2)) rfl ?_
        refine v_iload C d_Tree_toRight_48 rfl ?_
        refine v_iald C (List.mem_of_getElem? (i := 3) rfl) (by omega) (by decide) d_Tree_toRight_50 (nI (nc (N v))) (congrArg (fun z => nI (nc z)) un_at) ?_
        refine v_iconst C d_Tree_toRight_51 (nI 1) (by decide) ?_
        refine v_iadd C d_Tree_toRight_52 ?_
        refine v_istore C d_Tree_toRight_53 ⟨Nat.le_of_ble_eq_true rfl, Nat.le_of_ble_eq_true rfl⟩ [.ref h, .int (nI n), .int (nI q), .int (nI u), .int (nI v), .int (nI (nc (N u) - 1)), .int (nI ((nc (N v)) + 1))] rfl ?_
        exact lp2 (nc (N v) + 2) (nc (N v) + 1) f _ (by omega) (by omega) hf (fun i => by rw [if_neg (by omega)])
      · have ck0 : 0 < k := Nat.pos_of_ne_zero (fun z => ck (by rw [z]; decide))
        refine v_aload_n C d_Tree_toRight_24 rfl ?_
        refine v_iload C d_Tree_toRight_25 rfl ?_
        refine v_iload C d_Tree_toRight_27 rfl ?_
        refine v_iconst C d_Tree_toRight_29 (nI 1) (by decide) ?_
        refine v_isub C d_Tree_toRight_30 (by omega) ?_
        refine v_iload C d_Tree_toRight_31 rfl ?_
        refine v_iload C d_Tree_toRight_33 rfl ?_
        refine v_cV C (As := [.int (nI v), .int (nI (k - 1)), .int (nI v), .int (nI k)]) (st := []) (c_Tree_copy l D kA h a (un N v f (nC (N v)) (nc (N v)) (nl (N v)) (nx (N v)) (ns (N v))) fr rt ky up fl fp v (k - 1) v k hv (by omega) hv (by omega)) cv_Tree_copy ml_Tree_81 d_Tree_toRight_35 ⟨by omega, by decide⟩ tw_rcv ⟨rfl, rfl⟩ rfl ?_
        rintro _ rfl
        simp only [un_at, nK_nd, sK_un]
        refine v_iinc C d_Tree_toRight_38 rfl ⟨Nat.le_of_ble_eq_true rfl, Nat.le_of_ble_eq_true rfl⟩ (nI (k - 1)) (dec1 (by omega)) [.ref h, .int (nI n), .int (nI q), .int (nI u), .int (nI v), .int (nI (nc (N u) - 1)), .int (nI (k - 1))] rfl ?_
        refine v_goto C d_Tree_toRight_41 19 (by decide) ?_
        refine ih (k - 1) _ (by omega) (by omega) ?_
        intro i; simp only [va_up, hf]; repeat' split
        all_goals first | rfl | (exfalso; omega) | (congr 1 <;> omega)
  have z := lp (nc (N v) + 1) (nc (N v)) (nK (N v)) (by omega) (by omega) (fun i => by rw [if_neg (by omega)])
  rw [un_id] at z
  exact z
