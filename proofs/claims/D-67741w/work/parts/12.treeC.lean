theorem dc_cp {N : Nat → Nd} {n k up : Nat} (hk : k < 9) (j : Nat) (hj : j < 3) : dc (nK (N n) k) j = va_cpy (keysF N) (dc up) (27 * n + 3 * k) 0 3 j := by
  unfold va_cpy
  rw [if_pos ⟨Nat.zero_le _, by omega⟩, Nat.sub_zero, keysF_at hk hj]

set_option maxHeartbeats 4000000 in
set_option maxRecDepth 20000 in
theorem c_Tree_partLeaf (l : Launch) (D : va_G) (kA : Nat → ClassId) (h : Nat) (a : Nat → Nat) (N : Nat → Nd) (fr rt ky up fl fp : Nat) (n : Nat) (hn : n < 500) (hfr : fr < 500) (hne : n ≠ fr) : Ct l D kA 2 y_Tree_partLeaf b_Tree_partLeaf 5 (some .int) [.ref h, .int (nI n)] (tw kA h a N fr rt ky up fl fp) (pI fun x w => x = nI fr ∧ ∃ N', w = tw kA h a N' (nx (N fr)) rt ky (nK (N n) 4) fl fp ∧ N' n = nd (nK (N n)) (nC (N n)) 4 (nl (N n)) fr 4 ∧ N' fr = nd (fun i => if i < 4 then nK (N n) (i + 4) else nK (N fr) i) (nC (N fr)) 4 1 (nx (N n)) 4 ∧ ∀ q, q ≠ n → q ≠ fr → N' q = N q) := by
  refine ct_of (by decide) (Nat.le_of_ble_eq_true rfl) rfl ?_
  intro p e s m args below meth c C
  refine v_aload_n C d_Tree_partLeaf_0 rfl ?_
  refine v_iconst C d_Tree_partLeaf_1 (nI 1) (by decide) ?_
  refine v_cI C (As := [.int (nI 1)]) (st := []) (c_Tree_make l D kA h a N fr rt ky up fl fp 1 hfr (by omega)) cv_Tree_make ml_Tree_41 d_Tree_partLeaf_2 ⟨by omega, by decide⟩ tw_rcv ⟨rfl, rfl⟩ rfl ?_
  rintro _ _ ⟨rfl, rfl⟩
  rw [show uN N fr (nd (nK (N fr)) (nC (N fr)) 0 1 NONE 0) = un N fr (nK (N fr)) (nC (N fr)) 0 1 NONE 0 from rfl]
  refine v_istore_n C d_Tree_partLeaf_5 ⟨Nat.le_of_ble_eq_true rfl, Nat.le_of_ble_eq_true rfl⟩ [.ref h, .int (nI n), .int (nI fr)] rfl ?_
  refine v_iconst C d_Tree_partLeaf_6 (nI 4) (by decide) ?_
  refine v_istore_n C d_Tree_partLeaf_7 ⟨Nat.le_of_ble_eq_true rfl, Nat.le_of_ble_eq_true rfl⟩ [.ref h, .int (nI n), .int (nI fr), .int (nI 4)] rfl ?_
  refine v_iload_n C d_Tree_partLeaf_8 rfl ?_
  refine v_istore C d_Tree_partLeaf_9 ⟨Nat.le_of_ble_eq_true rfl, Nat.le_of_ble_eq_true rfl⟩ [.ref h, .int (nI n), .int (nI fr), .int (nI 4), .int (nI 4)] rfl ?_
  have lp : ∀ (t : Nat) (k : Nat) (f : Nat → Nat), 8 - k < t → 4 ≤ k → k ≤ 8 → (∀ i, f i = if i + 4 < k then nK (N n) (i + 4) else nK (N fr) i) → V p l e (rmk 2) s m args below meth c D (qA (tw kA h a N fr rt ky up fl fp)) 5 0 0 (MQ below (QC D (tw kA h a N fr rt ky up fl fp) (pI fun x w => x = nI fr ∧ ∃ N', w = tw kA h a N' (nx (N fr)) rt ky (nK (N n) 4) fl fp ∧ N' n = nd (nK (N n)) (nC (N n)) 4 (nl (N n)) fr 4 ∧ N' fr = nd (fun i => if i < 4 then nK (N n) (i + 4) else nK (N fr) i) (nC (N fr)) 4 1 (nx (N n)) 4 ∧ ∀ q, q ≠ n → q ≠ fr → N' q = N q)) args s 0 0 (qA (tw kA h a N fr rt ky up fl fp))) 11 [.ref h, .int (nI n), .int (nI fr), .int (nI 4), .int (nI k)] [] (tw kA h a (un N fr f (nC (N fr)) 0 1 NONE 0) (nx (N fr)) rt ky up fl fp) := by
    intro t
    induction t with
    | zero => intro k f hk; omega
    | succ t ih =>
      intro k f hk hk4 hk8 hf
      refine v_iload C d_Tree_partLeaf_11 rfl ?_
      refine v_bipush C d_Tree_partLeaf_13 (nI 8) (by decide) ?_
      refine v_icmp_ge C d_Tree_partLeaf_15 36 (by decide) (by omega) (by omega) (fun ck => ?_) (fun ck => ?_)
      · obtain rfl : k = 8 := by omega
        refine v_aload_n C d_Tree_partLeaf_36 rfl ?_
        refine v_getf C i_Tree (ci := 0) rfl 2 (by decide) (List.mem_of_getElem? (i := 0) rfl) fl_Tree_18 d_Tree_partLeaf_37 (.ref (a 2)) rfl ?_
        refine v_iload_n C d_Tree_partLeaf_40 rfl ?_
        refine v_bipush C d_Tree_partLeaf_41 (nI 8) (by decide) ?_
        refine v_iload_n C d_Tree_partLeaf_43 rfl ?_
        refine v_isub C d_Tree_partLeaf_44 (by omega) ?_
        refine v_top (y := nI 4) (congrArg nI (show 8 - 4 = 4 from rfl)) ?_
        refine v_iast C (ws' := (tw kA h a (sc (un N fr f (nC (N fr)) 0 1 NONE 0) fr 4) (nx (N fr)) rt ky up fl fp)) (tw_sc) (by omega) (by decide) d_Tree_partLeaf_45 (fun j _ => cntF_sc j) ?_
        rw [sc_un]
        refine v_aload_n C d_Tree_partLeaf_46 rfl ?_
        refine v_getf C i_Tree (ci := 0) rfl 2 (by decide) (List.mem_of_getElem? (i := 0) rfl) fl_Tree_18 d_Tree_partLeaf_47 (.ref (a 2)) rfl ?_
        refine v_iload_n C d_Tree_partLeaf_50 rfl ?_
        refine v_iload_n C d_Tree_partLeaf_51 rfl ?_
        refine v_iast C (ws' := (tw kA h a (sc (un N fr f (nC (N fr)) 4 1 NONE 0) n 4) (nx (N fr)) rt ky up fl fp)) (tw_sc) (by omega) (by decide) d_Tree_partLeaf_52 (fun j _ => cntF_sc j) ?_
        refine v_aload_n C d_Tree_partLeaf_53 rfl ?_
        refine v_getf C i_Tree (ci := 0) rfl 5 (by decide) (List.mem_of_getElem? (i := 0) rfl) fl_Tree_28 d_Tree_partLeaf_54 (.ref (a 5)) rfl ?_
        refine v_iload_n C d_Tree_partLeaf_57 rfl ?_
        refine v_aload_n C d_Tree_partLeaf_58 rfl ?_
        refine v_getf C i_Tree (ci := 0) rfl 2 (by decide) (List.mem_of_getElem? (i := 0) rfl) fl_Tree_18 d_Tree_partLeaf_59 (.ref (a 2)) rfl ?_
        refine v_iload_n C d_Tree_partLeaf_62 rfl ?_
        refine v_iald C (List.mem_of_getElem? (i := 3) rfl) (by omega) (by decide) d_Tree_partLeaf_63 (nI 4) (by simp only [cntF, sK, sC, sc, sl, sx, ss, un, uN_self, nK_nd, nC_nd, nc_nd, nl_nd, nx_nd, ns_nd, uN_ne hne, uN_ne hne.symm]) ?_
        refine v_iast C (ws' := (tw kA h a (ss (sc (un N fr f (nC (N fr)) 4 1 NONE 0) n 4) fr 4) (nx (N fr)) rt ky up fl fp)) (tw_ss) (by omega) (by decide) d_Tree_partLeaf_64 (fun j _ => sizF_ss j) ?_
        refine v_aload_n C d_Tree_partLeaf_65 rfl ?_
        refine v_getf C i_Tree (ci := 0) rfl 5 (by decide) (List.mem_of_getElem? (i := 0) rfl) fl_Tree_28 d_Tree_partLeaf_66 (.ref (a 5)) rfl ?_
        refine v_iload_n C d_Tree_partLeaf_69 rfl ?_
        refine v_iload_n C d_Tree_partLeaf_70 rfl ?_
        refine v_iast C (ws' := (tw kA h a (ss (ss (sc (un N fr f (nC (N fr)) 4 1 NONE 0) n 4) fr 4) n 4) (nx (N fr)) rt ky up fl fp)) (tw_ss) (by omega) (by decide) d_Tree_partLeaf_71 (fun j _ => sizF_ss j) ?_
        refine v_aload_n C d_Tree_partLeaf_72 rfl ?_
        refine v_getf C i_Tree (ci := 0) rfl 4 (by decide) (List.mem_of_getElem? (i := 0) rfl) fl_Tree_25 d_Tree_partLeaf_73 (.ref (a 4)) rfl ?_
        refine v_iload_n C d_Tree_partLeaf_76 rfl ?_
        refine v_aload_n C d_Tree_partLeaf_77 rfl ?_
        refine v_getf C i_Tree (ci := 0) rfl 4 (by decide) (List.mem_of_getElem? (i := 0) rfl) fl_Tree_25 d_Tree_partLeaf_78 (.ref (a 4)) rfl ?_
        refine v_iload_n C d_Tree_partLeaf_81 rfl ?_
        refine v_iald C (List.mem_of_getElem? (i := 5) rfl) (by omega) (by decide) d_Tree_partLeaf_82 (nI (nx (N n))) (by simp only [nxtF, sK, sC, sc, sl, sx, ss, un, uN_self, nK_nd, nC_nd, nc_nd, nl_nd, nx_nd, ns_nd, uN_ne hne, uN_ne hne.symm]) ?_
        refine v_iast C (ws' := (tw kA h a (sx (ss (ss (sc (un N fr f (nC (N fr)) 4 1 NONE 0) n 4) fr 4) n 4) fr (nx (N n))) (nx (N fr)) rt ky up fl fp)) (tw_sx) (by omega) (by decide) d_Tree_partLeaf_83 (fun j _ => nxtF_sx j) ?_
        refine v_aload_n C d_Tree_partLeaf_84 rfl ?_
        refine v_getf C i_Tree (ci := 0) rfl 4 (by decide) (List.mem_of_getElem? (i := 0) rfl) fl_Tree_25 d_Tree_partLeaf_85 (.ref (a 4)) rfl ?_
        refine v_iload_n C d_Tree_partLeaf_88 rfl ?_
        refine v_iload_n C d_Tree_partLeaf_89 rfl ?_
        refine v_iast C (ws' := (tw kA h a (sx (sx (ss (ss (sc (un N fr f (nC (N fr)) 4 1 NONE 0) n 4) fr 4) n 4) fr (nx (N n))) n fr) (nx (N fr)) rt ky up fl fp)) (tw_sx) (by omega) (by decide) d_Tree_partLeaf_90 (fun j _ => nxtF_sx j) ?_
        refine v_aload_n C d_Tree_partLeaf_91 rfl ?_
        refine v_getf C i_Tree (ci := 0) rfl 0 (by decide) (List.mem_of_getElem? (i := 0) rfl) fl_Tree_9 d_Tree_partLeaf_92 (.ref (a 0)) rfl ?_
        refine v_aload_n C d_Tree_partLeaf_95 rfl ?_
        refine v_iload_n C d_Tree_partLeaf_96 rfl ?_
        refine v_iconst C d_Tree_partLeaf_97 (nI 0) (by decide) ?_
        refine v_cI C (As := [.int (nI fr), .int (nI 0)]) (st := [.ref (a 0)]) (c_Tree_place l D kA h a (sx (sx (ss (ss (sc (un N fr f (nC (N fr)) 4 1 NONE 0) n 4) fr 4) n 4) fr (nx (N n))) n fr) (nx (N fr)) rt ky up fl fp fr 0) cv_Tree_place ml_Tree_48 d_Tree_partLeaf_98 ⟨by omega, by decide⟩ tw_rcv ⟨rfl, rfl⟩ rfl ?_
        rintro _ _ ⟨rfl, rfl⟩
        refine v_aload_n C d_Tree_partLeaf_101 rfl ?_
        refine v_getf C i_Tree (ci := 0) rfl 9 (by decide) (List.mem_of_getElem? (i := 0) rfl) fl_Tree_34 d_Tree_partLeaf_102 (.ref (a 7)) rfl ?_
        refine v_iconst C d_Tree_partLeaf_105 (nI 0) (by decide) ?_
        refine v_iconst C d_Tree_partLeaf_106 (nI 3) (by decide) ?_
        refine v_cpy C (ws' := (tw kA h a (sx (sx (ss (ss (sc (un N fr f (nC (N fr)) 4 1 NONE 0) n 4) fr 4) n 4) fr (nx (N n))) n fr) (nx (N fr)) rt ky (nK ((sx (sx (ss (ss (sc (un N fr f (nC (N fr)) 4 1 NONE 0) n 4) fr 4) n 4) fr (nx (N n))) n fr) fr) 0) fl fp)) ml_Tree_52 ⟨by decide, by decide⟩ (by decide) (fun v hv => absurd hv List.not_mem_nil) (List.mem_of_getElem? (i := 1) rfl) ⟨8, rfl, rfl⟩ (by omega) (by omega) (by decide) (by decide) d_Tree_partLeaf_107 (fun j hj => dc_cp (by omega) j hj) ?_
        refine v_iload_n C d_Tree_partLeaf_110 rfl ?_
        have eu : (nK ((sx (sx (ss (ss (sc (un N fr f (nC (N fr)) 4 1 NONE 0) n 4) fr 4) n 4) fr (nx (N n))) n fr) fr) 0) = nK (N n) 4 := by simp only [sK, sC, sc, sl, sx, ss, un, uN_self, nK_nd, nC_nd, nc_nd, nl_nd, nx_nd, ns_nd, uN_ne hne, uN_ne hne.symm]; rw [hf]; rfl
        rw [eu]
        exact v_iret C rfl d_Tree_partLeaf_111 (⟨_, rfl, rfl, _, rfl, by simp only [sK, sC, sc, sl, sx, ss, un, uN_self, nK_nd, nC_nd, nc_nd, nl_nd, nx_nd, ns_nd, uN_ne hne, uN_ne hne.symm], by simp only [sK, sC, sc, sl, sx, ss, un, uN_self, nK_nd, nC_nd, nc_nd, nl_nd, nx_nd, ns_nd, uN_ne hne, uN_ne hne.symm]; rw [show f = fun i => if i < 4 then nK (N n) (i + 4) else nK (N fr) i from funext fun i => by rw [hf]; simp only [show (i + 4 < 8) = (i < 4) from propext ⟨fun _ => by omega, fun _ => by omega⟩]], fun q h1 h2 => by simp only [sK, sC, sc, sl, sx, ss, un, uN_self, nK_nd, nC_nd, nc_nd, nl_nd, nx_nd, ns_nd, uN_ne h1, uN_ne h2]⟩)
      · refine v_aload_n C d_Tree_partLeaf_18 rfl ?_
        refine v_iload_n C d_Tree_partLeaf_19 rfl ?_
        refine v_iload C d_Tree_partLeaf_20 rfl ?_
        refine v_iload_n C d_Tree_partLeaf_22 rfl ?_
        refine v_iload C d_Tree_partLeaf_23 rfl ?_
        refine v_iload_n C d_Tree_partLeaf_25 rfl ?_
        refine v_isub C d_Tree_partLeaf_26 (by omega) ?_
        refine v_cV C (As := [.int (nI n), .int (nI k), .int (nI fr), .int (nI (k - 4))]) (st := []) (c_Tree_copy l D kA h a (un N fr f (nC (N fr)) 0 1 NONE 0) (nx (N fr)) rt ky up fl fp n k fr (k - 4) hn (by omega) hfr (by omega)) cv_Tree_copy ml_Tree_81 d_Tree_partLeaf_27 ⟨by omega, by decide⟩ tw_rcv ⟨rfl, rfl⟩ rfl ?_
        rintro _ rfl
        simp only [un_ne hne, sK_un]
        refine v_iinc C d_Tree_partLeaf_30 rfl ⟨Nat.le_of_ble_eq_true rfl, Nat.le_of_ble_eq_true rfl⟩ (nI (k + 1)) (inc1 _) [.ref h, .int (nI n), .int (nI fr), .int (nI 4), .int (nI (k + 1))] rfl ?_
        refine v_goto C d_Tree_partLeaf_33 11 (by decide) ?_
        refine ih (k + 1) _ (by omega) (by omega) (by omega) ?_
        intro i; simp only [va_up, hf]; repeat' split
        all_goals first | rfl | (exfalso; omega) | (congr 1; omega)
  exact lp 9 4 _ (by omega) (by omega) (by omega) (fun i => by rw [if_neg (by omega)])

set_option maxHeartbeats 4000000 in
set_option maxRecDepth 20000 in
theorem c_Tree_partNode (l : Launch) (D : va_G) (kA : Nat → ClassId) (h : Nat) (a : Nat → Nat) (N : Nat → Nd) (fr rt ky up fl fp : Nat) (n : Nat) (hn : n < 500) (hfr : fr < 500) (hne : n ≠ fr) (hC : ∀ k, k ≤ 8 → nC (N n) k < 500 ∧ nC (N n) k ≠ n ∧ nC (N n) k ≠ fr) : Ct l D kA 2 y_Tree_partNode b_Tree_partNode 5 (some .int) [.ref h, .int (nI n)] (tw kA h a N fr rt ky up fl fp) (pI fun x w => x = nI fr ∧ ∃ N', w = tw kA h a N' (nx (N fr)) rt ky (nK (N n) 4) fl fp ∧ N' n = nd (nK (N n)) (nC (N n)) 4 (nl (N n)) (nx (N n)) (smN N (nC (N n)) 5) ∧ N' fr = nd (fun i => if i < 3 then nK (N n) (i + 5) else nK (N fr) i) (fun i => if i < 4 then nC (N n) (i + 5) else nC (N fr) i) 3 0 NONE (smN N (fun i => nC (N n) (i + 5)) 4) ∧ ∀ q, q ≠ n → q ≠ fr → N' q = N q) := by
  refine ct_of (by decide) (Nat.le_of_ble_eq_true rfl) rfl ?_
  intro p e s m args below meth c C
  refine v_aload_n C d_Tree_partNode_0 rfl ?_
  refine v_iconst C d_Tree_partNode_1 (nI 0) (by decide) ?_
  refine v_cI C (As := [.int (nI 0)]) (st := []) (c_Tree_make l D kA h a N fr rt ky up fl fp 0 hfr (by omega)) cv_Tree_make ml_Tree_41 d_Tree_partNode_2 ⟨by omega, by decide⟩ tw_rcv ⟨rfl, rfl⟩ rfl ?_
  rintro _ _ ⟨rfl, rfl⟩
  rw [show uN N fr (nd (nK (N fr)) (nC (N fr)) 0 0 NONE 0) = un N fr (nK (N fr)) (nC (N fr)) 0 0 NONE 0 from rfl]
  refine v_istore_n C d_Tree_partNode_5 ⟨Nat.le_of_ble_eq_true rfl, Nat.le_of_ble_eq_true rfl⟩ [.ref h, .int (nI n), .int (nI fr)] rfl ?_
  refine v_iconst C d_Tree_partNode_6 (nI 4) (by decide) ?_
  refine v_istore_n C d_Tree_partNode_7 ⟨Nat.le_of_ble_eq_true rfl, Nat.le_of_ble_eq_true rfl⟩ [.ref h, .int (nI n), .int (nI fr), .int (nI 4)] rfl ?_
  refine v_aload_n C d_Tree_partNode_8 rfl ?_
  refine v_getf C i_Tree (ci := 0) rfl 0 (by decide) (List.mem_of_getElem? (i := 0) rfl) fl_Tree_9 d_Tree_partNode_9 (.ref (a 0)) rfl ?_
  refine v_aload_n C d_Tree_partNode_12 rfl ?_
  refine v_iload_n C d_Tree_partNode_13 rfl ?_
  refine v_iload_n C d_Tree_partNode_14 rfl ?_
  refine v_cI C (As := [.int (nI n), .int (nI 4)]) (st := [.ref (a 0)]) (c_Tree_place l D kA h a (un N fr (nK (N fr)) (nC (N fr)) 0 0 NONE 0) (nx (N fr)) rt ky up fl fp n 4) cv_Tree_place ml_Tree_48 d_Tree_partNode_15 ⟨by omega, by decide⟩ tw_rcv ⟨rfl, rfl⟩ rfl ?_
  rintro _ _ ⟨rfl, rfl⟩
  refine v_aload_n C d_Tree_partNode_18 rfl ?_
  refine v_getf C i_Tree (ci := 0) rfl 9 (by decide) (List.mem_of_getElem? (i := 0) rfl) fl_Tree_34 d_Tree_partNode_19 (.ref (a 7)) rfl ?_
  refine v_iconst C d_Tree_partNode_22 (nI 0) (by decide) ?_
  refine v_iconst C d_Tree_partNode_23 (nI 3) (by decide) ?_
  refine v_cpy C (ws' := (tw kA h a (un N fr (nK (N fr)) (nC (N fr)) 0 0 NONE 0) (nx (N fr)) rt ky (nK ((un N fr (nK (N fr)) (nC (N fr)) 0 0 NONE 0) n) 4) fl fp)) ml_Tree_52 ⟨by decide, by decide⟩ (by decide) (fun v hv => absurd hv List.not_mem_nil) (List.mem_of_getElem? (i := 1) rfl) ⟨8, rfl, rfl⟩ (by omega) (by omega) (by decide) (by decide) d_Tree_partNode_24 (fun j hj => dc_cp (by omega) j hj) ?_
  simp only [un_ne hne]
  refine v_iload_n C d_Tree_partNode_27 rfl ?_
  refine v_iconst C d_Tree_partNode_28 (nI 1) (by decide) ?_
  refine v_iadd C d_Tree_partNode_29 ?_
  refine v_istore C d_Tree_partNode_30 ⟨Nat.le_of_ble_eq_true rfl, Nat.le_of_ble_eq_true rfl⟩ [.ref h, .int (nI n), .int (nI fr), .int (nI 4), .int (nI (4 + 1))] rfl ?_
  have lp2 : ∀ (t : Nat) (k : Nat) (f g : Nat → Nat), 9 - k < t → 5 ≤ k → k ≤ 9 → (∀ i, f i = if i + 5 < 8 then nK (N n) (i + 5) else nK (N fr) i) → (∀ i, g i = if i + 5 < k then nC (N n) (i + 5) else nC (N fr) i) → V p l e (rmk 2) s m args below meth c D (qA (tw kA h a N fr rt ky up fl fp)) 5 0 0 (MQ below (QC D (tw kA h a N fr rt ky up fl fp) (pI fun x w => x = nI fr ∧ ∃ N', w = tw kA h a N' (nx (N fr)) rt ky (nK (N n) 4) fl fp ∧ N' n = nd (nK (N n)) (nC (N n)) 4 (nl (N n)) (nx (N n)) (smN N (nC (N n)) 5) ∧ N' fr = nd (fun i => if i < 3 then nK (N n) (i + 5) else nK (N fr) i) (fun i => if i < 4 then nC (N n) (i + 5) else nC (N fr) i) 3 0 NONE (smN N (fun i => nC (N n) (i + 5)) 4) ∧ ∀ q, q ≠ n → q ≠ fr → N' q = N q)) args s 0 0 (qA (tw kA h a N fr rt ky up fl fp))) 64 [.ref h, .int (nI n), .int (nI fr), .int (nI 4), .int (nI k)] [] (tw kA h a (un N fr f g 0 0 NONE 0) (nx (N fr)) rt ky (nK (N n) 4) fl fp) := by
    intro t
    induction t with
    | zero => intro k f g hk; omega
    | succ t ih =>
      intro k f g hk hk4 hk8 hf hg
      refine v_iload C d_Tree_partNode_64 rfl ?_
      refine v_bipush C d_Tree_partNode_66 (nI 8) (by decide) ?_
      refine v_icmp_gt C d_Tree_partNode_68 105 (by decide) (by omega) (by omega) (fun ck => ?_) (fun ck => ?_)
      · obtain rfl : k = 9 := by omega
        refine v_aload_n C d_Tree_partNode_105 rfl ?_
        refine v_getf C i_Tree (ci := 0) rfl 2 (by decide) (List.mem_of_getElem? (i := 0) rfl) fl_Tree_18 d_Tree_partNode_106 (.ref (a 2)) rfl ?_
        refine v_iload_n C d_Tree_partNode_109 rfl ?_
        refine v_bipush C d_Tree_partNode_110 (nI 8) (by decide) ?_
        refine v_iload_n C d_Tree_partNode_112 rfl ?_
        refine v_isub C d_Tree_partNode_113 (by omega) ?_
        refine v_iconst C d_Tree_partNode_114 (nI 1) (by decide) ?_
        refine v_isub C d_Tree_partNode_115 (by omega) ?_
        refine v_top (y := nI 3) (congrArg nI (show (8 - 4) - 1 = 3 from rfl)) ?_
        refine v_iast C (ws' := (tw kA h a (sc (un N fr f g 0 0 NONE 0) fr 3) (nx (N fr)) rt ky (nK (N n) 4) fl fp)) (tw_sc) (by omega) (by decide) d_Tree_partNode_116 (fun j _ => cntF_sc j) ?_
        rw [sc_un]
        refine v_aload_n C d_Tree_partNode_117 rfl ?_
        refine v_getf C i_Tree (ci := 0) rfl 2 (by decide) (List.mem_of_getElem? (i := 0) rfl) fl_Tree_18 d_Tree_partNode_118 (.ref (a 2)) rfl ?_
        refine v_iload_n C d_Tree_partNode_121 rfl ?_
        refine v_iload_n C d_Tree_partNode_122 rfl ?_
        refine v_iast C (ws' := (tw kA h a (sc (un N fr f g 3 0 NONE 0) n 4) (nx (N fr)) rt ky (nK (N n) 4) fl fp)) (tw_sc) (by omega) (by decide) d_Tree_partNode_123 (fun j _ => cntF_sc j) ?_
        obtain ⟨N1, hN1⟩ : ∃ z, z = (sc (un N fr f g 3 0 NONE 0) n 4) := ⟨_, rfl⟩
        rw [← hN1]
        have q1 : N1 n = nd (nK (N n)) (nC (N n)) 4 (nl (N n)) (nx (N n)) (ns (N n)) := by rw [hN1]; simp only [sK, sC, sc, sl, sx, ss, un, uN_self, nK_nd, nC_nd, nc_nd, nl_nd, nx_nd, ns_nd, uN_ne hne, uN_ne hne.symm]
        have q2 : N1 fr = nd f g 3 0 NONE 0 := by rw [hN1]; simp only [sK, sC, sc, sl, sx, ss, un, uN_self, nK_nd, nC_nd, nc_nd, nl_nd, nx_nd, ns_nd, uN_ne hne, uN_ne hne.symm]
        have q3 : ∀ q, q ≠ n → q ≠ fr → N1 q = N q := fun q h1 h2 => by rw [hN1]; simp only [sK, sC, sc, sl, sx, ss, un, uN_self, nK_nd, nC_nd, nc_nd, nl_nd, nx_nd, ns_nd, uN_ne h1, uN_ne h2]
        refine v_aload_n C d_Tree_partNode_124 rfl ?_
        refine v_getf C i_Tree (ci := 0) rfl 5 (by decide) (List.mem_of_getElem? (i := 0) rfl) fl_Tree_28 d_Tree_partNode_125 (.ref (a 5)) rfl ?_
        refine v_iload_n C d_Tree_partNode_128 rfl ?_
        refine v_aload_n C d_Tree_partNode_129 rfl ?_
        refine v_iload_n C d_Tree_partNode_130 rfl ?_
        refine v_cI C (As := [.int (nI n)]) (st := [.int (nI n), .ref (a 5)]) (c_Tree_sum l D kA h a N1 (nx (N fr)) rt ky (nK (N n) 4) fl fp n hn (by rw [q1, nc_nd]; omega) (fun k hk => by rw [q1, nC_nd]; rw [q1, nc_nd] at hk; exact (hC k (by omega)).1)) cv_Tree_sum ml_Tree_102 d_Tree_partNode_131 ⟨by omega, by decide⟩ tw_rcv ⟨rfl, rfl⟩ rfl ?_
        rintro _ _ ⟨rfl, rfl⟩
        have es : smN N1 (nC (N1 n)) (nc (N1 n) + 1) = smN N (nC (N n)) 5 := by rw [q1, nc_nd, nC_nd]; exact smN_congr 5 (fun i hi => by rw [q3 _ (hC i (by omega)).2.1 (hC i (by omega)).2.2])
        rw [es]
        refine v_iast C (ws' := (tw kA h a (ss N1 n (smN N (nC (N n)) 5)) (nx (N fr)) rt ky (nK (N n) 4) fl fp)) (tw_ss) (by omega) (by decide) d_Tree_partNode_134 (fun j _ => sizF_ss j) ?_
        obtain ⟨N2, hN2⟩ : ∃ z, z = (ss N1 n (smN N (nC (N n)) 5)) := ⟨_, rfl⟩
        rw [← hN2]
        have r1 : N2 n = nd (nK (N n)) (nC (N n)) 4 (nl (N n)) (nx (N n)) (smN N (nC (N n)) 5) := by rw [hN2]; simp only [ss, uN_self, q1, nK_nd, nC_nd, nc_nd, nl_nd, nx_nd]
        have r2 : N2 fr = nd f g 3 0 NONE 0 := by rw [hN2]; simp only [ss, uN_ne hne.symm, q2]
        have r3 : ∀ q, q ≠ n → q ≠ fr → N2 q = N q := fun q h1 h2 => by rw [hN2]; simp only [ss, uN_ne h1, q3 q h1 h2]
        refine v_aload_n C d_Tree_partNode_135 rfl ?_
        refine v_getf C i_Tree (ci := 0) rfl 5 (by decide) (List.mem_of_getElem? (i := 0) rfl) fl_Tree_28 d_Tree_partNode_136 (.ref (a 5)) rfl ?_
        refine v_iload_n C d_Tree_partNode_139 rfl ?_
        refine v_aload_n C d_Tree_partNode_140 rfl ?_
        refine v_iload_n C d_Tree_partNode_141 rfl ?_
        refine v_cI C (As := [.int (nI fr)]) (st := [.int (nI fr), .ref (a 5)]) (c_Tree_sum l D kA h a N2 (nx (N fr)) rt ky (nK (N n) 4) fl fp fr hfr (by rw [r2, nc_nd]; omega) (fun k hk => by rw [r2, nC_nd, hg, if_pos (by rw [r2, nc_nd] at hk; omega)]; rw [r2, nc_nd] at hk; exact (hC (k + 5) (by omega)).1)) cv_Tree_sum ml_Tree_102 d_Tree_partNode_142 ⟨by omega, by decide⟩ tw_rcv ⟨rfl, rfl⟩ rfl ?_
        rintro _ _ ⟨rfl, rfl⟩
        have es : smN N2 (nC (N2 fr)) (nc (N2 fr) + 1) = smN N (fun i => nC (N n) (i + 5)) 4 := by rw [r2, nc_nd, nC_nd]; exact smN_congr 4 (fun i hi => by rw [hg, if_pos (by omega), r3 _ (hC (i + 5) (by omega)).2.1 (hC (i + 5) (by omega)).2.2])
        rw [es]
        refine v_iast C (ws' := (tw kA h a (ss N2 fr (smN N (fun i => nC (N n) (i + 5)) 4)) (nx (N fr)) rt ky (nK (N n) 4) fl fp)) (tw_ss) (by omega) (by decide) d_Tree_partNode_145 (fun j _ => sizF_ss j) ?_
        refine v_iload_n C d_Tree_partNode_146 rfl ?_
        have ef : f = fun i => if i < 3 then nK (N n) (i + 5) else nK (N fr) i := funext fun i => by rw [hf]; simp only [show (i + 5 < 8) = (i < 3) from propext ⟨fun _ => by omega, fun _ => by omega⟩]
        have eg : g = fun i => if i < 4 then nC (N n) (i + 5) else nC (N fr) i := funext fun i => by rw [hg]; simp only [show (i + 5 < 9) = (i < 4) from propext ⟨fun _ => by omega, fun _ => by omega⟩]
        exact v_iret C rfl d_Tree_partNode_147 (⟨_, rfl, rfl, _, rfl, by simp only [ss, uN_ne hne, r1], by simp only [ss, uN_self, r2, nK_nd, nC_nd, nc_nd, nl_nd, nx_nd]; rw [ef, eg], fun q h1 h2 => by simp only [ss, uN_ne h2, r3 q h1 h2]⟩)
      · refine v_aload_n C d_Tree_partNode_71 rfl ?_
        refine v_getf C i_Tree (ci := 0) rfl 1 (by decide) (List.mem_of_getElem? (i := 0) rfl) fl_Tree_15 d_Tree_partNode_72 (.ref (a 1)) rfl ?_
        refine v_bipush C d_Tree_partNode_75 (nI 11) (by decide) ?_
        refine v_iload_n C d_Tree_partNode_77 rfl ?_
        refine v_imul C d_Tree_partNode_78 ?_
        refine v_iload C d_Tree_partNode_79 rfl ?_
        refine v_iadd C d_Tree_partNode_81 ?_
        refine v_iload_n C d_Tree_partNode_82 rfl ?_
        refine v_isub C d_Tree_partNode_83 (by omega) ?_
        refine v_iconst C d_Tree_partNode_84 (nI 1) (by decide) ?_
        refine v_isub C d_Tree_partNode_85 (by omega) ?_
        refine v_top (y := nI (11 * fr + (k - 5))) (congrArg nI (show (((11 * fr) + k) - 4) - 1 = 11 * fr + (k - 5) from by omega)) ?_
        refine v_aload_n C d_Tree_partNode_86 rfl ?_
        refine v_getf C i_Tree (ci := 0) rfl 1 (by decide) (List.mem_of_getElem? (i := 0) rfl) fl_Tree_15 d_Tree_partNode_87 (.ref (a 1)) rfl ?_
        refine v_bipush C d_Tree_partNode_90 (nI 11) (by decide) ?_
        refine v_iload_n C d_Tree_partNode_92 rfl ?_
        refine v_imul C d_Tree_partNode_93 ?_
        refine v_iload C d_Tree_partNode_94 rfl ?_
        refine v_iadd C d_Tree_partNode_96 ?_
        refine v_top (y := nI (11 * n + k)) (congrArg nI (show (11 * n) + k = 11 * n + k from by omega)) ?_
        refine v_iald C (List.mem_of_getElem? (i := 2) rfl) (by omega) (by decide) d_Tree_partNode_97 (nI (nC (N n) k)) ((kidsF_at (by omega)).trans (congrArg (fun z => nI (nC z k)) (un_ne hne))) ?_
        refine v_iast C (ws' := (tw kA h a (sC (un N fr f g 0 0 NONE 0) fr (k - 5) (nC (N n) k)) (nx (N fr)) rt ky (nK (N n) 4) fl fp)) (tw_sC) (by omega) (by decide) d_Tree_partNode_98 (fun j _ => kidsF_sC (by omega) j) ?_
        rw [sC_un]
        refine v_iinc C d_Tree_partNode_99 rfl ⟨Nat.le_of_ble_eq_true rfl, Nat.le_of_ble_eq_true rfl⟩ (nI (k + 1)) (inc1 _) [.ref h, .int (nI n), .int (nI fr), .int (nI 4), .int (nI (k + 1))] rfl ?_
        refine v_goto C d_Tree_partNode_102 64 (by decide) ?_
        refine ih (k + 1) _ _ (by omega) (by omega) (by omega) hf ?_
        intro i; simp only [va_up, hg]; repeat' split
        all_goals first | rfl | (exfalso; omega) | (congr 1; omega)
  have lp : ∀ (t : Nat) (k : Nat) (f : Nat → Nat), 8 - k < t → 5 ≤ k → k ≤ 8 → (∀ i, f i = if i + 5 < k then nK (N n) (i + 5) else nK (N fr) i) → V p l e (rmk 2) s m args below meth c D (qA (tw kA h a N fr rt ky up fl fp)) 5 0 0 (MQ below (QC D (tw kA h a N fr rt ky up fl fp) (pI fun x w => x = nI fr ∧ ∃ N', w = tw kA h a N' (nx (N fr)) rt ky (nK (N n) 4) fl fp ∧ N' n = nd (nK (N n)) (nC (N n)) 4 (nl (N n)) (nx (N n)) (smN N (nC (N n)) 5) ∧ N' fr = nd (fun i => if i < 3 then nK (N n) (i + 5) else nK (N fr) i) (fun i => if i < 4 then nC (N n) (i + 5) else nC (N fr) i) 3 0 NONE (smN N (fun i => nC (N n) (i + 5)) 4) ∧ ∀ q, q ≠ n → q ≠ fr → N' q = N q)) args s 0 0 (qA (tw kA h a N fr rt ky up fl fp))) 32 [.ref h, .int (nI n), .int (nI fr), .int (nI 4), .int (nI k)] [] (tw kA h a (un N fr f (nC (N fr)) 0 0 NONE 0) (nx (N fr)) rt ky (nK (N n) 4) fl fp) := by
    intro t
    induction t with
    | zero => intro k f hk; omega
    | succ t ih =>
      intro k f hk hk4 hk8 hf
      refine v_iload C d_Tree_partNode_32 rfl ?_
      refine v_bipush C d_Tree_partNode_34 (nI 8) (by decide) ?_
      refine v_icmp_ge C d_Tree_partNode_36 59 (by decide) (by omega) (by omega) (fun ck => ?_) (fun ck => ?_)
      · obtain rfl : k = 8 := by omega
        refine v_iload_n C d_Tree_partNode_59 rfl ?_
        refine v_iconst C d_Tree_partNode_60 (nI 1) (by decide) ?_
        refine v_iadd C d_Tree_partNode_61 ?_
        refine v_top (y := nI 5) (congrArg nI (show 4 + 1 = 5 from rfl)) ?_
        refine v_istore C d_Tree_partNode_62 ⟨Nat.le_of_ble_eq_true rfl, Nat.le_of_ble_eq_true rfl⟩ [.ref h, .int (nI n), .int (nI fr), .int (nI 4), .int (nI 5)] rfl ?_
        exact lp2 9 5 f _ (by omega) (by omega) (by omega) hf (fun i => by rw [if_neg (by omega)])
      · refine v_aload_n C d_Tree_partNode_39 rfl ?_
        refine v_iload_n C d_Tree_partNode_40 rfl ?_
        refine v_iload C d_Tree_partNode_41 rfl ?_
        refine v_iload_n C d_Tree_partNode_43 rfl ?_
        refine v_iload C d_Tree_partNode_44 rfl ?_
        refine v_iload_n C d_Tree_partNode_46 rfl ?_
        refine v_isub C d_Tree_partNode_47 (by omega) ?_
        refine v_iconst C d_Tree_partNode_48 (nI 1) (by decide) ?_
        refine v_isub C d_Tree_partNode_49 (by omega) ?_
        refine v_top (y := nI (k - 5)) (congrArg nI (show (k - 4) - 1 = k - 5 from by omega)) ?_
        refine v_cV C (As := [.int (nI n), .int (nI k), .int (nI fr), .int (nI (k - 5))]) (st := []) (c_Tree_copy l D kA h a (un N fr f (nC (N fr)) 0 0 NONE 0) (nx (N fr)) rt ky (nK (N n) 4) fl fp n k fr (k - 5) hn (by omega) hfr (by omega)) cv_Tree_copy ml_Tree_81 d_Tree_partNode_50 ⟨by omega, by decide⟩ tw_rcv ⟨rfl, rfl⟩ rfl ?_
        rintro _ rfl
        simp only [un_ne hne, sK_un]
        refine v_iinc C d_Tree_partNode_53 rfl ⟨Nat.le_of_ble_eq_true rfl, Nat.le_of_ble_eq_true rfl⟩ (nI (k + 1)) (inc1 _) [.ref h, .int (nI n), .int (nI fr), .int (nI 4), .int (nI (k + 1))] rfl ?_
        refine v_goto C d_Tree_partNode_56 32 (by decide) ?_
        refine ih (k + 1) _ (by omega) (by omega) (by omega) ?_
        intro i; simp only [va_up, hf]; repeat' split
        all_goals first | rfl | (exfalso; omega) | (congr 1; omega)
  exact lp 9 5 _ (by omega) (by omega) (by omega) (fun i => by rw [if_neg (by omega)])
