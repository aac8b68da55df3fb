set_option maxHeartbeats 800000 in
set_option maxRecDepth 20000 in
theorem c_Tree_mend (l : Launch) (D : va_G) (kA : Nat → ClassId) (h : Nat) (a : Nat → Nat) (N : Nat → Nd) (fr rt ky up fl fp : Nat) (n w d lo hi ee : Nat) (frl : List Nat) (hl0 : nl (N n) = 0) (hc1 : 1 ≤ nc (N n) ∧ nc (N n) ≤ 7) (hwc : w ≤ nc (N n)) (hk : kOK N d (nK (N n)) (nC (N n)) (nc (N n)) lo hi ee (fun i => if i = w then 2 else 3)) (h2w : nc (N (nC (N n) w)) = 2) (hfl : FL N fr frl) (hnd : (fpO N (d + 1) n ++ frl).Nodup) (h5 : ∀ z ∈ fpO N (d + 1) n ++ frl, z < 500) : Ct l D kA 4 y_Tree_mend b_Tree_mend 6 none [.ref h, .int (nI n), .int (nI w)] (tw kA h a N fr rt ky up fl fp) (pV fun w9 => ∃ (N' : Nat → Nd) (fr' : Nat) (freed : List Nat), w9 = tw kA h a N' fr' rt ky up fl fp ∧ FL N' fr' (freed ++ frl) ∧ MP N N' n d lo hi ee freed) := by
  refine ct_of (by decide) (Nat.le_of_ble_eq_true rfl) rfl ?_
  intro p e s m args below meth c C
  have hn : n < 500 := h5 n (List.mem_append_left _ (fpO_self _ _ _))
  have tail : ∀ q : Nat, q < nc (N n) → (w = q ∨ w = q + 1) → V p l e (rmk 4) s m args below meth c D (qA (tw kA h a N fr rt ky up fl fp)) 6 0 0 (MQ below (QC D (tw kA h a N fr rt ky up fl fp) (pV fun w9 => ∃ (N' : Nat → Nd) (fr' : Nat) (freed : List Nat), w9 = tw kA h a N' fr' rt ky up fl fp ∧ FL N' fr' (freed ++ frl) ∧ MP N N' n d lo hi ee freed)) args s 0 0 (qA (tw kA h a N fr rt ky up fl fp))) 11 [.ref h, .int (nI n), .int (nI w)] [.int (nI q)] (tw kA h a N fr rt ky up fl fp) := by
    intro q hqc hwq
    obtain ⟨o1, o2, o3, o4, o5, o6, o7, o8⟩ := mend_pre hqc hwq hk (List.nodup_append.mp hnd).1
    have hu5 := h5 _ (List.mem_append_left _ (fpO_kid (i := q) (by omega) (fpO_self N d _)))
    have hv5 := h5 _ (List.mem_append_left _ (fpO_kid (i := q + 1) (by omega) (fpO_self N d _)))
    have hnu : n ≠ nC (N n) q := fun z => (o4 _ (fpO_self _ _ _)).1 z.symm
    have hnv : n ≠ nC (N n) (q + 1) := fun z => (o5 _ (fpO_self _ _ _)).1 z.symm
    have huv : nC (N n) q ≠ nC (N n) (q + 1) := fun z => (o4 _ (fpO_self _ _ _)).2 (by rw [z]; exact fpO_self _ _ _)
    have hc2 : nc (N (nC (N n) q)) = 2 ∨ nc (N (nC (N n) (q + 1))) = 2 := hwq.elim (fun z => Or.inl (z ▸ h2w)) (fun z => Or.inr (z ▸ h2w))
    have hcu := ok_mn o1
    have hcv := ok_mn o2
    have hcu7 := ok_c7 o1
    have hcv7 := ok_c7 o2
    have hc3 : 5 ≤ nc (N (nC (N n) q)) + nc (N (nC (N n) (q + 1))) := by
      rcases hwq with rfl | rfl
      · have := ok_mn (hk (w + 1) (by omega)); dsimp only at this; rw [if_neg (by omega)] at this; omega
      · have := ok_mn (hk q (by omega)); dsimp only at this; rw [if_neg (by omega)] at this; omega
    have hfr : ∀ z ∈ frl, z ≠ n ∧ z ≠ nC (N n) q ∧ z ≠ nC (N n) (q + 1) := fun z hz => ⟨fun y => (List.nodup_append.mp hnd).2.2 n (fpO_self _ _ _) z hz y.symm, fun y => (List.nodup_append.mp hnd).2.2 _ (fpO_kid (i := q) (by omega) (fpO_self N d _)) z hz y.symm, fun y => (List.nodup_append.mp hnd).2.2 _ (fpO_kid (i := q + 1) (by omega) (fpO_self N d _)) z hz y.symm⟩
    refine v_istore_n C d_Tree_mend_11 ⟨Nat.le_of_ble_eq_true rfl, Nat.le_of_ble_eq_true rfl⟩ [.ref h, .int (nI n), .int (nI w), .int (nI q)] rfl ?_
    refine v_aload_n C d_Tree_mend_12 rfl ?_
    refine v_iload_n C d_Tree_mend_13 rfl ?_
    refine v_iload_n C d_Tree_mend_14 rfl ?_
    refine v_cI C (As := [.int (nI n), .int (nI q)]) (st := []) (c_Tree_kid l D kA h a N fr rt ky up fl fp n q hn (by omega)) cv_Tree_kid ml_Tree_65 d_Tree_mend_15 ⟨by omega, by decide⟩ tw_rcv ⟨rfl, rfl⟩ rfl ?_
    rintro _ _ ⟨rfl, rfl⟩
    refine v_istore C d_Tree_mend_18 ⟨Nat.le_of_ble_eq_true rfl, Nat.le_of_ble_eq_true rfl⟩ [.ref h, .int (nI n), .int (nI w), .int (nI q), .int (nI (nC (N n) q))] rfl ?_
    refine v_aload_n C d_Tree_mend_20 rfl ?_
    refine v_iload_n C d_Tree_mend_21 rfl ?_
    refine v_iload_n C d_Tree_mend_22 rfl ?_
    refine v_iconst C d_Tree_mend_23 (nI 1) (by decide) ?_
    refine v_iadd C d_Tree_mend_24 ?_
    refine v_cI C (As := [.int (nI n), .int (nI (q + 1))]) (st := []) (c_Tree_kid l D kA h a N fr rt ky up fl fp n (q + 1) hn (by omega)) cv_Tree_kid ml_Tree_65 d_Tree_mend_25 ⟨by omega, by decide⟩ tw_rcv ⟨rfl, rfl⟩ rfl ?_
    rintro _ _ ⟨rfl, rfl⟩
    refine v_istore C d_Tree_mend_28 ⟨Nat.le_of_ble_eq_true rfl, Nat.le_of_ble_eq_true rfl⟩ [.ref h, .int (nI n), .int (nI w), .int (nI q), .int (nI (nC (N n) q)), .int (nI (nC (N n) (q + 1)))] rfl ?_
    cases d with
    | zero =>
      refine v_aload_n C d_Tree_mend_30 rfl ?_
      refine v_getf C i_Tree (ci := 0) rfl 2 (by decide) (List.mem_of_getElem? (i := 0) rfl) fl_Tree_18 d_Tree_mend_31 (.ref (a 2)) rfl ?_
      refine v_iload C d_Tree_mend_34 rfl ?_
      refine v_iald C (List.mem_of_getElem? (i := 3) rfl) (by omega) (by decide) d_Tree_mend_36 (nI (nc (N (nC (N n) q)))) (rfl) ?_
      refine v_aload_n C d_Tree_mend_37 rfl ?_
      refine v_getf C i_Tree (ci := 0) rfl 2 (by decide) (List.mem_of_getElem? (i := 0) rfl) fl_Tree_18 d_Tree_mend_38 (.ref (a 2)) rfl ?_
      refine v_iload C d_Tree_mend_41 rfl ?_
      refine v_iald C (List.mem_of_getElem? (i := 3) rfl) (by omega) (by decide) d_Tree_mend_43 (nI (nc (N (nC (N n) (q + 1))))) (rfl) ?_
      refine v_iadd C d_Tree_mend_44 ?_
      refine v_aload_n C d_Tree_mend_45 rfl ?_
      refine v_getf C i_Tree (ci := 0) rfl 3 (by decide) (List.mem_of_getElem? (i := 0) rfl) fl_Tree_21 d_Tree_mend_46 (.ref (a 3)) rfl ?_
      refine v_iload C d_Tree_mend_49 rfl ?_
      refine v_zald C (List.mem_of_getElem? (i := 4) rfl) (by omega) (by decide) d_Tree_mend_51 (nI (nl (N (nC (N n) q)))) (rfl) ?_
      refine v_if_eq C d_Tree_mend_52 59 (by decide) (by have := o1.1; omega) (fun cl => False.elim (by have := o1.1; omega)) (fun cl => ?_)
      refine v_iconst C d_Tree_mend_55 (nI 0) (by decide) ?_
      refine v_goto C d_Tree_mend_56 60 (by decide) ?_
      refine v_iadd C d_Tree_mend_60 ?_
      refine v_bipush C d_Tree_mend_61 (nI 8) (by decide) ?_
      refine v_icmp_ge C d_Tree_mend_63 79 (by decide) (by omega) (by omega) (fun c8 => ?_) (fun c8 => ?_)
      · refine v_aload_n C d_Tree_mend_79 rfl ?_
        refine v_getf C i_Tree (ci := 0) rfl 2 (by decide) (List.mem_of_getElem? (i := 0) rfl) fl_Tree_18 d_Tree_mend_80 (.ref (a 2)) rfl ?_
        refine v_iload C d_Tree_mend_83 rfl ?_
        refine v_iald C (List.mem_of_getElem? (i := 3) rfl) (by omega) (by decide) d_Tree_mend_85 (nI (nc (N (nC (N n) q)))) (rfl) ?_
        refine v_aload_n C d_Tree_mend_86 rfl ?_
        refine v_getf C i_Tree (ci := 0) rfl 2 (by decide) (List.mem_of_getElem? (i := 0) rfl) fl_Tree_18 d_Tree_mend_87 (.ref (a 2)) rfl ?_
        refine v_iload C d_Tree_mend_90 rfl ?_
        refine v_iald C (List.mem_of_getElem? (i := 3) rfl) (by omega) (by decide) d_Tree_mend_92 (nI (nc (N (nC (N n) (q + 1))))) (rfl) ?_
        refine v_icmp_le C d_Tree_mend_93 109 (by decide) (by omega) (by omega) (fun c9 => ?_) (fun c9 => ?_)
        · refine v_aload_n C d_Tree_mend_109 rfl ?_
          refine v_iload_n C d_Tree_mend_110 rfl ?_
          refine v_iload_n C d_Tree_mend_111 rfl ?_
          refine v_iload C d_Tree_mend_112 rfl ?_
          refine v_iload C d_Tree_mend_114 rfl ?_
          refine v_cV C (As := [.int (nI n), .int (nI q), .int (nI (nC (N n) q)), .int (nI (nC (N n) (q + 1)))]) (st := []) (c_Tree_toLeft_l l D kA h a N fr rt ky up fl fp n q (nC (N n) q) (nC (N n) (q + 1)) hn hu5 hv5 hnu hnv huv ⟨by omega, by omega⟩ (by omega) (by omega) o1.1 (by have := ok_ns o2; have := (ok_main _ _ o2).2.2; omega)) cv_Tree_toLeft ml_Tree_124 d_Tree_mend_116 ⟨by omega, by decide⟩ tw_rcv ⟨rfl, rfl⟩ rfl ?_
          rintro _ ⟨N2, rfl, s1, s2, s3, s4⟩
          exact v_vret C rfl d_Tree_mend_119 (⟨rfl, N2, fr, [], rfl, hfl.frame (fun z hz => s4 z (hfr z hz).1 (hfr z hz).2.1 (hfr z hz).2.2), mp_s ⟨hl0, hqc, o8, (List.nodup_append.mp hnd).1, fun z z1 z2 z3 => s4 z z1 (fun y => z2 (by rw [y]; exact fpO_self _ _ _)) (fun y => z3 (by rw [y]; exact fpO_self _ _ _))⟩ s1 (ps_ll o1 o2 o3.1 (by omega) (by omega) (by omega) s2 s3)⟩)
        · refine v_aload_n C d_Tree_mend_96 rfl ?_
          refine v_iload_n C d_Tree_mend_97 rfl ?_
          refine v_iload_n C d_Tree_mend_98 rfl ?_
          refine v_iload C d_Tree_mend_99 rfl ?_
          refine v_iload C d_Tree_mend_101 rfl ?_
          refine v_cV C (As := [.int (nI n), .int (nI q), .int (nI (nC (N n) q)), .int (nI (nC (N n) (q + 1)))]) (st := []) (c_Tree_toRight_l l D kA h a N fr rt ky up fl fp n q (nC (N n) q) (nC (N n) (q + 1)) hn hu5 hv5 hnu hnv huv ⟨by omega, by omega⟩ (by omega) (by omega) o1.1 (by have := ok_ns o1; have := (ok_main _ _ o1).2.2; omega)) cv_Tree_toRight ml_Tree_121 d_Tree_mend_103 ⟨by omega, by decide⟩ tw_rcv ⟨rfl, rfl⟩ rfl ?_
          rintro _ ⟨N2, rfl, s1, s2, s3, s4⟩
          refine v_goto C d_Tree_mend_106 119 (by decide) ?_
          exact v_vret C rfl d_Tree_mend_119 (⟨rfl, N2, fr, [], rfl, hfl.frame (fun z hz => s4 z (hfr z hz).1 (hfr z hz).2.1 (hfr z hz).2.2), mp_s ⟨hl0, hqc, o8, (List.nodup_append.mp hnd).1, fun z z1 z2 z3 => s4 z z1 (fun y => z2 (by rw [y]; exact fpO_self _ _ _)) (fun y => z3 (by rw [y]; exact fpO_self _ _ _))⟩ s1 (ps_rl o1 o2 o3.2 (by omega) (by omega) (by omega) s2 s3)⟩)
      · refine v_aload_n C d_Tree_mend_66 rfl ?_
        refine v_iload_n C d_Tree_mend_67 rfl ?_
        refine v_iload_n C d_Tree_mend_68 rfl ?_
        refine v_iload C d_Tree_mend_69 rfl ?_
        refine v_iload C d_Tree_mend_71 rfl ?_
        refine v_cV C (As := [.int (nI n), .int (nI q), .int (nI (nC (N n) q)), .int (nI (nC (N n) (q + 1)))]) (st := []) (c_Tree_join_l l D kA h a N fr rt ky up fl fp n q (nC (N n) q) (nC (N n) (q + 1)) hn hu5 hv5 hnu hnv huv o1.1 (by omega) hqc (by omega)) cv_Tree_join ml_Tree_118 d_Tree_mend_73 ⟨by omega, by decide⟩ tw_rcv ⟨rfl, rfl⟩ rfl ?_
        rintro _ ⟨N2, rfl, s1, s2, s3, s4⟩
        refine v_goto C d_Tree_mend_76 119 (by decide) ?_
        exact v_vret C rfl d_Tree_mend_119 (⟨rfl, N2, (nC (N n) (q + 1)), [nC (N n) (q + 1)], rfl, ⟨rfl, by rw [s3, nx_nd]; exact hfl.frame (fun z hz => s4 z (hfr z hz).1 (hfr z hz).2.1 (hfr z hz).2.2)⟩, mp_j ⟨hl0, hqc, o8, (List.nodup_append.mp hnd).1, fun z z1 z2 z3 => s4 z z1 (fun y => z2 (by rw [y]; exact fpO_self _ _ _)) (fun y => z3 (by rw [y]; exact fpO_self _ _ _))⟩ s1 (pj_l o1 o2 o3.1 o3.2 (by omega) (by omega) s2)⟩)
    | succ d =>
      have kf1 := kid_ne o4 o6
      have kf2 := kid_ne o5 o7
      refine v_aload_n C d_Tree_mend_30 rfl ?_
      refine v_getf C i_Tree (ci := 0) rfl 2 (by decide) (List.mem_of_getElem? (i := 0) rfl) fl_Tree_18 d_Tree_mend_31 (.ref (a 2)) rfl ?_
      refine v_iload C d_Tree_mend_34 rfl ?_
      refine v_iald C (List.mem_of_getElem? (i := 3) rfl) (by omega) (by decide) d_Tree_mend_36 (nI (nc (N (nC (N n) q)))) (rfl) ?_
      refine v_aload_n C d_Tree_mend_37 rfl ?_
      refine v_getf C i_Tree (ci := 0) rfl 2 (by decide) (List.mem_of_getElem? (i := 0) rfl) fl_Tree_18 d_Tree_mend_38 (.ref (a 2)) rfl ?_
      refine v_iload C d_Tree_mend_41 rfl ?_
      refine v_iald C (List.mem_of_getElem? (i := 3) rfl) (by omega) (by decide) d_Tree_mend_43 (nI (nc (N (nC (N n) (q + 1))))) (rfl) ?_
      refine v_iadd C d_Tree_mend_44 ?_
      refine v_aload_n C d_Tree_mend_45 rfl ?_
      refine v_getf C i_Tree (ci := 0) rfl 3 (by decide) (List.mem_of_getElem? (i := 0) rfl) fl_Tree_21 d_Tree_mend_46 (.ref (a 3)) rfl ?_
      refine v_iload C d_Tree_mend_49 rfl ?_
      refine v_zald C (List.mem_of_getElem? (i := 4) rfl) (by omega) (by decide) d_Tree_mend_51 (nI (nl (N (nC (N n) q)))) (rfl) ?_
      refine v_if_eq C d_Tree_mend_52 59 (by decide) (by have := o1.1; omega) (fun cl => ?_) (fun cl => False.elim (by have := o1.1; omega))
      refine v_iconst C d_Tree_mend_59 (nI 1) (by decide) ?_
      refine v_iadd C d_Tree_mend_60 ?_
      refine v_bipush C d_Tree_mend_61 (nI 8) (by decide) ?_
      refine v_icmp_ge C d_Tree_mend_63 79 (by decide) (by omega) (by omega) (fun c8 => ?_) (fun c8 => ?_)
      · refine v_aload_n C d_Tree_mend_79 rfl ?_
        refine v_getf C i_Tree (ci := 0) rfl 2 (by decide) (List.mem_of_getElem? (i := 0) rfl) fl_Tree_18 d_Tree_mend_80 (.ref (a 2)) rfl ?_
        refine v_iload C d_Tree_mend_83 rfl ?_
        refine v_iald C (List.mem_of_getElem? (i := 3) rfl) (by omega) (by decide) d_Tree_mend_85 (nI (nc (N (nC (N n) q)))) (rfl) ?_
        refine v_aload_n C d_Tree_mend_86 rfl ?_
        refine v_getf C i_Tree (ci := 0) rfl 2 (by decide) (List.mem_of_getElem? (i := 0) rfl) fl_Tree_18 d_Tree_mend_87 (.ref (a 2)) rfl ?_
        refine v_iload C d_Tree_mend_90 rfl ?_
        refine v_iald C (List.mem_of_getElem? (i := 3) rfl) (by omega) (by decide) d_Tree_mend_92 (nI (nc (N (nC (N n) (q + 1))))) (rfl) ?_
        refine v_icmp_le C d_Tree_mend_93 109 (by decide) (by omega) (by omega) (fun c9 => ?_) (fun c9 => ?_)
        · refine v_aload_n C d_Tree_mend_109 rfl ?_
          refine v_iload_n C d_Tree_mend_110 rfl ?_
          refine v_iload_n C d_Tree_mend_111 rfl ?_
          refine v_iload C d_Tree_mend_112 rfl ?_
          refine v_iload C d_Tree_mend_114 rfl ?_
          refine v_cV C (As := [.int (nI n), .int (nI q), .int (nI (nC (N n) q)), .int (nI (nC (N n) (q + 1)))]) (st := []) (c_Tree_toLeft_n l D kA h a N fr rt ky up fl fp n q (nC (N n) q) (nC (N n) (q + 1)) hn hu5 hv5 hnu hnv huv ⟨by omega, by omega⟩ (by omega) (by omega) o1.1 ⟨h5 _ (List.mem_append_left _ (fpO_kid (i := q + 1) (by omega) (fpO_kid (i := 0) (by omega) (fpO_self _ _ _)))), (kf2 0 (by omega) _ (fpO_self _ _ _)).1, (kf2 0 (by omega) _ (fpO_self _ _ _)).2.2, (kf2 0 (by omega) _ (fpO_self _ _ _)).2.1⟩ (kid_ns o2 (by omega))) cv_Tree_toLeft ml_Tree_124 d_Tree_mend_116 ⟨by omega, by decide⟩ tw_rcv ⟨rfl, rfl⟩ rfl ?_
          rintro _ ⟨N2, rfl, s1, s2, s3, s4⟩
          exact v_vret C rfl d_Tree_mend_119 (⟨rfl, N2, fr, [], rfl, hfl.frame (fun z hz => s4 z (hfr z hz).1 (hfr z hz).2.1 (hfr z hz).2.2), mp_s ⟨hl0, hqc, o8, (List.nodup_append.mp hnd).1, fun z z1 z2 z3 => s4 z z1 (fun y => z2 (by rw [y]; exact fpO_self _ _ _)) (fun y => z3 (by rw [y]; exact fpO_self _ _ _))⟩ s1 (ps_ln o1 o2 (by omega) (by omega) (by omega) s2 s3 (fun i hi1 z hz => s4 z (kf1 i hi1 z hz).1 (kf1 i hi1 z hz).2.1 (kf1 i hi1 z hz).2.2) (fun i hi1 z hz => s4 z (kf2 i hi1 z hz).1 (kf2 i hi1 z hz).2.2 (kf2 i hi1 z hz).2.1))⟩)
        · refine v_aload_n C d_Tree_mend_96 rfl ?_
          refine v_iload_n C d_Tree_mend_97 rfl ?_
          refine v_iload_n C d_Tree_mend_98 rfl ?_
          refine v_iload C d_Tree_mend_99 rfl ?_
          refine v_iload C d_Tree_mend_101 rfl ?_
          refine v_cV C (As := [.int (nI n), .int (nI q), .int (nI (nC (N n) q)), .int (nI (nC (N n) (q + 1)))]) (st := []) (c_Tree_toRight_n l D kA h a N fr rt ky up fl fp n q (nC (N n) q) (nC (N n) (q + 1)) hn hu5 hv5 hnu hnv huv ⟨by omega, by omega⟩ (by omega) (by omega) o1.1 ⟨h5 _ (List.mem_append_left _ (fpO_kid (i := q) (by omega) (fpO_kid (Nat.le_refl _) (fpO_self _ _ _)))), kf1 _ (Nat.le_refl _) _ (fpO_self _ _ _)⟩ (kid_ns o1 (Nat.le_refl _))) cv_Tree_toRight ml_Tree_121 d_Tree_mend_103 ⟨by omega, by decide⟩ tw_rcv ⟨rfl, rfl⟩ rfl ?_
          rintro _ ⟨N2, rfl, s1, s2, s3, s4⟩
          refine v_goto C d_Tree_mend_106 119 (by decide) ?_
          exact v_vret C rfl d_Tree_mend_119 (⟨rfl, N2, fr, [], rfl, hfl.frame (fun z hz => s4 z (hfr z hz).1 (hfr z hz).2.1 (hfr z hz).2.2), mp_s ⟨hl0, hqc, o8, (List.nodup_append.mp hnd).1, fun z z1 z2 z3 => s4 z z1 (fun y => z2 (by rw [y]; exact fpO_self _ _ _)) (fun y => z3 (by rw [y]; exact fpO_self _ _ _))⟩ s1 (ps_rn o1 o2 (by omega) (by omega) (by omega) s2 s3 (fun i hi1 z hz => s4 z (kf1 i hi1 z hz).1 (kf1 i hi1 z hz).2.1 (kf1 i hi1 z hz).2.2) (fun i hi1 z hz => s4 z (kf2 i hi1 z hz).1 (kf2 i hi1 z hz).2.2 (kf2 i hi1 z hz).2.1))⟩)
      · refine v_aload_n C d_Tree_mend_66 rfl ?_
        refine v_iload_n C d_Tree_mend_67 rfl ?_
        refine v_iload_n C d_Tree_mend_68 rfl ?_
        refine v_iload C d_Tree_mend_69 rfl ?_
        refine v_iload C d_Tree_mend_71 rfl ?_
        refine v_cV C (As := [.int (nI n), .int (nI q), .int (nI (nC (N n) q)), .int (nI (nC (N n) (q + 1)))]) (st := []) (c_Tree_join_n l D kA h a N fr rt ky up fl fp n q (nC (N n) q) (nC (N n) (q + 1)) hn hu5 hv5 hnu hnv huv o1.1 (by omega) hqc (by omega)) cv_Tree_join ml_Tree_118 d_Tree_mend_73 ⟨by omega, by decide⟩ tw_rcv ⟨rfl, rfl⟩ rfl ?_
        rintro _ ⟨N2, rfl, s1, s2, s3, s4⟩
        refine v_goto C d_Tree_mend_76 119 (by decide) ?_
        exact v_vret C rfl d_Tree_mend_119 (⟨rfl, N2, (nC (N n) (q + 1)), [nC (N n) (q + 1)], rfl, ⟨rfl, by rw [s3, nx_nd]; exact hfl.frame (fun z hz => s4 z (hfr z hz).1 (hfr z hz).2.1 (hfr z hz).2.2)⟩, mp_j ⟨hl0, hqc, o8, (List.nodup_append.mp hnd).1, fun z z1 z2 z3 => s4 z z1 (fun y => z2 (by rw [y]; exact fpO_self _ _ _)) (fun y => z3 (by rw [y]; exact fpO_self _ _ _))⟩ s1 (pj_n o1 o2 (by omega) (by omega) s2 (fun i hi1 z hz => s4 z (kf1 i hi1 z hz).1 (kf1 i hi1 z hz).2.1 (kf1 i hi1 z hz).2.2) (fun i hi1 z hz => s4 z (kf2 i hi1 z hz).1 (kf2 i hi1 z hz).2.2 (kf2 i hi1 z hz).2.1))⟩)
  rcases Nat.eq_zero_or_pos w with rfl | hw
  · refine v_iload_n C d_Tree_mend_0 rfl ?_
    refine v_if_leR C d_Tree_mend_1 10 (by decide) (fun cw => ?_) (fun cw => False.elim (by exact cw (by decide)))
    refine v_iconst C d_Tree_mend_10 (nI 0) (by decide) ?_
    exact tail 0 (by omega) (Or.inl rfl)
  · refine v_iload_n C d_Tree_mend_0 rfl ?_
    refine v_if_leR C d_Tree_mend_1 10 (by decide) (fun cw => False.elim (by exact nI_nle hw (by omega) cw)) (fun cw => ?_)
    refine v_iload_n C d_Tree_mend_4 rfl ?_
    refine v_iconst C d_Tree_mend_5 (nI 1) (by decide) ?_
    refine v_isub C d_Tree_mend_6 (by omega) ?_
    refine v_goto C d_Tree_mend_7 11 (by decide) ?_
    exact tail (w - 1) (by omega) (Or.inr (by omega))

set_option maxHeartbeats 2000000 in
set_option maxRecDepth 20000 in
theorem c_Tree_removeFrom (l : Launch) (D : va_G) (kA : Nat → ClassId) (h : Nat) (a : Nat → Nat) (rt ky up fl fp : Nat) (hky : ky < TOP) : ∀ (d : Nat) (N : Nat → Nd) (fr n lo hi ee mn : Nat) (frl : List Nat), okT N d n lo hi ee mn → (d = 0 ∨ 1 ≤ mn) → lo ≤ ky → ky < hi → hi ≤ TOP → ky ∈ xsO N d n → FL N fr frl → (fpO N d n ++ frl).Nodup → (∀ z ∈ fpO N d n ++ frl, z < 500) →
    Ct l D kA (5 + d) y_Tree_removeFrom b_Tree_removeFrom 4 none [.ref h, .int (nI n)] (tw kA h a N fr rt ky up fl fp) (pV fun w => ∃ (N' : Nat → Nd) (fr' : Nat) (freed : List Nat), w = tw kA h a N' fr' rt ky up fl fp ∧ FL N' fr' (freed ++ frl) ∧ RP N N' n d lo hi ee mn ky freed) := by
  intro d
  induction d with
  | zero =>
    intro N fr n lo hi ee mn frl ho hmn hlo hhi hht hki hfl hnd h5
    have hl1 := ho.1
    have hc7 := ok_c7 ho
    have hn : n < 500 := h5 n (List.mem_append_left _ (fpO_self _ _ _))
    have hns : 1 ≤ ns (N n) := by rw [ok_ns ho]; exact List.length_pos_of_mem hki
    obtain ⟨hn1, hn2, hn3⟩ := List.nodup_append.mp hnd
    have hfn : ∀ z ∈ frl, z ≠ n := fun z hz q => hn3 n (fpO_self _ _ _) z hz q.symm
    refine ct_of (by decide) (Nat.le_of_ble_eq_true rfl) rfl ?_
    intro p e s m args below meth c C
    refine v_aload_n C d_Tree_removeFrom_0 rfl ?_
    refine v_getf C i_Tree (ci := 0) rfl 5 (by decide) (List.mem_of_getElem? (i := 0) rfl) fl_Tree_28 d_Tree_removeFrom_1 (.ref (a 5)) rfl ?_
    refine v_iload_n C d_Tree_removeFrom_4 rfl ?_
    refine v_dup2 C d_Tree_removeFrom_5 rfl rfl ?_
    refine v_iald C (List.mem_of_getElem? (i := 6) rfl) (by omega) (by decide) d_Tree_removeFrom_6 (nI (ns (N n))) (rfl) ?_
    refine v_iconst C d_Tree_removeFrom_7 (nI 1) (by decide) ?_
    refine v_isub C d_Tree_removeFrom_8 (by omega) ?_
    refine v_iast C (ws' := (tw kA h a (ss N n (ns (N n) - 1)) fr rt ky up fl fp)) (tw_ss) (by omega) (by decide) d_Tree_removeFrom_9 (fun j _ => sizF_ss j) ?_
    obtain ⟨N1, hN1⟩ : ∃ z, z = (ss N n (ns (N n) - 1)) := ⟨_, rfl⟩
    rw [← hN1]
    have q0 : N1 n = nd (nK (N n)) (nC (N n)) (nc (N n)) (nl (N n)) (nx (N n)) (ns (N n) - 1) := by rw [hN1]; simp only [ss, uN_self]
    have q1 : ∀ z, z ≠ n → N1 z = N z := fun z hz => by rw [hN1]; simp only [ss, uN_ne hz]
    refine v_aload_n C d_Tree_removeFrom_10 rfl ?_
    refine v_getf C i_Tree (ci := 0) rfl 3 (by decide) (List.mem_of_getElem? (i := 0) rfl) fl_Tree_21 d_Tree_removeFrom_11 (.ref (a 3)) rfl ?_
    refine v_iload_n C d_Tree_removeFrom_14 rfl ?_
    refine v_zald C (List.mem_of_getElem? (i := 4) rfl) (by omega) (by decide) d_Tree_removeFrom_15 (nI 1) (by simp only [leafF, q0, nl_nd, hl1]) ?_
    refine v_if_eq C d_Tree_removeFrom_16 30 (by decide) (by omega) (fun cl => False.elim (by omega)) (fun cl => ?_)
    refine v_aload_n C d_Tree_removeFrom_19 rfl ?_
    refine v_iload_n C d_Tree_removeFrom_20 rfl ?_
    refine v_aload_n C d_Tree_removeFrom_21 rfl ?_
    refine v_iload_n C d_Tree_removeFrom_22 rfl ?_
    refine v_cI C (As := [.int (nI n)]) (st := [.int (nI n), .ref h]) (c_Tree_below l D kA h a N1 fr rt ky up fl fp n hn (by rw [q0, nc_nd]; omega) (by rw [q0, nc_nd]; exact ok_top ho hht) hky) cv_Tree_below ml_Tree_72 d_Tree_removeFrom_23 ⟨by omega, by decide⟩ tw_rcv ⟨rfl, rfl⟩ rfl ?_
    rintro _ _ ⟨b, rfl, hb, hb1, hb2, rfl⟩
    simp only [q0, nc_nd, nK_nd] at hb hb1 hb2
    obtain ⟨hbc, hbk⟩ := l_found (ok0.mp ho).2.2.2.2.2 hb1 hb2 hki
    refine v_cV C (As := [.int (nI n), .int (nI b)]) (st := []) (c_Tree_shut l D kA h a N1 fr rt ky up fl fp n b hn (by rw [q0, nc_nd]; omega) (by rw [q0, nc_nd]; exact hbc)) cv_Tree_shut ml_Tree_112 d_Tree_removeFrom_26 ⟨by omega, by decide⟩ tw_rcv ⟨rfl, rfl⟩ rfl ?_
    rintro _ rfl
    obtain ⟨N2, hN2⟩ : ∃ z, z = (shN N1 n b) := ⟨_, rfl⟩
    rw [← hN2]
    have r0 : N2 n = nd (shK (nK (N n)) b (nc (N n) - 1)) (shC (nC (N n)) b (nc (N n))) (nc (N n) - 1) (nl (N n)) (nx (N n)) (ns (N n) - 1) := by rw [hN2]; simp only [shN, un_at, q0, nK_nd, nC_nd, nc_nd, nl_nd, nx_nd, ns_nd]
    have r1 : ∀ z, z ≠ n → N2 z = N z := fun z hz => by rw [hN2]; simp only [shN, un_ne hz, q1 z hz]
    exact v_vret C rfl d_Tree_removeFrom_29 (⟨rfl, N2, fr, [], rfl, hfl.frame (fun z hz => r1 z (hfn z hz)), rem_l ho hbc hbk r0 r1⟩)
  | succ d ih =>
    intro N fr n lo hi ee mn frl ho hmn hlo hhi hht hki hfl hnd h5
    have hl1 := ho.1
    have hc7 := ok_c7 ho
    have hn : n < 500 := h5 n (List.mem_append_left _ (fpO_self _ _ _))
    have hns : 1 ≤ ns (N n) := by rw [ok_ns ho]; exact List.length_pos_of_mem hki
    obtain ⟨hn1, hn2, hn3⟩ := List.nodup_append.mp hnd
    have hfn : ∀ z ∈ frl, z ≠ n := fun z hz q => hn3 n (fpO_self _ _ _) z hz q.symm
    refine ct_of (by decide) (Nat.le_of_ble_eq_true rfl) rfl ?_
    intro p e s m args below meth c C
    refine v_aload_n C d_Tree_removeFrom_0 rfl ?_
    refine v_getf C i_Tree (ci := 0) rfl 5 (by decide) (List.mem_of_getElem? (i := 0) rfl) fl_Tree_28 d_Tree_removeFrom_1 (.ref (a 5)) rfl ?_
    refine v_iload_n C d_Tree_removeFrom_4 rfl ?_
    refine v_dup2 C d_Tree_removeFrom_5 rfl rfl ?_
    refine v_iald C (List.mem_of_getElem? (i := 6) rfl) (by omega) (by decide) d_Tree_removeFrom_6 (nI (ns (N n))) (rfl) ?_
    refine v_iconst C d_Tree_removeFrom_7 (nI 1) (by decide) ?_
    refine v_isub C d_Tree_removeFrom_8 (by omega) ?_
    refine v_iast C (ws' := (tw kA h a (ss N n (ns (N n) - 1)) fr rt ky up fl fp)) (tw_ss) (by omega) (by decide) d_Tree_removeFrom_9 (fun j _ => sizF_ss j) ?_
    obtain ⟨N1, hN1⟩ : ∃ z, z = (ss N n (ns (N n) - 1)) := ⟨_, rfl⟩
    rw [← hN1]
    have q0 : N1 n = nd (nK (N n)) (nC (N n)) (nc (N n)) (nl (N n)) (nx (N n)) (ns (N n) - 1) := by rw [hN1]; simp only [ss, uN_self]
    have q1 : ∀ z, z ≠ n → N1 z = N z := fun z hz => by rw [hN1]; simp only [ss, uN_ne hz]
    refine v_aload_n C d_Tree_removeFrom_10 rfl ?_
    refine v_getf C i_Tree (ci := 0) rfl 3 (by decide) (List.mem_of_getElem? (i := 0) rfl) fl_Tree_21 d_Tree_removeFrom_11 (.ref (a 3)) rfl ?_
    refine v_iload_n C d_Tree_removeFrom_14 rfl ?_
    refine v_zald C (List.mem_of_getElem? (i := 4) rfl) (by omega) (by decide) d_Tree_removeFrom_15 (nI 0) (by simp only [leafF, q0, nl_nd, hl1]) ?_
    refine v_if_eq C d_Tree_removeFrom_16 30 (by decide) (by omega) (fun cl => ?_) (fun cl => False.elim (by omega))
    refine v_aload_n C d_Tree_removeFrom_30 rfl ?_
    refine v_iload_n C d_Tree_removeFrom_31 rfl ?_
    refine v_cI C (As := [.int (nI n)]) (st := []) (c_Tree_way l D kA h a N1 fr rt ky up fl fp n hn (by rw [q0, nc_nd]; omega) (by rw [q0, nc_nd]; exact ok_top ho hht) hky) cv_Tree_way ml_Tree_61 d_Tree_removeFrom_32 ⟨by omega, by decide⟩ tw_rcv ⟨rfl, rfl⟩ rfl ?_
    rintro _ _ ⟨b, rfl, hb, hb1, hb2, rfl⟩
    simp only [q0, nc_nd, nK_nd] at hb hb1 hb2
    refine v_istore_n C d_Tree_removeFrom_35 ⟨Nat.le_of_ble_eq_true rfl, Nat.le_of_ble_eq_true rfl⟩ [.ref h, .int (nI n), .int (nI b)] rfl ?_
    refine v_aload_n C d_Tree_removeFrom_36 rfl ?_
    refine v_iload_n C d_Tree_removeFrom_37 rfl ?_
    refine v_iload_n C d_Tree_removeFrom_38 rfl ?_
    refine v_cI C (As := [.int (nI n), .int (nI b)]) (st := []) (c_Tree_kid l D kA h a N1 fr rt ky up fl fp n b hn (by omega)) cv_Tree_kid ml_Tree_65 d_Tree_removeFrom_39 ⟨by omega, by decide⟩ tw_rcv ⟨rfl, rfl⟩ rfl ?_
    rintro _ _ ⟨rfl, rfl⟩
    rw [q0, nC_nd]
    have hkk := (okT_s.mp ho).2.2.2.2
    obtain ⟨⟨w1, w2⟩, w3, w4⟩ := k_way hkk (fun _ _ => by decide) hb hb1 hb2 hlo hhi
    have hnk : ∀ z ∈ fpO N d (nC (N n) b), z ≠ n := fun z hz q => (List.nodup_cons.mp (show (n :: fpK N d (nC (N n)) (nc (N n))).Nodup from hn1)).1 (fpK_mem.mpr ⟨b, hb, q ▸ hz⟩)
    have hF : ∀ z ∈ fpO N d (nC (N n) b), N1 z = N z := fun z hz => q1 z (hnk z hz)
    have hle := b_le (k_bd hkk (fun _ _ => by decide)) (show b + 1 ≤ nc (N n) + 1 by omega) (Nat.le_refl _)
    rw [bd_t] at hle
    have hki2 : ky ∈ xsO N d (nC (N n) b) := by
      have hz : ky ∈ xsK N d (nC (N n)) (nc (N n)) := hki
      rw [xsK_at hb] at hz
      rcases List.mem_append.mp hz with hz | hz
      · exact absurd (w3 ky hz) (Nat.lt_irrefl _)
      · rcases List.mem_append.mp hz with hz | hz
        · exact hz
        · exact absurd (w4 ky hz) (Nat.lt_irrefl _)
    have hkid5 : nC (N n) b < 500 := h5 _ (List.mem_append_left _ (fpO_kid hb (fpO_self N d _)))
    have hI := ih N1 fr (nC (N n) b) _ _ _ _ frl (frame_ok d _ hF (hkk b hb)) (Or.inr (show 1 ≤ 3 by decide)) w1 w2 (by omega) (by rw [frame_xs hF]; exact hki2) (hfl.frame (fun z hz => q1 z (hfn z hz))) (by rw [frame_fp hF]; exact List.nodup_append.mpr ⟨seg_nod (g := fun i => fpO N d (nC (N n) i)) (List.nodup_cons.mp hn1).2 (by omega), hn2, fun x hx y hy => hn3 x (fpO_kid hb hx) y hy⟩) (by rw [frame_fp hF]; exact fun z hz => (List.mem_append.mp hz).elim (fun hz => h5 z (List.mem_append_left _ (fpO_kid hb hz))) (fun hz => h5 z (List.mem_append_right _ hz)))
    refine v_istore_n C d_Tree_removeFrom_42 ⟨Nat.le_of_ble_eq_true rfl, Nat.le_of_ble_eq_true rfl⟩ [.ref h, .int (nI n), .int (nI b), .int (nI (nC (N n) b))] rfl ?_
    refine v_aload_n C d_Tree_removeFrom_43 rfl ?_
    refine v_iload_n C d_Tree_removeFrom_44 rfl ?_
    refine v_cV C (As := [.int (nI (nC (N n) b))]) (st := []) (hI) cv_Tree_removeFrom ml_Tree_105 d_Tree_removeFrom_45 ⟨by omega, by decide⟩ tw_rcv ⟨rfl, rfl⟩ rfl ?_
    rintro _ ⟨N2, fr2, freed, rfl, hfl2, rp⟩
    obtain ⟨v1, v2, v3, v4, v5, v6⟩ := rem_v ho hlo hhi hn1 q0 q1 hb hb1 hb2 rp
    have e2 : N2 n = nd (nK (N n)) (nC (N n)) (nc (N n)) (nl (N n)) (nx (N n)) (ns (N n) - 1) := v1.trans q0
    have hv2 := ok_mn (v3 b hb)
    dsimp only at hv2
    rw [if_pos rfl] at hv2
    refine v_aload_n C d_Tree_removeFrom_48 rfl ?_
    refine v_getf C i_Tree (ci := 0) rfl 2 (by decide) (List.mem_of_getElem? (i := 0) rfl) fl_Tree_18 d_Tree_removeFrom_49 (.ref (a 2)) rfl ?_
    refine v_iload_n C d_Tree_removeFrom_52 rfl ?_
    refine v_iald C (List.mem_of_getElem? (i := 3) rfl) (by omega) (by decide) d_Tree_removeFrom_53 (nI (nc (N2 (nC (N n) b)))) (rfl) ?_
    refine v_iconst C d_Tree_removeFrom_54 (nI 3) (by decide) ?_
    refine v_icmp_ge C d_Tree_removeFrom_55 64 (by decide) (by have := ok_c7 (v3 b hb); omega) (by omega) (fun c3 => ?_) (fun c3 => ?_)
    · exact v_vret C rfl d_Tree_removeFrom_64 (⟨rfl, N2, fr2, freed, rfl, hfl2, rem_i0 ho e2 v2 v3 v4 v5 v6 c3⟩)
    · have hpp : (fpO N2 (d + 1) n ++ (freed ++ frl)).Perm (fpO N (d + 1) n ++ frl) := by
        rw [← List.append_assoc]
        refine List.Perm.append_right _ (List.perm_append_comm.trans ?_)
        show (freed ++ n :: fpK N2 d (nC (N2 n)) (nc (N2 n))).Perm (n :: fpK N d (nC (N n)) (nc (N n)))
        rw [e2]
        exact List.perm_middle.trans (List.Perm.cons n v5)
      have hc1 := (okT_s.mp ho).2.1
      refine v_aload_n C d_Tree_removeFrom_58 rfl ?_
      refine v_iload_n C d_Tree_removeFrom_59 rfl ?_
      refine v_iload_n C d_Tree_removeFrom_60 rfl ?_
      refine v_cV C (As := [.int (nI n), .int (nI b)]) (st := []) (c_Tree_mend l D kA h a N2 fr2 rt ky up fl fp n b d lo hi ee (freed ++ frl) (by rw [e2, nl_nd]; exact hl1) (by rw [e2, nc_nd]; omega) (by rw [e2, nc_nd]; exact hb) (by rw [e2]; exact v3) (by rw [e2, nC_nd]; omega) hfl2 (hpp.nodup_iff.mpr hnd) (fun z hz => h5 z (hpp.mem_iff.mp hz))) cv_Tree_mend ml_Tree_115 d_Tree_removeFrom_61 ⟨by omega, by decide⟩ tw_rcv ⟨rfl, rfl⟩ rfl ?_
      rintro _ ⟨N3, fr3, freed2, rfl, hfl3, mp⟩
      exact v_vret C rfl d_Tree_removeFrom_64 (⟨rfl, N3, fr3, freed2 ++ freed, rfl, by rw [List.append_assoc]; exact hfl3, rem_i1 ho e2 v2 v4 v5 v6 mp⟩)

theorem rem_r0 {N N2 : Nat → Nd} {rt d ky fr2 : Nat} {L freed frl : List Nat} (hx : xsO N d rt = L) (hfl : FL N2 fr2 (freed ++ frl)) (hnd : (fpO N d rt ++ frl).Nodup) (h5 : ∀ m ∈ fpO N d rt ++ frl, m < 500) (hlen : (fpO N d rt ++ frl).length = 500) (rp : RP N N2 rt d 0 TOP NONE (if d = 0 then 0 else 1) ky freed) (hr : d = 0 ∨ 1 ≤ nc (N2 rt)) : ∃ L', TI N2 fr2 rt d L' ∧ Del ky L L' := by
  obtain ⟨-, -, h1, h2, h3⟩ := rp
  refine ⟨_, TI_mk (fp := fpO N d rt) (frl := frl) (h1.strong ?_) rfl hfl ?_ hnd h5 hlen, hx ▸ h2⟩
  · split
    · omega
    · omega
  · rw [← List.append_assoc]
    exact (List.perm_append_comm.trans h3).append_right _
theorem rem_r1 {N N2 N3 : Nat → Nd} {rt d ky fr2 : Nat} {L freed frl : List Nat} (hx : xsO N (d + 1) rt = L) (hfl : FL N2 fr2 (freed ++ frl)) (hnd : (fpO N (d + 1) rt ++ frl).Nodup) (h5 : ∀ m ∈ fpO N (d + 1) rt ++ frl, m < 500) (hlen : (fpO N (d + 1) rt ++ frl).length = 500) (rp : RP N N2 rt (d + 1) 0 TOP NONE 1 ky freed) (hr : nc (N2 rt) = 0) (s0 : nx (N3 rt) = fr2) (s1 : ∀ z, z ≠ rt → N3 z = N2 z) : ∃ L', TI N3 rt (nC (N2 rt) 0) d L' ∧ Del ky L L' := by
  obtain ⟨-, -, h1, h2, h3⟩ := rp
  obtain ⟨g1, g2, g3, g4, g5⟩ := okT_s.mp h1
  have k0 := g5 0 (by omega)
  rw [hr, bd_0, bd_t, he_t] at k0
  have hpp : (fpO N2 (d + 1) rt ++ (freed ++ frl)).Perm (fpO N (d + 1) rt ++ frl) := by
    rw [← List.append_assoc]
    exact (List.perm_append_comm.trans h3).append_right _
  have ef : fpO N2 (d + 1) rt = rt :: fpO N2 d (nC (N2 rt) 0) := by rw [fpO, hr, seg_1]
  have exs : xsO N2 (d + 1) rt = xsO N2 d (nC (N2 rt) 0) := by rw [xsO, hr, seg_1]
  have hnd2 := hpp.nodup_iff.mpr hnd
  rw [ef, List.cons_append] at hnd2
  obtain ⟨n1, n2⟩ := List.nodup_cons.mp hnd2
  have f1 : ∀ z ∈ fpO N2 d (nC (N2 rt) 0), N3 z = N2 z := fun z hz => s1 z (fun y => n1 (List.mem_append_left _ (y ▸ hz)))
  have f2 : ∀ z ∈ freed ++ frl, N3 z = N2 z := fun z hz => s1 z (fun y => n1 (List.mem_append_right _ (y ▸ hz)))
  refine ⟨xsO N2 d (nC (N2 rt) 0), TI_mk (frl' := rt :: (freed ++ frl)) (fp := fpO N (d + 1) rt) (frl := frl) ?_ (frame_xs f1) ⟨rfl, by rw [s0]; exact hfl.frame f2⟩ ?_ hnd h5 hlen, ?_⟩
  · exact (frame_ok d _ f1 k0).weak (by dsimp only; split <;> omega)
  · rw [frame_fp f1]
    refine List.perm_middle.trans ?_
    rw [← List.cons_append, ← ef]
    exact hpp
  · rw [← exs, ← hx]; exact h2

set_option maxHeartbeats 800000 in
set_option maxRecDepth 20000 in
theorem c_Tree_remove (l : Launch) (D : va_G) (kA : Nat → ClassId) (h : Nat) (a : Nat → Nat) (N : Nat → Nd) (fr rt ky up fl fp : Nat) (d : Nat) (L : List Nat) (hT : TI N fr rt d L) (hky : ky < TOP) (hki : ky ∈ L) (hL : L.length ≤ 520) : Ct l D kA 140 y_Tree_remove b_Tree_remove 2 none [.ref h] (tw kA h a N fr rt ky up fl fp) (pV fun w => ∃ (N' : Nat → Nd) (fr' rt' d' : Nat) (L' : List Nat), w = tw kA h a N' fr' rt' ky up fl fp ∧ TI N' fr' rt' d' L' ∧ Del ky L L') := by
  refine ct_of (by decide) (Nat.le_of_ble_eq_true rfl) rfl ?_
  intro p e s m args below meth c C
  obtain ⟨ho, hx, frl, hfl, hnd, h5, hlen⟩ := id hT
  obtain ⟨hd, hfl2⟩ := TI.room (fr := fr) ho hx hlen hL
  have hrt : rt < 500 := hT.lt rt (fpO_self _ _ _)
  refine v_aload_n C d_Tree_remove_0 rfl ?_
  refine v_aload_n C d_Tree_remove_1 rfl ?_
  refine v_getf C i_Tree (ci := 0) rfl 7 (by decide) (List.mem_of_getElem? (i := 0) rfl) fl_Tree_45 d_Tree_remove_2 (.int (nI rt)) rfl ?_
  refine v_cV C (As := [.int (nI rt)]) (st := []) (c_Tree_removeFrom l D kA h a rt ky up fl fp hky d N fr rt _ _ _ _ frl ho (by by_cases hd0 : d = 0 <;> simp [hd0]) (Nat.zero_le _) hky (Nat.le_refl _) (by rw [hx]; exact hki) hfl hnd h5) cv_Tree_removeFrom ml_Tree_105 d_Tree_remove_5 ⟨by omega, by decide⟩ tw_rcv ⟨rfl, rfl⟩ rfl ?_
  rintro _ ⟨N2, fr2, freed, rfl, hf2, rp⟩
  have hcb := ok_c7 rp.2.2.1
  refine v_aload_n C d_Tree_remove_8 rfl ?_
  refine v_getf C i_Tree (ci := 0) rfl 3 (by decide) (List.mem_of_getElem? (i := 0) rfl) fl_Tree_21 d_Tree_remove_9 (.ref (a 3)) rfl ?_
  refine v_aload_n C d_Tree_remove_12 rfl ?_
  refine v_getf C i_Tree (ci := 0) rfl 7 (by decide) (List.mem_of_getElem? (i := 0) rfl) fl_Tree_45 d_Tree_remove_13 (.int (nI rt)) rfl ?_
  cases d with
  | zero =>
    refine v_zald C (List.mem_of_getElem? (i := 4) rfl) (by omega) (by decide) d_Tree_remove_16 (nI 1) (by simp only [leafF]; rw [show nl (N2 rt) = 1 from rp.2.2.1.1]) ?_
    refine v_if_ne C d_Tree_remove_17 55 (by decide) (by omega) (fun cl => ?_) (fun cl => False.elim (by omega))
    obtain ⟨L', t1, t2⟩ := rem_r0 hx hf2 hnd h5 hlen rp (Or.inl rfl)
    exact v_vret C rfl d_Tree_remove_55 (⟨rfl, N2, fr2, rt, 0, L', rfl, t1, t2⟩)
  | succ d =>
    refine v_zald C (List.mem_of_getElem? (i := 4) rfl) (by omega) (by decide) d_Tree_remove_16 (nI 0) (by simp only [leafF]; rw [show nl (N2 rt) = 0 from rp.2.2.1.1]) ?_
    refine v_if_ne C d_Tree_remove_17 55 (by decide) (by omega) (fun cl => False.elim (by exact cl rfl)) (fun cl => ?_)
    refine v_aload_n C d_Tree_remove_20 rfl ?_
    refine v_getf C i_Tree (ci := 0) rfl 2 (by decide) (List.mem_of_getElem? (i := 0) rfl) fl_Tree_18 d_Tree_remove_21 (.ref (a 2)) rfl ?_
    refine v_aload_n C d_Tree_remove_24 rfl ?_
    refine v_getf C i_Tree (ci := 0) rfl 7 (by decide) (List.mem_of_getElem? (i := 0) rfl) fl_Tree_45 d_Tree_remove_25 (.int (nI rt)) rfl ?_
    refine v_iald C (List.mem_of_getElem? (i := 3) rfl) (by omega) (by decide) d_Tree_remove_28 (nI (nc (N2 rt))) (rfl) ?_
    refine v_if_ne C d_Tree_remove_29 55 (by decide) (by omega) (fun c0 => ?_) (fun c0 => ?_)
    · obtain ⟨L', t1, t2⟩ := rem_r0 hx hf2 hnd h5 hlen rp (Or.inr (by omega))
      exact v_vret C rfl d_Tree_remove_55 (⟨rfl, N2, fr2, rt, d + 1, L', rfl, t1, t2⟩)
    · refine v_aload_n C d_Tree_remove_32 rfl ?_
      refine v_getf C i_Tree (ci := 0) rfl 7 (by decide) (List.mem_of_getElem? (i := 0) rfl) fl_Tree_45 d_Tree_remove_33 (.int (nI rt)) rfl ?_
      refine v_istore_n C d_Tree_remove_36 ⟨Nat.le_of_ble_eq_true rfl, Nat.le_of_ble_eq_true rfl⟩ [.ref h, .int (nI rt)] rfl ?_
      refine v_aload_n C d_Tree_remove_37 rfl ?_
      refine v_aload_n C d_Tree_remove_38 rfl ?_
      refine v_aload_n C d_Tree_remove_39 rfl ?_
      refine v_getf C i_Tree (ci := 0) rfl 7 (by decide) (List.mem_of_getElem? (i := 0) rfl) fl_Tree_45 d_Tree_remove_40 (.int (nI rt)) rfl ?_
      refine v_iconst C d_Tree_remove_43 (nI 0) (by decide) ?_
      refine v_cI C (As := [.int (nI rt), .int (nI 0)]) (st := [.ref h]) (c_Tree_kid l D kA h a N2 fr2 rt ky up fl fp rt 0 hrt (by omega)) cv_Tree_kid ml_Tree_65 d_Tree_remove_44 ⟨by omega, by decide⟩ tw_rcv ⟨rfl, rfl⟩ rfl ?_
      rintro _ _ ⟨rfl, rfl⟩
      refine v_putf C i_Tree (ci := 0) (ws' := (tw kA h a N2 fr2 (nC (N2 rt) 0) ky up fl fp)) t_Tree_ok n_Tree rfl 7 (by decide) ⟨0, rfl, rfl⟩ fl_Tree_45 d_Tree_remove_47 rfl (rfl) (rfl) (Nat.le_of_ble_eq_true rfl) rfl ?_
      refine v_aload_n C d_Tree_remove_50 rfl ?_
      refine v_iload_n C d_Tree_remove_51 rfl ?_
      refine v_cV C (As := [.int (nI rt)]) (st := []) (c_Tree_drop l D kA h a N2 fr2 (nC (N2 rt) 0) ky up fl fp rt hrt) cv_Tree_drop ml_Tree_109 d_Tree_remove_52 ⟨by omega, by decide⟩ tw_rcv ⟨rfl, rfl⟩ rfl ?_
      rintro _ rfl
      obtain ⟨L', t1, t2⟩ := rem_r1 (N3 := sx N2 rt fr2) hx hf2 hnd h5 hlen rp c0 (by simp only [sx, uN_self, nx_nd]) (fun z hz => by simp only [sx, uN_ne hz])
      exact v_vret C rfl d_Tree_remove_55 (⟨rfl, _, _, _, d, L', rfl, t1, t2⟩)
