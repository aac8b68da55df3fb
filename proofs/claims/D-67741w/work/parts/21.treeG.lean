theorem nI_nm1 {r : Nat} (h : r < 2 ^ 31) : ¬ nI r = -1 := fun q => by
  have h1 := congrArg Int32.toInt q
  rw [nI_toInt h] at h1
  have h9 : ((-1 : Int32)).toInt = -1 := by decide
  omega

set_option maxHeartbeats 2000000 in
set_option maxRecDepth 20000 in
theorem c_Tree_addTo (l : Launch) (D : va_G) (kA : Nat → ClassId) (h : Nat) (a : Nat → Nat) (rt ky fl fp : Nat) (hky : ky < TOP) : ∀ (d : Nat) (N : Nat → Nd) (fr up n lo hi ee mn : Nat) (frl : List Nat), okT N d n lo hi ee mn → lo ≤ ky → ky < hi → hi ≤ TOP → ky ∉ xsO N d n → FL N fr frl → (fpO N d n ++ frl).Nodup → (∀ z ∈ fpO N d n ++ frl, z < 500) → d + 1 ≤ frl.length →
    Ct l D kA (5 + d) y_Tree_addTo b_Tree_addTo 4 (some .int) [.ref h, .int (nI n)] (tw kA h a N fr rt ky up fl fp) (pI fun x w => ∃ (N' : Nat → Nd) (fr' u' r : Nat) (used frl' : List Nat), x = nI r ∧ w = tw kA h a N' fr' rt ky u' fl fp ∧ frl = used ++ frl' ∧ FL N' fr' frl' ∧ AP N N' n d lo hi ee mn ky used r u') := by
  intro d
  induction d with
  | zero =>
    intro N fr up n lo hi ee mn frl ho hlo hhi hht hni hfl hnd h5 hlen
    have hl1 := ho.1
    have hc7 := ok_c7 ho
    have hn : n < 500 := h5 n (List.mem_append_left _ (fpO_self _ _ _))
    obtain ⟨f, frl, rfl⟩ : ∃ f r, frl = f :: r := by
      cases frl with
      | nil => simp at hlen
      | cons x r => exact ⟨x, r, rfl⟩
    have hfe := hfl.1
    subst hfe
    have hfr : fr < 500 := h5 fr (List.mem_append_right _ List.mem_cons_self)
    obtain ⟨-, hn2, hn3⟩ := List.nodup_append.mp hnd
    have hne : n ≠ fr := fun z => hn3 n (fpO_self _ _ _) fr List.mem_cons_self z
    have hfn : ∀ z ∈ fr :: frl, z ≠ n := fun z hz q => hn3 n (fpO_self _ _ _) z hz q.symm
    refine ct_of (by decide) (Nat.le_of_ble_eq_true rfl) rfl ?_
    intro p e s m args below meth c C
    refine v_aload_n C d_Tree_addTo_0 rfl ?_
    refine v_getf C i_Tree (ci := 0) rfl 5 (by decide) (List.mem_of_getElem? (i := 0) rfl) fl_Tree_28 d_Tree_addTo_1 (.ref (a 5)) rfl ?_
    refine v_iload_n C d_Tree_addTo_4 rfl ?_
    refine v_dup2 C d_Tree_addTo_5 rfl rfl ?_
    refine v_iald C (List.mem_of_getElem? (i := 6) rfl) (by omega) (by decide) d_Tree_addTo_6 (nI (ns (N n))) (rfl) ?_
    refine v_iconst C d_Tree_addTo_7 (nI 1) (by decide) ?_
    refine v_iadd C d_Tree_addTo_8 ?_
    refine v_iast C (ws' := (tw kA h a (ss N n (ns (N n) + 1)) fr rt ky up fl fp)) (tw_ss) (by omega) (by decide) d_Tree_addTo_9 (fun j _ => sizF_ss j) ?_
    obtain ⟨N1, hN1⟩ : ∃ z, z = (ss N n (ns (N n) + 1)) := ⟨_, rfl⟩
    rw [← hN1]
    have q0 : N1 n = nd (nK (N n)) (nC (N n)) (nc (N n)) (nl (N n)) (nx (N n)) (ns (N n) + 1) := by rw [hN1]; simp only [ss, uN_self]
    have q1 : ∀ z, z ≠ n → N1 z = N z := fun z hz => by rw [hN1]; simp only [ss, uN_ne hz]
    refine v_aload_n C d_Tree_addTo_10 rfl ?_
    refine v_getf C i_Tree (ci := 0) rfl 3 (by decide) (List.mem_of_getElem? (i := 0) rfl) fl_Tree_21 d_Tree_addTo_11 (.ref (a 3)) rfl ?_
    refine v_iload_n C d_Tree_addTo_14 rfl ?_
    refine v_zald C (List.mem_of_getElem? (i := 4) rfl) (by omega) (by decide) d_Tree_addTo_15 (nI 1) (by simp only [leafF, q0, nl_nd, hl1]) ?_
    refine v_if_eq C d_Tree_addTo_16 62 (by decide) (by omega) (fun cl => False.elim (by omega)) (fun cl => ?_)
    refine v_aload_n C d_Tree_addTo_19 rfl ?_
    refine v_iload_n C d_Tree_addTo_20 rfl ?_
    refine v_cI C (As := [.int (nI n)]) (st := []) (c_Tree_below l D kA h a N1 fr rt ky up fl fp n hn (by rw [q0, nc_nd]; omega) (by rw [q0, nc_nd]; exact ok_top ho hht) hky) cv_Tree_below ml_Tree_72 d_Tree_addTo_21 ⟨by omega, by decide⟩ tw_rcv ⟨rfl, rfl⟩ rfl ?_
    rintro _ _ ⟨b, rfl, hb, hb1, hb2, rfl⟩
    simp only [q0, nc_nd, nK_nd] at hb hb1 hb2
    refine v_istore_n C d_Tree_addTo_24 ⟨Nat.le_of_ble_eq_true rfl, Nat.le_of_ble_eq_true rfl⟩ [.ref h, .int (nI n), .int (nI b)] rfl ?_
    refine v_aload_n C d_Tree_addTo_25 rfl ?_
    refine v_iload_n C d_Tree_addTo_26 rfl ?_
    refine v_iload_n C d_Tree_addTo_27 rfl ?_
    refine v_cV C (As := [.int (nI n), .int (nI b)]) (st := []) (c_Tree_open l D kA h a N1 fr rt ky up fl fp n b hn (by rw [q0, nc_nd]; omega) (by rw [q0, nc_nd]; exact hb)) cv_Tree_open ml_Tree_92 d_Tree_addTo_28 ⟨by omega, by decide⟩ tw_rcv ⟨rfl, rfl⟩ rfl ?_
    rintro _ rfl
    refine v_aload_n C d_Tree_addTo_31 rfl ?_
    refine v_iload_n C d_Tree_addTo_32 rfl ?_
    refine v_iload_n C d_Tree_addTo_33 rfl ?_
    refine v_aload_n C d_Tree_addTo_34 rfl ?_
    refine v_getf C i_Tree (ci := 0) rfl 8 (by decide) (List.mem_of_getElem? (i := 0) rfl) fl_Tree_31 d_Tree_addTo_35 (.ref (a 6)) rfl ?_
    refine v_cV C (As := [.int (nI n), .int (nI b), .ref (a 6)]) (st := []) (c_Tree_put l D kA h a (opN N1 n b) fr rt ky up fl fp n b (a 6) ky hn (by omega) (List.mem_of_getElem? (i := 7) rfl)) cv_Tree_put ml_Tree_88 d_Tree_addTo_38 ⟨by omega, by decide⟩ tw_rcv ⟨rfl, rfl⟩ rfl ?_
    rintro _ rfl
    obtain ⟨N3, hN3⟩ : ∃ z, z = (sK (opN N1 n b) n b ky) := ⟨_, rfl⟩
    rw [← hN3]
    have r0 : N3 n = nd (va_up (opK (nK (N n)) b (nc (N n))) b ky) (opC (nC (N n)) b (nc (N n))) (nc (N n) + 1) (nl (N n)) (nx (N n)) (ns (N n) + 1) := by rw [hN3]; simp only [opN, sK_un, un_at, q0, nK_nd, nC_nd, nc_nd, nl_nd, nx_nd, ns_nd]
    have r1 : ∀ z, z ≠ n → N3 z = N z := fun z hz => by rw [hN3]; simp only [opN, sK_un, un_ne hz, q1 z hz]
    refine v_aload_n C d_Tree_addTo_41 rfl ?_
    refine v_getf C i_Tree (ci := 0) rfl 2 (by decide) (List.mem_of_getElem? (i := 0) rfl) fl_Tree_18 d_Tree_addTo_42 (.ref (a 2)) rfl ?_
    refine v_iload_n C d_Tree_addTo_45 rfl ?_
    refine v_iald C (List.mem_of_getElem? (i := 3) rfl) (by omega) (by decide) d_Tree_addTo_46 (nI (nc (N n) + 1)) (by simp only [cntF, r0, nc_nd]) ?_
    refine v_bipush C d_Tree_addTo_47 (nI 8) (by decide) ?_
    refine v_icmp_ne C d_Tree_addTo_49 60 (by decide) (by omega) (by omega) (fun c8 => ?_) (fun c8 => ?_)
    · refine v_iconst C d_Tree_addTo_60 (-1) (by decide) ?_
      exact v_iret C rfl d_Tree_addTo_61 (⟨_, rfl, N3, fr, up, NONE, [], fr :: frl, by decide, rfl, rfl, hfl.frame (fun z hz => r1 z (hfn z hz)), add_l0 ho hlo hhi hni hb hb1 hb2 r0 r1 c8⟩)
    · refine v_aload_n C d_Tree_addTo_52 rfl ?_
      refine v_iload_n C d_Tree_addTo_53 rfl ?_
      refine v_cI C (As := [.int (nI n)]) (st := []) (c_Tree_partLeaf l D kA h a N3 fr rt ky up fl fp n hn hfr hne) cv_Tree_partLeaf ml_Tree_96 d_Tree_addTo_54 ⟨by omega, by decide⟩ tw_rcv ⟨rfl, rfl⟩ rfl ?_
      rintro _ _ ⟨rfl, N4, rfl, s0, s1, s2⟩
      refine v_goto C d_Tree_addTo_57 61 (by decide) ?_
      have hfr2 : fr ∉ frl := (List.nodup_cons.mp hn2).1
      exact v_iret C rfl d_Tree_addTo_61 (⟨_, rfl, N4, _, _, fr, [fr], frl, rfl, rfl, rfl, by rw [r1 fr hne.symm]; exact hfl.2.frame (fun z hz => by rw [s2 z (hfn z (List.mem_cons_of_mem _ hz)) (fun q => hfr2 (q ▸ hz)), r1 z (hfn z (List.mem_cons_of_mem _ hz))]), add_l1 ho hlo hhi hni hb hb1 hb2 r0 r1 c8 hfr hne s0 s1 s2⟩)
  | succ d ih =>
    intro N fr up n lo hi ee mn frl ho hlo hhi hht hni hfl hnd h5 hlen
    have hl1 := ho.1
    have hc7 := ok_c7 ho
    have hn : n < 500 := h5 n (List.mem_append_left _ (fpO_self _ _ _))
    obtain ⟨hn1, hn2, hn3⟩ := List.nodup_append.mp hnd
    refine ct_of (by decide) (Nat.le_of_ble_eq_true rfl) rfl ?_
    intro p e s m args below meth c C
    refine v_aload_n C d_Tree_addTo_0 rfl ?_
    refine v_getf C i_Tree (ci := 0) rfl 5 (by decide) (List.mem_of_getElem? (i := 0) rfl) fl_Tree_28 d_Tree_addTo_1 (.ref (a 5)) rfl ?_
    refine v_iload_n C d_Tree_addTo_4 rfl ?_
    refine v_dup2 C d_Tree_addTo_5 rfl rfl ?_
    refine v_iald C (List.mem_of_getElem? (i := 6) rfl) (by omega) (by decide) d_Tree_addTo_6 (nI (ns (N n))) (rfl) ?_
    refine v_iconst C d_Tree_addTo_7 (nI 1) (by decide) ?_
    refine v_iadd C d_Tree_addTo_8 ?_
    refine v_iast C (ws' := (tw kA h a (ss N n (ns (N n) + 1)) fr rt ky up fl fp)) (tw_ss) (by omega) (by decide) d_Tree_addTo_9 (fun j _ => sizF_ss j) ?_
    obtain ⟨N1, hN1⟩ : ∃ z, z = (ss N n (ns (N n) + 1)) := ⟨_, rfl⟩
    rw [← hN1]
    have q0 : N1 n = nd (nK (N n)) (nC (N n)) (nc (N n)) (nl (N n)) (nx (N n)) (ns (N n) + 1) := by rw [hN1]; simp only [ss, uN_self]
    have q1 : ∀ z, z ≠ n → N1 z = N z := fun z hz => by rw [hN1]; simp only [ss, uN_ne hz]
    refine v_aload_n C d_Tree_addTo_10 rfl ?_
    refine v_getf C i_Tree (ci := 0) rfl 3 (by decide) (List.mem_of_getElem? (i := 0) rfl) fl_Tree_21 d_Tree_addTo_11 (.ref (a 3)) rfl ?_
    refine v_iload_n C d_Tree_addTo_14 rfl ?_
    refine v_zald C (List.mem_of_getElem? (i := 4) rfl) (by omega) (by decide) d_Tree_addTo_15 (nI 0) (by simp only [leafF, q0, nl_nd, hl1]) ?_
    refine v_if_eq C d_Tree_addTo_16 62 (by decide) (by omega) (fun cl => ?_) (fun cl => False.elim (by omega))
    refine v_aload_n C d_Tree_addTo_62 rfl ?_
    refine v_iload_n C d_Tree_addTo_63 rfl ?_
    refine v_cI C (As := [.int (nI n)]) (st := []) (c_Tree_way l D kA h a N1 fr rt ky up fl fp n hn (by rw [q0, nc_nd]; omega) (by rw [q0, nc_nd]; exact ok_top ho hht) hky) cv_Tree_way ml_Tree_61 d_Tree_addTo_64 ⟨by omega, by decide⟩ tw_rcv ⟨rfl, rfl⟩ rfl ?_
    rintro _ _ ⟨b, rfl, hb, hb1, hb2, rfl⟩
    simp only [q0, nc_nd, nK_nd] at hb hb1 hb2
    refine v_istore_n C d_Tree_addTo_67 ⟨Nat.le_of_ble_eq_true rfl, Nat.le_of_ble_eq_true rfl⟩ [.ref h, .int (nI n), .int (nI b)] rfl ?_
    refine v_aload_n C d_Tree_addTo_68 rfl ?_
    refine v_aload_n C d_Tree_addTo_69 rfl ?_
    refine v_iload_n C d_Tree_addTo_70 rfl ?_
    refine v_iload_n C d_Tree_addTo_71 rfl ?_
    refine v_cI C (As := [.int (nI n), .int (nI b)]) (st := [.ref h]) (c_Tree_kid l D kA h a N1 fr rt ky up fl fp n b hn (by omega)) cv_Tree_kid ml_Tree_65 d_Tree_addTo_72 ⟨by omega, by decide⟩ tw_rcv ⟨rfl, rfl⟩ rfl ?_
    rintro _ _ ⟨rfl, rfl⟩
    rw [q0, nC_nd]
    have hkk := (okT_s.mp ho).2.2.2.2
    obtain ⟨⟨w1, w2⟩, -, -⟩ := k_way hkk (fun _ _ => by decide) hb hb1 hb2 hlo hhi
    have hnk : ∀ z ∈ fpO N d (nC (N n) b), z ≠ n := fun z hz q => (List.nodup_cons.mp (show (n :: fpK N d (nC (N n)) (nc (N n))).Nodup from hn1)).1 (fpK_mem.mpr ⟨b, hb, q ▸ hz⟩)
    have hfn : ∀ z ∈ frl, z ≠ n := fun z hz q => hn3 n (fpO_self _ _ _) z hz q.symm
    have hF : ∀ z ∈ fpO N d (nC (N n) b), N1 z = N z := fun z hz => q1 z (hnk z hz)
    have hle := b_le (k_bd hkk (fun _ _ => by decide)) (show b + 1 ≤ nc (N n) + 1 by omega) (Nat.le_refl _)
    rw [bd_t] at hle
    have hI := ih N1 fr up (nC (N n) b) _ _ _ _ frl (frame_ok d _ hF (hkk b hb)) w1 w2 (by omega) (by rw [frame_xs hF]; exact fun z => hni (seg_mem.mpr ⟨b, by omega, by simpa using z⟩)) (hfl.frame (fun z hz => q1 z (hfn z hz))) (by rw [frame_fp hF]; exact List.nodup_append.mpr ⟨seg_nod (g := fun i => fpO N d (nC (N n) i)) (List.nodup_cons.mp hn1).2 (by omega), hn2, fun x hx y hy => hn3 x (fpO_kid hb hx) y hy⟩) (by rw [frame_fp hF]; exact fun z hz => (List.mem_append.mp hz).elim (fun hz => h5 z (List.mem_append_left _ (fpO_kid hb hz))) (fun hz => h5 z (List.mem_append_right _ hz))) (by omega)
    refine v_cI C (As := [.int (nI (nC (N n) b))]) (st := []) (hI) cv_Tree_addTo ml_Tree_85 d_Tree_addTo_75 ⟨by omega, by decide⟩ tw_rcv ⟨rfl, rfl⟩ rfl ?_
    rintro _ _ ⟨N2, fr2, u2, r, used, frl2, rfl, rfl, hfe, hfl2, ap⟩
    have hu : ∀ z ∈ used, z ∈ frl := fun z hz => by rw [hfe]; exact List.mem_append_left _ hz
    obtain ⟨p1, p2, p3, p4, p5⟩ := add_pre hnd q0 q1 hb hu ap
    refine v_istore_n C d_Tree_addTo_78 ⟨Nat.le_of_ble_eq_true rfl, Nat.le_of_ble_eq_true rfl⟩ [.ref h, .int (nI n), .int (nI b), .int (nI r)] rfl ?_
    refine v_iload_n C d_Tree_addTo_79 rfl ?_
    refine v_iconst C d_Tree_addTo_80 (-1) (by decide) ?_
    rcases id ap.2.2.2 with ⟨hr, -⟩ | ⟨hr, -⟩
    · refine v_icmp_neR C d_Tree_addTo_81 86 (by decide) (fun cr => False.elim (by rw [hr] at cr; exact cr (by decide))) (fun cr => ?_)
      refine v_iconst C d_Tree_addTo_84 (-1) (by decide) ?_
      exact v_iret C rfl d_Tree_addTo_85 (⟨_, rfl, N2, fr2, u2, NONE, used, frl2, by decide, rfl, hfe, hfl2, add_i0 ho hlo hhi hnd q0 q1 hb hb1 hb2 hu ap hr⟩)
    · refine v_icmp_neR C d_Tree_addTo_81 86 (by decide) (fun cr => ?_) (fun cr => False.elim (by exact nI_nm1 (by omega) cr))
      have e2 : N2 n = nd (nK (N n)) (nC (N n)) (nc (N n)) (nl (N n)) (nx (N n)) (ns (N n) + 1) := p2.trans q0
      refine v_aload_n C d_Tree_addTo_86 rfl ?_
      refine v_iload_n C d_Tree_addTo_87 rfl ?_
      refine v_iload_n C d_Tree_addTo_88 rfl ?_
      refine v_cV C (As := [.int (nI n), .int (nI b)]) (st := []) (c_Tree_open l D kA h a N2 fr2 rt ky u2 fl fp n b hn (by rw [e2, nc_nd]; omega) (by rw [e2, nc_nd]; exact hb)) cv_Tree_open ml_Tree_92 d_Tree_addTo_89 ⟨by omega, by decide⟩ tw_rcv ⟨rfl, rfl⟩ rfl ?_
      rintro _ rfl
      refine v_aload_n C d_Tree_addTo_92 rfl ?_
      refine v_iload_n C d_Tree_addTo_93 rfl ?_
      refine v_iload_n C d_Tree_addTo_94 rfl ?_
      refine v_aload_n C d_Tree_addTo_95 rfl ?_
      refine v_getf C i_Tree (ci := 0) rfl 9 (by decide) (List.mem_of_getElem? (i := 0) rfl) fl_Tree_34 d_Tree_addTo_96 (.ref (a 7)) rfl ?_
      refine v_cV C (As := [.int (nI n), .int (nI b), .ref (a 7)]) (st := []) (c_Tree_put l D kA h a (opN N2 n b) fr2 rt ky u2 fl fp n b (a 7) u2 hn (by omega) (List.mem_of_getElem? (i := 8) rfl)) cv_Tree_put ml_Tree_88 d_Tree_addTo_99 ⟨by omega, by decide⟩ tw_rcv ⟨rfl, rfl⟩ rfl ?_
      rintro _ rfl
      refine v_aload_n C d_Tree_addTo_102 rfl ?_
      refine v_getf C i_Tree (ci := 0) rfl 1 (by decide) (List.mem_of_getElem? (i := 0) rfl) fl_Tree_15 d_Tree_addTo_103 (.ref (a 1)) rfl ?_
      refine v_bipush C d_Tree_addTo_106 (nI 11) (by decide) ?_
      refine v_iload_n C d_Tree_addTo_108 rfl ?_
      refine v_imul C d_Tree_addTo_109 ?_
      refine v_iload_n C d_Tree_addTo_110 rfl ?_
      refine v_iadd C d_Tree_addTo_111 ?_
      refine v_iconst C d_Tree_addTo_112 (nI 1) (by decide) ?_
      refine v_iadd C d_Tree_addTo_113 ?_
      refine v_top (y := nI (11 * n + (b + 1))) (congrArg nI (show ((11 * n) + b) + 1 = 11 * n + (b + 1) from by omega)) ?_
      refine v_iload_n C d_Tree_addTo_114 rfl ?_
      refine v_iast C (ws' := (tw kA h a (sC (sK (opN N2 n b) n b u2) n (b + 1) r) fr2 rt ky u2 fl fp)) (tw_sC) (by omega) (by decide) d_Tree_addTo_115 (fun j _ => kidsF_sC (by omega) j) ?_
      obtain ⟨N3, hN3⟩ : ∃ z, z = (sC (sK (opN N2 n b) n b u2) n (b + 1) r) := ⟨_, rfl⟩
      rw [← hN3]
      have r0 : N3 n = nd (va_up (opK (nK (N n)) b (nc (N n))) b u2) (va_up (opC (nC (N n)) b (nc (N n))) (b + 1) r) (nc (N n) + 1) (nl (N n)) (nx (N n)) (ns (N n) + 1) := by rw [hN3]; simp only [opN, sK_un, sC_un, un_at, e2, nK_nd, nC_nd, nc_nd, nl_nd, nx_nd, ns_nd]
      have r1 : ∀ z, z ≠ n → N3 z = N2 z := fun z hz => by rw [hN3]; simp only [opN, sK_un, sC_un, un_ne hz]
      have AHH : AH N N1 N2 N3 n d lo hi ee mn ky b r u2 used frl := ⟨ho, hlo, hhi, hnd, q0, q1, hb, hb1, hb2, hu, ap, hr, r0, r1⟩
      refine v_aload_n C d_Tree_addTo_116 rfl ?_
      refine v_getf C i_Tree (ci := 0) rfl 2 (by decide) (List.mem_of_getElem? (i := 0) rfl) fl_Tree_18 d_Tree_addTo_117 (.ref (a 2)) rfl ?_
      refine v_iload_n C d_Tree_addTo_120 rfl ?_
      refine v_iald C (List.mem_of_getElem? (i := 3) rfl) (by omega) (by decide) d_Tree_addTo_121 (nI (nc (N n) + 1)) (by simp only [cntF, r0, nc_nd]) ?_
      refine v_bipush C d_Tree_addTo_122 (nI 8) (by decide) ?_
      have hfn2 : ∀ z ∈ frl2, z ≠ n := fun z hz => hfn z (by rw [hfe]; exact List.mem_append_right _ hz)
      refine v_icmp_ne C d_Tree_addTo_124 135 (by decide) (by omega) (by omega) (fun c8 => ?_) (fun c8 => ?_)
      · refine v_iconst C d_Tree_addTo_135 (-1) (by decide) ?_
        exact v_iret C rfl d_Tree_addTo_136 (⟨_, rfl, N3, fr2, u2, NONE, used, frl2, by decide, rfl, hfe, hfl2.frame (fun z hz => r1 z (hfn2 z hz)), add_i1 AHH c8⟩)
      · obtain ⟨g, frl2, rfl⟩ : ∃ f r, frl2 = f :: r := by
          cases frl2 with
          | nil => exfalso; rw [hfe, List.append_nil] at hlen; have := ap.2.1; omega
          | cons x r => exact ⟨x, r, rfl⟩
        have hge := hfl2.1
        subst hge
        have hfm : fr2 ∈ frl := by rw [hfe]; exact List.mem_append_right _ List.mem_cons_self
        have hn2b : (used ++ fr2 :: frl2).Nodup := hfe ▸ hn2
        have hfu : fr2 ∉ used := fun z => (List.nodup_append.mp hn2b).2.2 fr2 z fr2 List.mem_cons_self rfl
        have hfr3 : fr2 ∉ frl2 := (List.nodup_cons.mp (List.nodup_append.mp hn2b).2.1).1
        have hfr5 : fr2 < 500 := h5 fr2 (List.mem_append_right _ hfm)
        obtain ⟨-, -, -, -, v5, -, -⟩ := add_h AHH
        rw [show nc (N n) + 1 = 8 from c8] at v5
        refine v_aload_n C d_Tree_addTo_127 rfl ?_
        refine v_iload_n C d_Tree_addTo_128 rfl ?_
        refine v_cI C (As := [.int (nI n)]) (st := []) (c_Tree_partNode l D kA h a N3 fr2 rt ky u2 fl fp n hn hfr5 (fun q => hfn fr2 hfm q.symm) (fun k hk => have hv := v5 k hk _ (fpO_self N2 d _); ⟨hv.2.elim (fun hz => h5 _ (List.mem_append_right _ (hu _ hz))) (fun hz => h5 _ (List.mem_append_left _ hz)), hv.1, fun q => hv.2.elim (fun hz => hfu (q ▸ hz)) (fun hz => hn3 _ hz fr2 hfm q)⟩)) cv_Tree_partNode ml_Tree_99 d_Tree_addTo_129 ⟨by omega, by decide⟩ tw_rcv ⟨rfl, rfl⟩ rfl ?_
        rintro _ _ ⟨rfl, N4, rfl, s0, s1, s2⟩
        refine v_goto C d_Tree_addTo_132 136 (by decide) ?_
        exact v_iret C rfl d_Tree_addTo_136 (⟨_, rfl, N4, _, _, fr2, used ++ [fr2], frl2, rfl, rfl, by rw [hfe, List.append_assoc]; rfl, by rw [r1 fr2 (hfn fr2 hfm)]; exact hfl2.2.frame (fun z hz => by rw [s2 z (hfn2 z (List.mem_cons_of_mem _ hz)) (fun q => hfr3 (q ▸ hz)), r1 z (hfn2 z (List.mem_cons_of_mem _ hz))]), add_i2 AHH c8 hfr5 hfm hfu s0 s1 s2⟩)
