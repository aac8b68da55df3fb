theorem ok_deep2 {N : Nat → Nd} : ∀ (d n : Nat) {lo hi e mn : Nat}, okT N d n lo hi e mn → (d = 0 ∨ 1 ≤ mn) → 2 * d + 1 ≤ (fpO N d n).length
  | 0, n, _, _, _, _, _, _ => Nat.le_refl _
  | d + 1, n, lo, hi, e, mn, h, hm => by
    obtain ⟨-, h2, -, -, h5⟩ := h
    have h6 := ok_deep2 d (nC (N n) 0) (h5 0 (by omega)) (Or.inr (by omega))
    have h7 := ok_deep2 d (nC (N n) 1) (h5 1 (by omega)) (Or.inr (by omega))
    have h8 := seg_len_le (g := fun i => fpO N d (nC (N n) i)) (n := nc (N n)) (i := 1) (j := 0) (by omega)
    rw [fpO, List.length_cons, seg_s, List.length_append]
    simp only [Nat.add_zero, Nat.zero_add] at h8 ⊢
    omega
theorem TI_mk {N' : Nat → Nd} {fr' rt' d' : Nat} {L' fp frl frl' : List Nat} (ho : okT N' d' rt' 0 TOP NONE (if d' = 0 then 0 else 1)) (hx : xsO N' d' rt' = L') (hfl : FL N' fr' frl') (hp : (fpO N' d' rt' ++ frl').Perm (fp ++ frl)) (hnd : (fp ++ frl).Nodup) (h5 : ∀ m ∈ fp ++ frl, m < 500) (hlen : (fp ++ frl).length = 500) : TI N' fr' rt' d' L' :=
  ⟨ho, hx, frl', hfl, hp.nodup_iff.mpr hnd, fun m hm => h5 m (hp.mem_iff.mp hm), by rw [hp.length_eq]; exact hlen⟩
theorem TI.room {N : Nat → Nd} {fr rt d : Nat} {L frl : List Nat} (ho : okT N d rt 0 TOP NONE (if d = 0 then 0 else 1)) (hx : xsO N d rt = L) (hlen : (fpO N d rt ++ frl).length = 500) (hL : L.length ≤ 520) : d ≤ 130 ∧ d + 2 ≤ frl.length := by
  have h1 := ok_cnt d rt ho
  have h2 := ok_deep2 d rt ho (by by_cases hd : d = 0 <;> simp [hd])
  rw [List.length_append] at hlen
  rw [hx] at h1
  split at h1 <;> omega
theorem add_r0 {N N2 : Nat → Nd} {rt d ky u fr2 : Nat} {L used frl2 : List Nat} (hx : xsO N d rt = L) (hfl : FL N2 fr2 frl2) (hnd : (fpO N d rt ++ (used ++ frl2)).Nodup) (h5 : ∀ m ∈ fpO N d rt ++ (used ++ frl2), m < 500) (hlen : (fpO N d rt ++ (used ++ frl2)).length = 500) (ap : AP N N2 rt d 0 TOP NONE (if d = 0 then 0 else 1) ky used NONE u) : ∃ L', TI N2 fr2 rt d L' ∧ Ins ky L L' := by
  obtain ⟨-, -, -, ⟨-, h1, h2, h3⟩ | ⟨h1, -⟩⟩ := ap
  · refine ⟨_, TI_mk h1 rfl hfl ?_ hnd h5 hlen, hx ▸ h2⟩
    refine (h3.append_right frl2).trans ?_
    rw [← List.append_assoc]
    exact List.perm_append_comm.append_right _
  · exact absurd h1 (by decide)
theorem add_r1 {N N2 N5 : Nat → Nd} {rt d ky u r f fx : Nat} {K C : Nat → Nat} {L used frl3 : List Nat} (hx : xsO N d rt = L) (hfl : FL N2 (nx (N2 f)) frl3) (hnd : (fpO N d rt ++ (used ++ f :: frl3)).Nodup) (h5 : ∀ m ∈ fpO N d rt ++ (used ++ f :: frl3), m < 500) (hlen : (fpO N d rt ++ (used ++ f :: frl3)).length = 500) (ap : AP N N2 rt d 0 TOP NONE (if d = 0 then 0 else 1) ky used r u) (hr : r < 500)
    (s0 : N5 f = nd (va_up K 0 u) (va_up (va_up C 0 rt) 1 r) 1 0 fx (ns (N2 rt) + ns (N2 r))) (s1 : ∀ q, q ≠ f → N5 q = N2 q) : ∃ L', TI N5 (nx (N2 f)) f (d + 1) L' ∧ Ins ky L L' := by
  obtain ⟨-, -, -, ⟨h1, -⟩ | ⟨-, h1, h2, h3, h4⟩⟩ := ap
  · exact absurd h1 (by unfold NONE; omega)
  · have hpp : ((fpO N2 d rt ++ fpO N2 d r) ++ f :: frl3).Perm (fpO N d rt ++ (used ++ f :: frl3)) := by
      refine (h4.append_right _).trans ?_
      rw [← List.append_assoc (fpO N d rt)]
      exact List.perm_append_comm.append_right _
    have hnd2 := hpp.nodup_iff.mpr hnd
    obtain ⟨n1, n2, n3⟩ := List.nodup_append.mp hnd2
    have fr1 : ∀ q ∈ fpO N2 d rt, N5 q = N2 q := fun q hq => s1 q (fun z => n3 q (List.mem_append_left _ hq) f List.mem_cons_self z)
    have fr2 : ∀ q ∈ fpO N2 d r, N5 q = N2 q := fun q hq => s1 q (fun z => n3 q (List.mem_append_right _ hq) f List.mem_cons_self z)
    have fr3 : ∀ q ∈ frl3, N5 q = N2 q := fun q hq => s1 q (fun z => (List.nodup_cons.mp n2).1 (z ▸ hq))
    have c0 : nC (N5 f) 0 = rt := by rw [s0, nC_nd]; rfl
    have c1 : nC (N5 f) 1 = r := by rw [s0, nC_nd]; rfl
    have ec : nc (N5 f) = 1 := by rw [s0, nc_nd]
    have k0 : nK (N5 f) 0 = u := by rw [s0, nK_nd]; rfl
    have hxx : xsO N5 (d + 1) f = xsO N2 d rt ++ xsO N2 d r := by
      rw [xsO, ec, seg_s, seg_s, seg_0, Nat.zero_add, c0, c1, List.append_nil, frame_xs fr1, frame_xs fr2]
    refine ⟨_, TI_mk (okT_s.mpr ⟨by rw [s0, nl_nd], by rw [ec]; simp, by omega, ?_, ?_⟩) hxx (hfl.frame fr3) ?_ hnd h5 hlen, hx ▸ h3⟩
    · show ns (N5 f) = (xsO N5 (d + 1) f).length
      rw [hxx, s0, ns_nd, List.length_append, ok_ns h1, ok_ns h2]
    · rw [ec]
      intro i hi'
      rcases (show i = 0 ∨ i = 1 by omega) with rfl | rfl
      · rw [bd_0, bd_s (by omega), he_s (by omega), k0, c0, c1, frame_hd fr2]
        exact frame_ok d rt fr1 h1
      · rw [bd_s (by omega), bd_t, he_t, k0, c1]
        exact frame_ok d r fr2 h2
    · rw [fpO, ec, seg_s, seg_s, seg_0, Nat.zero_add, c0, c1, List.append_nil, frame_fp fr1, frame_fp fr2]
      refine List.Perm.trans ?_ hpp
      exact List.perm_middle.symm

set_option maxHeartbeats 800000 in
set_option maxRecDepth 20000 in
theorem c_Tree_add (l : Launch) (D : va_G) (kA : Nat → ClassId) (h : Nat) (a : Nat → Nat) (N : Nat → Nd) (fr rt ky up fl fp : Nat) (d : Nat) (L : List Nat) (hT : TI N fr rt d L) (hky : ky < TOP) (hni : ky ∉ L) (hL : L.length ≤ 520) : Ct l D kA 140 y_Tree_add b_Tree_add 3 none [.ref h] (tw kA h a N fr rt ky up fl fp) (pV fun w => ∃ (N' : Nat → Nd) (fr' rt' u' d' : Nat) (L' : List Nat), w = tw kA h a N' fr' rt' ky u' fl fp ∧ TI N' fr' rt' d' L' ∧ Ins ky L L') := by
  refine ct_of (by decide) (Nat.le_of_ble_eq_true rfl) rfl ?_
  intro p e s m args below meth c C
  obtain ⟨ho, hx, frl, hfl, hnd, h5, hlen⟩ := id hT
  obtain ⟨hd, hfl2⟩ := TI.room (fr := fr) ho hx hlen hL
  have hrt : rt < 500 := hT.lt rt (fpO_self _ _ _)
  refine v_aload_n C d_Tree_add_0 rfl ?_
  refine v_aload_n C d_Tree_add_1 rfl ?_
  refine v_getf C i_Tree (ci := 0) rfl 7 (by decide) (List.mem_of_getElem? (i := 0) rfl) fl_Tree_45 d_Tree_add_2 (.int (nI rt)) rfl ?_
  refine v_cI C (As := [.int (nI rt)]) (st := []) (c_Tree_addTo l D kA h a rt ky fl fp hky d N fr up rt _ _ _ _ frl ho (Nat.zero_le _) hky (Nat.le_refl _) (by rw [hx]; exact hni) hfl hnd h5 (by omega)) cv_Tree_addTo ml_Tree_85 d_Tree_add_5 ⟨by omega, by decide⟩ tw_rcv ⟨rfl, rfl⟩ rfl ?_
  rintro _ _ ⟨N2, fr2, u2, r, used, frl2, rfl, rfl, rfl, hf2, ap⟩
  refine v_istore_n C d_Tree_add_8 ⟨Nat.le_of_ble_eq_true rfl, Nat.le_of_ble_eq_true rfl⟩ [.ref h, .int (nI r)] rfl ?_
  refine v_iload_n C d_Tree_add_9 rfl ?_
  refine v_iconst C d_Tree_add_10 (-1) (by decide) ?_
  rcases id ap.2.2.2 with ⟨hr, -⟩ | ⟨hr, -⟩
  · refine v_icmp_eqR C d_Tree_add_11 89 (by decide) (fun cr => ?_) (fun cr => False.elim (by rw [hr] at cr; exact cr (by decide)))
    rw [hr] at ap
    obtain ⟨L', t1, t2⟩ := add_r0 hx hf2 hnd h5 hlen ap
    exact v_vret C rfl d_Tree_add_89 (⟨rfl, N2, fr2, rt, u2, d, L', rfl, t1, t2⟩)
  · refine v_icmp_eqR C d_Tree_add_11 89 (by decide) (fun cr => False.elim (by exact nI_nm1 (by omega) cr)) (fun cr => ?_)
    obtain ⟨g, frl3, rfl⟩ : ∃ f r, frl2 = f :: r := by
      cases frl2 with
      | nil => exfalso; rw [List.append_nil] at hfl2; have := ap.2.1; omega
      | cons x r => exact ⟨x, r, rfl⟩
    have hge := hf2.1
    subst hge
    have hfr5 : fr2 < 500 := h5 fr2 (by simp)
    have hpp : ∀ z, z = rt ∨ z = r → z < 500 ∧ z ≠ fr2 := fun z hz => by
      obtain ⟨-, -, -, ⟨h1, -⟩ | ⟨-, -, -, -, h4⟩⟩ := ap
      · exact absurd h1 (by unfold NONE; omega)
      · have hm : z ∈ used ++ fpO N d rt := h4.mem_iff.mp (by rcases hz with rfl | rfl; exact List.mem_append_left _ (fpO_self _ _ _); exact List.mem_append_right _ (fpO_self _ _ _))
        obtain ⟨m1, m2, m3⟩ := List.nodup_append.mp hnd
        obtain ⟨m4, m5, m6⟩ := List.nodup_append.mp m2
        rcases List.mem_append.mp hm with hm | hm
        · exact ⟨h5 z (by simp [hm]), fun q => m6 z hm fr2 List.mem_cons_self q⟩
        · exact ⟨h5 z (by simp [hm]), fun q => m3 z hm fr2 (by simp) q⟩
    refine v_aload_n C d_Tree_add_14 rfl ?_
    refine v_iconst C d_Tree_add_15 (nI 0) (by decide) ?_
    refine v_cI C (As := [.int (nI 0)]) (st := []) (c_Tree_make l D kA h a N2 fr2 rt ky u2 fl fp 0 hfr5 (by omega)) cv_Tree_make ml_Tree_41 d_Tree_add_16 ⟨by omega, by decide⟩ tw_rcv ⟨rfl, rfl⟩ rfl ?_
    rintro _ _ ⟨rfl, rfl⟩
    rw [show uN N2 fr2 (nd (nK (N2 fr2)) (nC (N2 fr2)) 0 0 NONE 0) = un N2 fr2 (nK (N2 fr2)) (nC (N2 fr2)) 0 0 NONE 0 from rfl]
    refine v_istore_n C d_Tree_add_19 ⟨Nat.le_of_ble_eq_true rfl, Nat.le_of_ble_eq_true rfl⟩ [.ref h, .int (nI r), .int (nI fr2)] rfl ?_
    refine v_aload_n C d_Tree_add_20 rfl ?_
    refine v_getf C i_Tree (ci := 0) rfl 1 (by decide) (List.mem_of_getElem? (i := 0) rfl) fl_Tree_15 d_Tree_add_21 (.ref (a 1)) rfl ?_
    refine v_bipush C d_Tree_add_24 (nI 11) (by decide) ?_
    refine v_iload_n C d_Tree_add_26 rfl ?_
    refine v_imul C d_Tree_add_27 ?_
    refine v_top (y := nI (11 * fr2 + 0)) (congrArg nI (show 11 * fr2 = 11 * fr2 + 0 from rfl)) ?_
    refine v_aload_n C d_Tree_add_28 rfl ?_
    refine v_getf C i_Tree (ci := 0) rfl 7 (by decide) (List.mem_of_getElem? (i := 0) rfl) fl_Tree_45 d_Tree_add_29 (.int (nI rt)) rfl ?_
    refine v_iast C (ws' := (tw kA h a (sC (un N2 fr2 (nK (N2 fr2)) (nC (N2 fr2)) 0 0 NONE 0) fr2 0 rt) (nx (N2 fr2)) rt ky u2 fl fp)) (tw_sC) (by omega) (by decide) d_Tree_add_32 (fun j _ => kidsF_sC (by omega) j) ?_
    rw [sC_un]
    refine v_aload_n C d_Tree_add_33 rfl ?_
    refine v_getf C i_Tree (ci := 0) rfl 1 (by decide) (List.mem_of_getElem? (i := 0) rfl) fl_Tree_15 d_Tree_add_34 (.ref (a 1)) rfl ?_
    refine v_bipush C d_Tree_add_37 (nI 11) (by decide) ?_
    refine v_iload_n C d_Tree_add_39 rfl ?_
    refine v_imul C d_Tree_add_40 ?_
    refine v_iconst C d_Tree_add_41 (nI 1) (by decide) ?_
    refine v_iadd C d_Tree_add_42 ?_
    refine v_iload_n C d_Tree_add_43 rfl ?_
    refine v_iast C (ws' := (tw kA h a (sC (un N2 fr2 (nK (N2 fr2)) (va_up (nC (N2 fr2)) 0 rt) 0 0 NONE 0) fr2 1 r) (nx (N2 fr2)) rt ky u2 fl fp)) (tw_sC) (by omega) (by decide) d_Tree_add_44 (fun j _ => kidsF_sC (by omega) j) ?_
    rw [sC_un]
    refine v_aload_n C d_Tree_add_45 rfl ?_
    refine v_getf C i_Tree (ci := 0) rfl 2 (by decide) (List.mem_of_getElem? (i := 0) rfl) fl_Tree_18 d_Tree_add_46 (.ref (a 2)) rfl ?_
    refine v_iload_n C d_Tree_add_49 rfl ?_
    refine v_iconst C d_Tree_add_50 (nI 1) (by decide) ?_
    refine v_iast C (ws' := (tw kA h a (sc (un N2 fr2 (nK (N2 fr2)) (va_up (va_up (nC (N2 fr2)) 0 rt) 1 r) 0 0 NONE 0) fr2 1) (nx (N2 fr2)) rt ky u2 fl fp)) (tw_sc) (by omega) (by decide) d_Tree_add_51 (fun j _ => cntF_sc j) ?_
    rw [sc_un]
    refine v_aload_n C d_Tree_add_52 rfl ?_
    refine v_iload_n C d_Tree_add_53 rfl ?_
    refine v_iconst C d_Tree_add_54 (nI 0) (by decide) ?_
    refine v_aload_n C d_Tree_add_55 rfl ?_
    refine v_getf C i_Tree (ci := 0) rfl 9 (by decide) (List.mem_of_getElem? (i := 0) rfl) fl_Tree_34 d_Tree_add_56 (.ref (a 7)) rfl ?_
    refine v_cV C (As := [.int (nI fr2), .int (nI 0), .ref (a 7)]) (st := []) (c_Tree_put l D kA h a (un N2 fr2 (nK (N2 fr2)) (va_up (va_up (nC (N2 fr2)) 0 rt) 1 r) 1 0 NONE 0) (nx (N2 fr2)) rt ky u2 fl fp fr2 0 (a 7) u2 hfr5 (by omega) (List.mem_of_getElem? (i := 8) rfl)) cv_Tree_put ml_Tree_88 d_Tree_add_59 ⟨by omega, by decide⟩ tw_rcv ⟨rfl, rfl⟩ rfl ?_
    rintro _ rfl
    rw [sK_un]
    refine v_aload_n C d_Tree_add_62 rfl ?_
    refine v_getf C i_Tree (ci := 0) rfl 5 (by decide) (List.mem_of_getElem? (i := 0) rfl) fl_Tree_28 d_Tree_add_63 (.ref (a 5)) rfl ?_
    refine v_iload_n C d_Tree_add_66 rfl ?_
    refine v_aload_n C d_Tree_add_67 rfl ?_
    refine v_getf C i_Tree (ci := 0) rfl 5 (by decide) (List.mem_of_getElem? (i := 0) rfl) fl_Tree_28 d_Tree_add_68 (.ref (a 5)) rfl ?_
    refine v_aload_n C d_Tree_add_71 rfl ?_
    refine v_getf C i_Tree (ci := 0) rfl 7 (by decide) (List.mem_of_getElem? (i := 0) rfl) fl_Tree_45 d_Tree_add_72 (.int (nI rt)) rfl ?_
    refine v_iald C (List.mem_of_getElem? (i := 6) rfl) (by omega) (by decide) d_Tree_add_75 (nI (ns (N2 rt))) (congrArg (fun z => nI (ns z)) (un_ne (hpp rt (Or.inl rfl)).2)) ?_
    refine v_aload_n C d_Tree_add_76 rfl ?_
    refine v_getf C i_Tree (ci := 0) rfl 5 (by decide) (List.mem_of_getElem? (i := 0) rfl) fl_Tree_28 d_Tree_add_77 (.ref (a 5)) rfl ?_
    refine v_iload_n C d_Tree_add_80 rfl ?_
    refine v_iald C (List.mem_of_getElem? (i := 6) rfl) ((hpp r (Or.inr rfl)).1) (by decide) d_Tree_add_81 (nI (ns (N2 r))) (congrArg (fun z => nI (ns z)) (un_ne (hpp r (Or.inr rfl)).2)) ?_
    refine v_iadd C d_Tree_add_82 ?_
    refine v_iast C (ws' := (tw kA h a (ss (un N2 fr2 (va_up (nK (N2 fr2)) 0 u2) (va_up (va_up (nC (N2 fr2)) 0 rt) 1 r) 1 0 NONE 0) fr2 (ns (N2 rt) + ns (N2 r))) (nx (N2 fr2)) rt ky u2 fl fp)) (tw_ss) (by omega) (by decide) d_Tree_add_83 (fun j _ => sizF_ss j) ?_
    rw [ss_un]
    refine v_aload_n C d_Tree_add_84 rfl ?_
    refine v_iload_n C d_Tree_add_85 rfl ?_
    refine v_putf C i_Tree (ci := 0) (ws' := (tw kA h a (un N2 fr2 (va_up (nK (N2 fr2)) 0 u2) (va_up (va_up (nC (N2 fr2)) 0 rt) 1 r) 1 0 NONE (ns (N2 rt) + ns (N2 r))) (nx (N2 fr2)) fr2 ky u2 fl fp)) t_Tree_ok n_Tree rfl 7 (by decide) ⟨0, rfl, rfl⟩ fl_Tree_45 d_Tree_add_86 rfl (rfl) (rfl) (Nat.le_of_ble_eq_true rfl) rfl ?_
    obtain ⟨L', t1, t2⟩ := add_r1 hx hf2.2 hnd h5 hlen ap hr un_at (fun q hq => un_ne hq)
    exact v_vret C rfl d_Tree_add_89 (⟨rfl, _, _, _, _, d + 1, L', rfl, t1, t2⟩)
