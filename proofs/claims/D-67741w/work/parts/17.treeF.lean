/-- one step down, to the kid that leads to ky -/
theorem desc_lv {N : Nat → Nd} {d n lo hi e mn ky b : Nat} {A B : List Nat} (ho : okT N (d + 1) n lo hi e mn) (hb : b ≤ nc (N n)) (h1 : ∀ j, j < b → nK (N n) j ≤ ky) (h2 : b < nc (N n) → ky < nK (N n) b) (hlo : lo ≤ ky) (hhi : ky < hi) (hA : ∀ y ∈ A.flatMap (ksO N), y < ky) (hB : ∀ y ∈ B.flatMap (ksO N), ky < y) :
    ∃ lo' hi' e', okT N d (nC (N n) b) lo' hi' e' 3 ∧ lo' ≤ ky ∧ ky < hi' ∧ hi' ≤ hi ∧ (∀ y ∈ (A ++ seg (fun i => lvO N d (nC (N n) i)) 0 b).flatMap (ksO N), y < ky) ∧ (∀ y ∈ (seg (fun i => lvO N d (nC (N n) i)) (b + 1) (nc (N n) - b) ++ B).flatMap (ksO N), ky < y) ∧ A ++ (lvO N (d + 1) n ++ B) = (A ++ seg (fun i => lvO N d (nC (N n) i)) 0 b) ++ (lvO N d (nC (N n) b) ++ (seg (fun i => lvO N d (nC (N n) i)) (b + 1) (nc (N n) - b) ++ B)) := by
  have hk := (okT_s.mp ho).2.2.2.2
  obtain ⟨⟨q1, q2⟩, q3, q4⟩ := k_way hk (fun _ _ => by decide) hb h1 h2 hlo hhi
  have hle := b_le (k_bd hk (fun _ _ => by decide)) (show b + 1 ≤ nc (N n) + 1 by omega) (Nat.le_refl _)
  rw [bd_t] at hle
  refine ⟨_, _, _, hk b hb, q1, q2, hle, fun y hy => ?_, fun y hy => ?_, by rw [lvs_at hb]; simp [List.append_assoc]⟩
  · rw [List.flatMap_append, lvs_xs] at hy
    rcases List.mem_append.mp hy with hy | hy
    · exact hA y hy
    · exact q3 y hy
  · rw [List.flatMap_append, lvs_xs] at hy
    rcases List.mem_append.mp hy with hy | hy
    · exact q4 y hy
    · exact hB y hy
theorem rank_step {N : Nat → Nd} {d n k lo hi e mn : Nat} {A : List Nat} (ho : okT N (d + 1) n lo hi e mn) (hk : k ≤ nc (N n)) : ((A ++ seg (fun i => lvO N d (nC (N n) i)) 0 k).flatMap (ksO N)).length + ns (N (nC (N n) k)) = ((A ++ seg (fun i => lvO N d (nC (N n) i)) 0 (k + 1)).flatMap (ksO N)).length := by
  rw [ok_ns ((okT_s.mp ho).2.2.2.2 k hk), seg_add _ k 0 1, seg_1, Nat.zero_add, List.flatMap_append, List.flatMap_append, List.flatMap_append, lv_xs]
  simp [List.length_append]
  omega
theorem seg_left {g : Nat → List Nat} {i n left : Nat} (h : left < (seg g i n).length) : 0 < n := by
  cases n with
  | zero => simp [seg_0] at h
  | succ n => omega

set_option maxHeartbeats 800000 in
set_option maxRecDepth 20000 in
theorem c_Tree_leaf (l : Launch) (D : va_G) (kA : Nat → ClassId) (h : Nat) (a : Nat → Nat) (N : Nat → Nd) (fr rt ky up fl fp : Nat) (d : Nat) (L : List Nat) (hT : TI N fr rt d L) (hky : ky < TOP) : Ct l D kA 3 y_Tree_leaf b_Tree_leaf 2 (some .int) [.ref h] (tw kA h a N fr rt ky up fl fp) (pI fun x w => ∃ n A B, x = nI n ∧ lvO N d rt = A ++ n :: B ∧ (∀ y ∈ A.flatMap (ksO N), y < ky) ∧ (∀ y ∈ B.flatMap (ksO N), ky < y) ∧ w = (tw kA h a N fr rt ky up fl fp)) := by
  refine ct_of (by decide) (Nat.le_of_ble_eq_true rfl) rfl ?_
  intro p e s m args below meth c C
  refine v_aload_n C d_Tree_leaf_0 rfl ?_
  refine v_getf C i_Tree (ci := 0) rfl 7 (by decide) (List.mem_of_getElem? (i := 0) rfl) fl_Tree_45 d_Tree_leaf_1 (.int (nI rt)) rfl ?_
  refine v_istore_n C d_Tree_leaf_4 ⟨Nat.le_of_ble_eq_true rfl, Nat.le_of_ble_eq_true rfl⟩ [.ref h, .int (nI rt)] rfl ?_
  have loop : ∀ (d1 n lo hi ee mn : Nat) (A B : List Nat), okT N d1 n lo hi ee mn → (∀ m ∈ fpO N d1 n, m < 500) → lvO N d rt = A ++ (lvO N d1 n ++ B) → lo ≤ ky → ky < hi → hi ≤ TOP → (∀ y ∈ A.flatMap (ksO N), y < ky) → (∀ y ∈ B.flatMap (ksO N), ky < y) → V p l e (rmk 3) s m args below meth c D (qA (tw kA h a N fr rt ky up fl fp)) 2 0 0 (MQ below (QC D (tw kA h a N fr rt ky up fl fp) (pI fun x w => ∃ n A B, x = nI n ∧ lvO N d rt = A ++ n :: B ∧ (∀ y ∈ A.flatMap (ksO N), y < ky) ∧ (∀ y ∈ B.flatMap (ksO N), ky < y) ∧ w = (tw kA h a N fr rt ky up fl fp))) args s 0 0 (qA (tw kA h a N fr rt ky up fl fp))) 5 [.ref h, .int (nI n)] [] (tw kA h a N fr rt ky up fl fp) := by
    intro d1
    induction d1 with
    | zero =>
      intro n lo hi ee mn A B ho hf hl h1 h2 h3 hA hB
      have hn := hf n (fpO_self _ _ _)
      have hl1 := ho.1
      refine v_aload_n C d_Tree_leaf_5 rfl ?_
      refine v_getf C i_Tree (ci := 0) rfl 3 (by decide) (List.mem_of_getElem? (i := 0) rfl) fl_Tree_21 d_Tree_leaf_6 (.ref (a 3)) rfl ?_
      refine v_iload_n C d_Tree_leaf_9 rfl ?_
      refine v_zald C (List.mem_of_getElem? (i := 4) rfl) (by omega) (by decide) d_Tree_leaf_10 (nI (nl (N n))) (rfl) ?_
      refine v_if_ne C d_Tree_leaf_11 28 (by decide) (by omega) (fun cl => ?_) (fun cl => False.elim (by omega))
      refine v_iload_n C d_Tree_leaf_28 rfl ?_
      exact v_iret C rfl d_Tree_leaf_29 (⟨_, rfl, n, A, B, rfl, hl, hA, hB, rfl⟩)
    | succ d1 ih =>
      intro n lo hi ee mn A B ho hf hl h1 h2 h3 hA hB
      have hn := hf n (fpO_self _ _ _)
      have hl1 := ho.1
      have hc7 := ok_c7 ho
      refine v_aload_n C d_Tree_leaf_5 rfl ?_
      refine v_getf C i_Tree (ci := 0) rfl 3 (by decide) (List.mem_of_getElem? (i := 0) rfl) fl_Tree_21 d_Tree_leaf_6 (.ref (a 3)) rfl ?_
      refine v_iload_n C d_Tree_leaf_9 rfl ?_
      refine v_zald C (List.mem_of_getElem? (i := 4) rfl) (by omega) (by decide) d_Tree_leaf_10 (nI (nl (N n))) (rfl) ?_
      refine v_if_ne C d_Tree_leaf_11 28 (by decide) (by omega) (fun cl => False.elim (by omega)) (fun cl => ?_)
      refine v_aload_n C d_Tree_leaf_14 rfl ?_
      refine v_iload_n C d_Tree_leaf_15 rfl ?_
      refine v_aload_n C d_Tree_leaf_16 rfl ?_
      refine v_iload_n C d_Tree_leaf_17 rfl ?_
      refine v_cI C (As := [.int (nI n)]) (st := [.int (nI n), .ref h]) (c_Tree_way l D kA h a N fr rt ky up fl fp n hn (by omega) (ok_top ho h3) hky) cv_Tree_way ml_Tree_61 d_Tree_leaf_18 ⟨by omega, by decide⟩ tw_rcv ⟨rfl, rfl⟩ rfl ?_
      rintro _ _ ⟨b, rfl, hb, hb1, hb2, rfl⟩
      obtain ⟨lo2, hi2, e2, g1, g2, g3, g4, g5, g6, g7⟩ := desc_lv ho hb hb1 hb2 h1 h2 hA hB
      refine v_cI C (As := [.int (nI n), .int (nI b)]) (st := []) (c_Tree_kid l D kA h a N fr rt ky up fl fp n b hn (by omega)) cv_Tree_kid ml_Tree_65 d_Tree_leaf_21 ⟨by omega, by decide⟩ tw_rcv ⟨rfl, rfl⟩ rfl ?_
      rintro _ _ ⟨rfl, rfl⟩
      refine v_istore_n C d_Tree_leaf_24 ⟨Nat.le_of_ble_eq_true rfl, Nat.le_of_ble_eq_true rfl⟩ [.ref h, .int (nI (nC (N n) b))] rfl ?_
      refine v_goto C d_Tree_leaf_25 5 (by decide) ?_
      exact ih _ _ _ _ _ _ _ g1 (fun m hm => hf m (fpO_kid hb hm)) (hl.trans g7) g2 g3 (by omega) g5 g6
  exact loop d rt 0 TOP NONE _ [] [] hT.1 (TI.lt hT) (by simp) (Nat.zero_le _) hky (Nat.le_refl _) (by simp) (by simp)

/-- a leaf's place parts all the keys -/
theorem lv_split {N : Nat → Nd} {fr rt d ky n b : Nat} {L A B : List Nat} (hT : TI N fr rt d L) (hl : lvO N d rt = A ++ n :: B) (hA : ∀ y ∈ A.flatMap (ksO N), y < ky) (hB : ∀ y ∈ B.flatMap (ksO N), ky < y) (hb : b ≤ nc (N n)) (h1 : ∀ j, j < b → nK (N n) j < ky) (h2 : b < nc (N n) → ky ≤ nK (N n) b) :
    ∃ P S, L = P ++ S ∧ (∀ x ∈ P, x < ky) ∧ (∀ x ∈ S, ky ≤ x) ∧ P.length = (A.flatMap (ksO N)).length + b ∧ (b < nc (N n) → S.head? = some (nK (N n) b)) := by
  have hm : n ∈ lvO N d rt := by rw [hl]; simp
  obtain ⟨-, -, -, hs⟩ := hT.leaf hm
  obtain ⟨q1, q2, q3⟩ := l_place hb h1 h2 hs
  refine ⟨A.flatMap (ksO N) ++ seg (fun k => [nK (N n) k]) 0 b, seg (fun k => [nK (N n) k]) b (nc (N n) - b) ++ B.flatMap (ksO N), ?_, fun x hx => ?_, fun x hx => ?_, by rw [List.length_append, seg_one_len], fun hlt => ?_⟩
  · rw [← hT.lvs, hl, List.flatMap_append, List.flatMap_cons, show ksO N n = seg (fun k => [nK (N n) k]) 0 (nc (N n)) from rfl, q1]
    simp [List.append_assoc]
  · rcases List.mem_append.mp hx with hx | hx
    · exact hA x hx
    · exact q2 x hx
  · rcases List.mem_append.mp hx with hx | hx
    · exact q3 x hx
    · exact Nat.le_of_lt (hB x hx)
  · rw [show nc (N n) - b = (nc (N n) - b - 1) + 1 by omega, seg_s]; rfl
theorem mem_split {L P S : List Nat} {ky : Nat} (hL : L = P ++ S) (hP : ∀ x ∈ P, x < ky) (hS : ∀ x ∈ S, ky ≤ x) (hs : Srt L) : ky ∈ L ↔ S.head? = some ky := by
  subst hL
  constructor
  · intro h
    rcases List.mem_append.mp h with h | h
    · exact absurd (hP ky h) (Nat.lt_irrefl _)
    · cases S with
      | nil => exact absurd h List.not_mem_nil
      | cons y r =>
        rcases List.mem_cons.mp h with rfl | h
        · rfl
        · have := (List.pairwise_cons.mp (Srt.app.mp hs).2.1).1 ky h
          have := hS y List.mem_cons_self
          omega
  · intro h
    cases S with
    | nil => cases h
    | cons y r => cases h; exact List.mem_append_right _ List.mem_cons_self

set_option maxHeartbeats 800000 in
set_option maxRecDepth 20000 in
theorem c_Tree_has (l : Launch) (D : va_G) (kA : Nat → ClassId) (h : Nat) (a : Nat → Nat) (N : Nat → Nd) (fr rt ky up fl fp : Nat) (d : Nat) (L : List Nat) (hT : TI N fr rt d L) (hky : ky < TOP) : Ct l D kA 4 y_Tree_has b_Tree_has 3 (some .boolean) [.ref h] (tw kA h a N fr rt ky up fl fp) (pI fun x w => x = (if ky ∈ L then 1 else 0) ∧ w = (tw kA h a N fr rt ky up fl fp)) := by
  refine ct_of (by decide) (Nat.le_of_ble_eq_true rfl) rfl ?_
  intro p e s m args below meth c C
  refine v_aload_n C d_Tree_has_0 rfl ?_
  refine v_cI C (As := []) (st := []) (c_Tree_leaf l D kA h a N fr rt ky up fl fp d L hT hky) cv_Tree_leaf ml_Tree_68 d_Tree_has_1 ⟨by omega, by decide⟩ tw_rcv ⟨rfl, rfl⟩ rfl ?_
  rintro _ _ ⟨n, A, B, rfl, hl, hA, hB, rfl⟩
  have hm : n ∈ lvO N d rt := by rw [hl]; simp
  obtain ⟨hn, hc7, hK, hs⟩ := hT.leaf hm
  refine v_istore_n C d_Tree_has_4 ⟨Nat.le_of_ble_eq_true rfl, Nat.le_of_ble_eq_true rfl⟩ [.ref h, .int (nI n)] rfl ?_
  refine v_aload_n C d_Tree_has_5 rfl ?_
  refine v_iload_n C d_Tree_has_6 rfl ?_
  refine v_cI C (As := [.int (nI n)]) (st := []) (c_Tree_below l D kA h a N fr rt ky up fl fp n hn (by omega) hK hky) cv_Tree_below ml_Tree_72 d_Tree_has_7 ⟨by omega, by decide⟩ tw_rcv ⟨rfl, rfl⟩ rfl ?_
  rintro _ _ ⟨b, rfl, hb, hb1, hb2, rfl⟩
  obtain ⟨P, S, hL, hP, hS, hPl, hSh⟩ := lv_split hT hl hA hB hb hb1 hb2
  have hmem := mem_split hL hP hS hT.srt.1
  refine v_istore_n C d_Tree_has_10 ⟨Nat.le_of_ble_eq_true rfl, Nat.le_of_ble_eq_true rfl⟩ [.ref h, .int (nI n), .int (nI b)] rfl ?_
  refine v_iload_n C d_Tree_has_11 rfl ?_
  refine v_aload_n C d_Tree_has_12 rfl ?_
  refine v_getf C i_Tree (ci := 0) rfl 2 (by decide) (List.mem_of_getElem? (i := 0) rfl) fl_Tree_18 d_Tree_has_13 (.ref (a 2)) rfl ?_
  refine v_iload_n C d_Tree_has_16 rfl ?_
  refine v_iald C (List.mem_of_getElem? (i := 3) rfl) (by omega) (by decide) d_Tree_has_17 (nI (nc (N n))) (rfl) ?_
  refine v_icmp_ge C d_Tree_has_18 34 (by decide) (by omega) (by omega) (fun cb => ?_) (fun cb => ?_)
  · have hP0 : ky ∉ L := fun q => by
      have h9 := hb
      obtain rfl : b = nc (N n) := by omega
      have hx := hmem.mp q
      cases S with
      | nil => cases hx
      | cons y r =>
        cases hx
        have hlen : P.length = (A.flatMap (ksO N)).length + (ksO N n).length := by rw [hPl, ks_len]
        have e1 : L = (A.flatMap (ksO N) ++ ksO N n) ++ B.flatMap (ksO N) := by rw [← hT.lvs, hl, List.flatMap_append, List.flatMap_cons, List.append_assoc]
        have e2 := List.append_inj (hL.symm.trans e1) (by rw [hlen, List.length_append])
        have := hB ky (by rw [← e2.2]; exact List.mem_cons_self)
        omega
    refine v_iconst C d_Tree_has_34 (nI 0) (by decide) ?_
    exact v_zret C rfl (rfl) d_Tree_has_35 (⟨_, rfl, by rw [if_neg (hP0)]; rfl, rfl⟩)
  · refine v_aload_n C d_Tree_has_21 rfl ?_
    refine v_iload_n C d_Tree_has_22 rfl ?_
    refine v_iload_n C d_Tree_has_23 rfl ?_
    refine v_cI C (As := [.int (nI n), .int (nI b)]) (st := []) (c_Tree_compare l D kA h a N fr rt ky up fl fp n b hn (by omega) (hK b cb) hky) cv_Tree_compare ml_Tree_58 d_Tree_has_24 ⟨by omega, by decide⟩ tw_rcv ⟨rfl, rfl⟩ rfl ?_
    rintro _ _ ⟨rfl, rfl⟩
    refine v_if_neR C d_Tree_has_27 34 (by decide) (fun cc => ?_) (fun cc => ?_)
    · refine v_iconst C d_Tree_has_34 (nI 0) (by decide) ?_
      exact v_zret C rfl (rfl) d_Tree_has_35 (⟨_, rfl, by rw [if_neg (fun q => cc (cmpI_eq.mpr (Option.some.inj ((hSh cb).symm.trans (hmem.mp q)))))]; rfl, rfl⟩)
    · refine v_iconst C d_Tree_has_30 (nI 1) (by decide) ?_
      refine v_goto C d_Tree_has_31 35 (by decide) ?_
      exact v_zret C rfl (rfl) d_Tree_has_35 (⟨_, rfl, by rw [if_pos (hmem.mpr ((hSh cb).trans (congrArg some (cmpI_eq.mp cc))))]; rfl, rfl⟩)

set_option maxHeartbeats 800000 in
set_option maxRecDepth 20000 in
theorem c_Tree_rank (l : Launch) (D : va_G) (kA : Nat → ClassId) (h : Nat) (a : Nat → Nat) (N : Nat → Nd) (fr rt ky up fl fp : Nat) (d : Nat) (L : List Nat) (hT : TI N fr rt d L) (hky : ky < TOP) : Ct l D kA 3 y_Tree_rank b_Tree_rank 5 (some .int) [.ref h] (tw kA h a N fr rt ky up fl fp) (pI fun x w => ∃ P S, x = nI P.length ∧ L = P ++ S ∧ (∀ y ∈ P, y < ky) ∧ (∀ y ∈ S, ky ≤ y) ∧ w = (tw kA h a N fr rt ky up fl fp)) := by
  refine ct_of (by decide) (Nat.le_of_ble_eq_true rfl) rfl ?_
  intro p e s m args below meth c C
  refine v_aload_n C d_Tree_rank_0 rfl ?_
  refine v_getf C i_Tree (ci := 0) rfl 7 (by decide) (List.mem_of_getElem? (i := 0) rfl) fl_Tree_45 d_Tree_rank_1 (.int (nI rt)) rfl ?_
  refine v_istore_n C d_Tree_rank_4 ⟨Nat.le_of_ble_eq_true rfl, Nat.le_of_ble_eq_true rfl⟩ [.ref h, .int (nI rt)] rfl ?_
  refine v_iconst C d_Tree_rank_5 (nI 0) (by decide) ?_
  refine v_istore_n C d_Tree_rank_6 ⟨Nat.le_of_ble_eq_true rfl, Nat.le_of_ble_eq_true rfl⟩ [.ref h, .int (nI rt), .int (nI 0)] rfl ?_
  have loop : ∀ (d1 n lo hi ee mn : Nat) (A B : List Nat), okT N d1 n lo hi ee mn → (∀ m ∈ fpO N d1 n, m < 500) → lvO N d rt = A ++ (lvO N d1 n ++ B) → lo ≤ ky → ky < hi → hi ≤ TOP → (∀ y ∈ A.flatMap (ksO N), y < ky) → (∀ y ∈ B.flatMap (ksO N), ky < y) → V p l e (rmk 3) s m args below meth c D (qA (tw kA h a N fr rt ky up fl fp)) 5 0 0 (MQ below (QC D (tw kA h a N fr rt ky up fl fp) (pI fun x w => ∃ P S, x = nI P.length ∧ L = P ++ S ∧ (∀ y ∈ P, y < ky) ∧ (∀ y ∈ S, ky ≤ y) ∧ w = (tw kA h a N fr rt ky up fl fp))) args s 0 0 (qA (tw kA h a N fr rt ky up fl fp))) 7 [.ref h, .int (nI n), .int (nI ((A.flatMap (ksO N)).length))] [] (tw kA h a N fr rt ky up fl fp) := by
    intro d1
    induction d1 with
    | zero =>
      intro n lo hi ee mn A B ho hf hl h1 h2 h3 hA hB
      have hn := hf n (fpO_self _ _ _)
      have hl1 := ho.1
      refine v_aload_n C d_Tree_rank_7 rfl ?_
      refine v_getf C i_Tree (ci := 0) rfl 3 (by decide) (List.mem_of_getElem? (i := 0) rfl) fl_Tree_21 d_Tree_rank_8 (.ref (a 3)) rfl ?_
      refine v_iload_n C d_Tree_rank_11 rfl ?_
      refine v_zald C (List.mem_of_getElem? (i := 4) rfl) (by omega) (by decide) d_Tree_rank_12 (nI (nl (N n))) (rfl) ?_
      refine v_if_ne C d_Tree_rank_13 62 (by decide) (by omega) (fun cl => ?_) (fun cl => False.elim (by omega))
      refine v_iload_n C d_Tree_rank_62 rfl ?_
      refine v_aload_n C d_Tree_rank_63 rfl ?_
      refine v_iload_n C d_Tree_rank_64 rfl ?_
      refine v_cI C (As := [.int (nI n)]) (st := [.int (nI ((A.flatMap (ksO N)).length))]) (c_Tree_below l D kA h a N fr rt ky up fl fp n hn (by have := ok_c7 ho; omega) (ok_top ho h3) hky) cv_Tree_below ml_Tree_72 d_Tree_rank_65 ⟨by omega, by decide⟩ tw_rcv ⟨rfl, rfl⟩ rfl ?_
      rintro _ _ ⟨b, rfl, hb, hb1, hb2, rfl⟩
      obtain ⟨P, S, hL, hP, hS, hPl, hSh⟩ := lv_split hT hl hA hB hb hb1 hb2
      refine v_iadd C d_Tree_rank_68 ?_
      rw [← hPl]
      exact v_iret C rfl d_Tree_rank_69 (⟨_, rfl, P, S, rfl, hL, hP, hS, rfl⟩)
    | succ d1 ih =>
      intro n lo hi ee mn A B ho hf hl h1 h2 h3 hA hB
      have hn := hf n (fpO_self _ _ _)
      have hl1 := ho.1
      have hc7 := ok_c7 ho
      refine v_aload_n C d_Tree_rank_7 rfl ?_
      refine v_getf C i_Tree (ci := 0) rfl 3 (by decide) (List.mem_of_getElem? (i := 0) rfl) fl_Tree_21 d_Tree_rank_8 (.ref (a 3)) rfl ?_
      refine v_iload_n C d_Tree_rank_11 rfl ?_
      refine v_zald C (List.mem_of_getElem? (i := 4) rfl) (by omega) (by decide) d_Tree_rank_12 (nI (nl (N n))) (rfl) ?_
      refine v_if_ne C d_Tree_rank_13 62 (by decide) (by omega) (fun cl => False.elim (by omega)) (fun cl => ?_)
      refine v_aload_n C d_Tree_rank_16 rfl ?_
      refine v_iload_n C d_Tree_rank_17 rfl ?_
      refine v_cI C (As := [.int (nI n)]) (st := []) (c_Tree_way l D kA h a N fr rt ky up fl fp n hn (by omega) (ok_top ho h3) hky) cv_Tree_way ml_Tree_61 d_Tree_rank_18 ⟨by omega, by decide⟩ tw_rcv ⟨rfl, rfl⟩ rfl ?_
      rintro _ _ ⟨b, rfl, hb, hb1, hb2, rfl⟩
      obtain ⟨lo2, hi2, e2, g1, g2, g3, g4, g5, g6, g7⟩ := desc_lv ho hb hb1 hb2 h1 h2 hA hB
      refine v_istore_n C d_Tree_rank_21 ⟨Nat.le_of_ble_eq_true rfl, Nat.le_of_ble_eq_true rfl⟩ [.ref h, .int (nI n), .int (nI ((A.flatMap (ksO N)).length)), .int (nI b)] rfl ?_
      refine v_iconst C d_Tree_rank_22 (nI 0) (by decide) ?_
      refine v_istore C d_Tree_rank_23 ⟨Nat.le_of_ble_eq_true rfl, Nat.le_of_ble_eq_true rfl⟩ [.ref h, .int (nI n), .int (nI ((A.flatMap (ksO N)).length)), .int (nI b), .int (nI 0)] rfl ?_
      have lp2 : ∀ (t k : Nat), b - k < t → k ≤ b → V p l e (rmk 3) s m args below meth c D (qA (tw kA h a N fr rt ky up fl fp)) 5 0 0 (MQ below (QC D (tw kA h a N fr rt ky up fl fp) (pI fun x w => ∃ P S, x = nI P.length ∧ L = P ++ S ∧ (∀ y ∈ P, y < ky) ∧ (∀ y ∈ S, ky ≤ y) ∧ w = (tw kA h a N fr rt ky up fl fp))) args s 0 0 (qA (tw kA h a N fr rt ky up fl fp))) 25 [.ref h, .int (nI n), .int (nI (((A ++ seg (fun i => lvO N d1 (nC (N n) i)) 0 k).flatMap (ksO N)).length)), .int (nI b), .int (nI k)] [] (tw kA h a N fr rt ky up fl fp) := by
        intro t
        induction t with
        | zero => intro k hk; omega
        | succ t ih2 =>
          intro k hk hk2
          refine v_iload C d_Tree_rank_25 rfl ?_
          refine v_iload_n C d_Tree_rank_27 rfl ?_
          refine v_icmp_ge C d_Tree_rank_28 52 (by decide) (by omega) (by omega) (fun ck => ?_) (fun ck => ?_)
          · obtain rfl : k = b := by omega
            refine v_aload_n C d_Tree_rank_52 rfl ?_
            refine v_iload_n C d_Tree_rank_53 rfl ?_
            refine v_iload_n C d_Tree_rank_54 rfl ?_
            refine v_cI C (As := [.int (nI n), .int (nI k)]) (st := []) (c_Tree_kid l D kA h a N fr rt ky up fl fp n k hn (by omega)) cv_Tree_kid ml_Tree_65 d_Tree_rank_55 ⟨by omega, by decide⟩ tw_rcv ⟨rfl, rfl⟩ rfl ?_
            rintro _ _ ⟨rfl, rfl⟩
            refine v_istore_n C d_Tree_rank_58 ⟨Nat.le_of_ble_eq_true rfl, Nat.le_of_ble_eq_true rfl⟩ [.ref h, .int (nI (nC (N n) k)), .int (nI (((A ++ seg (fun i => lvO N d1 (nC (N n) i)) 0 k).flatMap (ksO N)).length)), .int (nI k), .int (nI k)] rfl ?_
            refine v_goto C d_Tree_rank_59 7 (by decide) ?_
            refine v_less 3 rfl ?_
            exact ih _ _ _ _ _ _ _ g1 (fun m hm => hf m (fpO_kid hb hm)) (hl.trans g7) g2 g3 (by omega) g5 g6
          · refine v_iload_n C d_Tree_rank_31 rfl ?_
            refine v_aload_n C d_Tree_rank_32 rfl ?_
            refine v_getf C i_Tree (ci := 0) rfl 5 (by decide) (List.mem_of_getElem? (i := 0) rfl) fl_Tree_28 d_Tree_rank_33 (.ref (a 5)) rfl ?_
            refine v_aload_n C d_Tree_rank_36 rfl ?_
            refine v_iload_n C d_Tree_rank_37 rfl ?_
            refine v_iload C d_Tree_rank_38 rfl ?_
            refine v_cI C (As := [.int (nI n), .int (nI k)]) (st := [.ref (a 5), .int (nI (((A ++ seg (fun i => lvO N d1 (nC (N n) i)) 0 k).flatMap (ksO N)).length))]) (c_Tree_kid l D kA h a N fr rt ky up fl fp n k hn (by omega)) cv_Tree_kid ml_Tree_65 d_Tree_rank_40 ⟨by omega, by decide⟩ tw_rcv ⟨rfl, rfl⟩ rfl ?_
            rintro _ _ ⟨rfl, rfl⟩
            have hk5 := hf _ (fpO_kid (i := k) (by omega) (fpO_self N d1 _))
            refine v_iald C (List.mem_of_getElem? (i := 6) rfl) (by omega) (by decide) d_Tree_rank_43 (nI (ns (N (nC (N n) k)))) (rfl) ?_
            refine v_iadd C d_Tree_rank_44 ?_
            refine v_top (y := nI (((A ++ seg (fun i => lvO N d1 (nC (N n) i)) 0 (k + 1)).flatMap (ksO N)).length)) (congrArg nI (show (((A ++ seg (fun i => lvO N d1 (nC (N n) i)) 0 k).flatMap (ksO N)).length) + (ns (N (nC (N n) k))) = ((A ++ seg (fun i => lvO N d1 (nC (N n) i)) 0 (k + 1)).flatMap (ksO N)).length from rank_step ho (by omega))) ?_
            refine v_istore_n C d_Tree_rank_45 ⟨Nat.le_of_ble_eq_true rfl, Nat.le_of_ble_eq_true rfl⟩ [.ref h, .int (nI n), .int (nI (((A ++ seg (fun i => lvO N d1 (nC (N n) i)) 0 (k + 1)).flatMap (ksO N)).length)), .int (nI b), .int (nI k)] rfl ?_
            refine v_iinc C d_Tree_rank_46 rfl ⟨Nat.le_of_ble_eq_true rfl, Nat.le_of_ble_eq_true rfl⟩ (nI (k + 1)) (inc1 _) [.ref h, .int (nI n), .int (nI (((A ++ seg (fun i => lvO N d1 (nC (N n) i)) 0 (k + 1)).flatMap (ksO N)).length)), .int (nI b), .int (nI (k + 1))] rfl ?_
            refine v_goto C d_Tree_rank_49 25 (by decide) ?_
            exact ih2 (k + 1) (by omega) (by omega)
      have z := lp2 (b + 1) 0 (by omega) (by omega)
      simp only [seg_0, List.append_nil] at z
      exact z
  exact loop d rt 0 TOP NONE _ [] [] hT.1 (TI.lt hT) (by simp) (Nat.zero_le _) hky (Nat.le_refl _) (by simp) (by simp)

theorem seg_len_le {g : Nat → List Nat} {n i j : Nat} (hj : j < n) : (g (i + j)).length ≤ (seg g i n).length := by
  induction n generalizing i j with
  | zero => omega
  | succ n ih =>
    rw [seg_s, List.length_append]
    cases j with
    | zero => rw [Nat.add_zero]; omega
    | succ j =>
      have := ih (i := i + 1) (j := j) (by omega)
      rw [show i + 1 + j = i + (j + 1) by omega] at this
      omega
theorem fp_ns {N : Nat → Nd} : ∀ (d n : Nat) {lo hi e mn : Nat}, okT N d n lo hi e mn → ∀ m ∈ fpO N d n, ns (N m) ≤ (xsO N d n).length
  | 0, n, lo, hi, e, mn, h, m, hm => by
    rw [fpO, List.mem_singleton] at hm
    subst hm
    rw [ok_ns h]; exact Nat.le_refl _
  | d + 1, n, lo, hi, e, mn, h, m, hm => by
    rcases List.mem_cons.mp hm with rfl | hm
    · rw [ok_ns h]; exact Nat.le_refl _
    · obtain ⟨j, hj, hm⟩ := seg_mem.mp hm
      rw [Nat.zero_add] at hm
      have h1 := fp_ns d (nC (N n) j) ((okT_s.mp h).2.2.2.2 j (by omega)) m hm
      have h2 := seg_len_le (g := fun i => xsO N d (nC (N n) i)) (n := nc (N n) + 1) (i := 0) (j := j) hj
      rw [Nat.zero_add] at h2
      rw [xsO]
      omega
theorem ns_small {N : Nat → Nd} {fr rt d : Nat} {L : List Nat} (hT : TI N fr rt d L) (hL : L.length < 2 ^ 31) : ∀ m ∈ fpO N d rt, ns (N m) < 2 ^ 31 := fun m hm => by
  have := fp_ns d rt hT.1 m hm
  rw [hT.2.1] at this
  omega

set_option maxHeartbeats 800000 in
set_option maxRecDepth 20000 in
theorem c_Tree_find (l : Launch) (D : va_G) (kA : Nat → ClassId) (h : Nat) (a : Nat → Nat) (N : Nat → Nd) (fr rt ky up fl fp : Nat) (k0 : Nat) (d : Nat) (L : List Nat) (hT : TI N fr rt d L) (hk0 : k0 < L.length) (hL : L.length < 2 ^ 31) : Ct l D kA 3 y_Tree_find b_Tree_find 5 none [.ref h, .int (nI k0)] (tw kA h a N fr rt ky up fl fp) (pV fun w => ∃ n p A B, w = tw kA h a N fr rt ky up n p ∧ lvO N d rt = A ++ n :: B ∧ k0 = (A.flatMap (ksO N)).length + p ∧ p < nc (N n)) := by
  refine ct_of (by decide) (Nat.le_of_ble_eq_true rfl) rfl ?_
  intro p e s m args below meth c C
  refine v_aload_n C d_Tree_find_0 rfl ?_
  refine v_getf C i_Tree (ci := 0) rfl 7 (by decide) (List.mem_of_getElem? (i := 0) rfl) fl_Tree_45 d_Tree_find_1 (.int (nI rt)) rfl ?_
  refine v_istore_n C d_Tree_find_4 ⟨Nat.le_of_ble_eq_true rfl, Nat.le_of_ble_eq_true rfl⟩ [.ref h, .int (nI k0), .int (nI rt)] rfl ?_
  refine v_iload_n C d_Tree_find_5 rfl ?_
  refine v_istore_n C d_Tree_find_6 ⟨Nat.le_of_ble_eq_true rfl, Nat.le_of_ble_eq_true rfl⟩ [.ref h, .int (nI k0), .int (nI rt), .int (nI k0)] rfl ?_
  have loop : ∀ (d1 n lo hi ee mn : Nat) (A B : List Nat) (left : Nat), okT N d1 n lo hi ee mn → (∀ m ∈ fpO N d1 n, m < 500) → lvO N d rt = A ++ (lvO N d1 n ++ B) → k0 = (A.flatMap (ksO N)).length + left → left < (xsO N d1 n).length → (∀ m ∈ fpO N d1 n, ns (N m) < 2 ^ 31) → V p l e (rmk 3) s m args below meth c D (qA (tw kA h a N fr rt ky up fl fp)) 5 0 0 (MQ below (QC D (tw kA h a N fr rt ky up fl fp) (pV fun w => ∃ n p A B, w = tw kA h a N fr rt ky up n p ∧ lvO N d rt = A ++ n :: B ∧ k0 = (A.flatMap (ksO N)).length + p ∧ p < nc (N n))) args s 0 0 (qA (tw kA h a N fr rt ky up fl fp))) 7 [.ref h, .int (nI k0), .int (nI n), .int (nI left)] [] (tw kA h a N fr rt ky up fl fp) := by
    intro d1
    induction d1 with
    | zero =>
      intro n lo hi ee mn A B left ho hf hl hk0 hlt hB2
      have hn := hf n (fpO_self _ _ _)
      have hl1 := ho.1
      refine v_aload_n C d_Tree_find_7 rfl ?_
      refine v_getf C i_Tree (ci := 0) rfl 3 (by decide) (List.mem_of_getElem? (i := 0) rfl) fl_Tree_21 d_Tree_find_8 (.ref (a 3)) rfl ?_
      refine v_iload_n C d_Tree_find_11 rfl ?_
      refine v_zald C (List.mem_of_getElem? (i := 4) rfl) (by omega) (by decide) d_Tree_find_12 (nI (nl (N n))) (rfl) ?_
      refine v_if_ne C d_Tree_find_13 67 (by decide) (by omega) (fun cl => ?_) (fun cl => False.elim (by omega))
      refine v_aload_n C d_Tree_find_67 rfl ?_
      refine v_iload_n C d_Tree_find_68 rfl ?_
      refine v_putf C i_Tree (ci := 0) (ws' := (tw kA h a N fr rt ky up n fp)) t_Tree_ok n_Tree rfl 10 (by decide) ⟨0, rfl, rfl⟩ fl_Tree_75 d_Tree_find_69 rfl (rfl) (rfl) (Nat.le_of_ble_eq_true rfl) rfl ?_
      refine v_aload_n C d_Tree_find_72 rfl ?_
      refine v_iload_n C d_Tree_find_73 rfl ?_
      refine v_putf C i_Tree (ci := 0) (ws' := (tw kA h a N fr rt ky up n left)) t_Tree_ok n_Tree rfl 11 (by decide) ⟨0, rfl, rfl⟩ fl_Tree_78 d_Tree_find_74 rfl (rfl) (rfl) (Nat.le_of_ble_eq_true rfl) rfl ?_
      exact v_vret C rfl d_Tree_find_77 (⟨rfl, n, left, A, B, rfl, hl, hk0, by rw [xsO, ks_len] at hlt; exact hlt⟩)
    | succ d1 ih =>
      intro n lo hi ee mn A B left ho hf hl hk0 hlt hB2
      have hn := hf n (fpO_self _ _ _)
      have hl1 := ho.1
      have hc7 := ok_c7 ho
      refine v_aload_n C d_Tree_find_7 rfl ?_
      refine v_getf C i_Tree (ci := 0) rfl 3 (by decide) (List.mem_of_getElem? (i := 0) rfl) fl_Tree_21 d_Tree_find_8 (.ref (a 3)) rfl ?_
      refine v_iload_n C d_Tree_find_11 rfl ?_
      refine v_zald C (List.mem_of_getElem? (i := 4) rfl) (by omega) (by decide) d_Tree_find_12 (nI (nl (N n))) (rfl) ?_
      refine v_if_ne C d_Tree_find_13 67 (by decide) (by omega) (fun cl => False.elim (by omega)) (fun cl => ?_)
      refine v_iconst C d_Tree_find_16 (nI 0) (by decide) ?_
      refine v_istore C d_Tree_find_17 ⟨Nat.le_of_ble_eq_true rfl, Nat.le_of_ble_eq_true rfl⟩ [.ref h, .int (nI k0), .int (nI n), .int (nI left), .int (nI 0)] rfl ?_
      have hk := (okT_s.mp ho).2.2.2.2
      have lp2 : ∀ (t b lf : Nat), nc (N n) + 1 - b < t → b ≤ nc (N n) + 1 → k0 = ((A ++ seg (fun i => lvO N d1 (nC (N n) i)) 0 b).flatMap (ksO N)).length + lf → lf < (seg (fun i => xsO N d1 (nC (N n) i)) b (nc (N n) + 1 - b)).length → V p l e (rmk 3) s m args below meth c D (qA (tw kA h a N fr rt ky up fl fp)) 5 0 0 (MQ below (QC D (tw kA h a N fr rt ky up fl fp) (pV fun w => ∃ n p A B, w = tw kA h a N fr rt ky up n p ∧ lvO N d rt = A ++ n :: B ∧ k0 = (A.flatMap (ksO N)).length + p ∧ p < nc (N n))) args s 0 0 (qA (tw kA h a N fr rt ky up fl fp))) 19 [.ref h, .int (nI k0), .int (nI n), .int (nI lf), .int (nI b)] [] (tw kA h a N fr rt ky up fl fp) := by
        intro t
        induction t with
        | zero => intro b lf hk; omega
        | succ t ih2 =>
          intro b lf hb1 hb2 hk0 hlt
          have hbp := seg_left hlt
          have hk5 := hf _ (fpO_kid (i := b) (by omega) (fpO_self N d1 _))
          have hns := ok_ns (hk b (by omega))
          rw [show nc (N n) + 1 - b = (nc (N n) - b) + 1 by omega, seg_s, List.length_append, ← hns] at hlt
          refine v_iload_n C d_Tree_find_19 rfl ?_
          refine v_aload_n C d_Tree_find_20 rfl ?_
          refine v_getf C i_Tree (ci := 0) rfl 5 (by decide) (List.mem_of_getElem? (i := 0) rfl) fl_Tree_28 d_Tree_find_21 (.ref (a 5)) rfl ?_
          refine v_aload_n C d_Tree_find_24 rfl ?_
          refine v_iload_n C d_Tree_find_25 rfl ?_
          refine v_iload C d_Tree_find_26 rfl ?_
          refine v_cI C (As := [.int (nI n), .int (nI b)]) (st := [.ref (a 5), .int (nI lf)]) (c_Tree_kid l D kA h a N fr rt ky up fl fp n b hn (by omega)) cv_Tree_kid ml_Tree_65 d_Tree_find_28 ⟨by omega, by decide⟩ tw_rcv ⟨rfl, rfl⟩ rfl ?_
          rintro _ _ ⟨rfl, rfl⟩
          refine v_iald C (List.mem_of_getElem? (i := 6) rfl) (by omega) (by decide) d_Tree_find_31 (nI (ns (N (nC (N n) b)))) (rfl) ?_
          refine v_icmp_lt C d_Tree_find_32 56 (by decide) (by omega) (hB2 _ (fpO_kid (by omega) (fpO_self N d1 _))) (fun ck => ?_) (fun ck => ?_)
          · refine v_aload_n C d_Tree_find_56 rfl ?_
            refine v_iload_n C d_Tree_find_57 rfl ?_
            refine v_iload C d_Tree_find_58 rfl ?_
            refine v_cI C (As := [.int (nI n), .int (nI b)]) (st := []) (c_Tree_kid l D kA h a N fr rt ky up fl fp n b hn (by omega)) cv_Tree_kid ml_Tree_65 d_Tree_find_60 ⟨by omega, by decide⟩ tw_rcv ⟨rfl, rfl⟩ rfl ?_
            rintro _ _ ⟨rfl, rfl⟩
            refine v_istore_n C d_Tree_find_63 ⟨Nat.le_of_ble_eq_true rfl, Nat.le_of_ble_eq_true rfl⟩ [.ref h, .int (nI k0), .int (nI (nC (N n) b)), .int (nI lf), .int (nI b)] rfl ?_
            refine v_goto C d_Tree_find_64 7 (by decide) ?_
            refine v_less 4 rfl ?_
            exact ih _ _ _ _ _ (A ++ seg (fun i => lvO N d1 (nC (N n) i)) 0 b) (seg (fun i => lvO N d1 (nC (N n) i)) (b + 1) (nc (N n) - b) ++ B) _ (hk b (by omega)) (fun m hm => hf m (fpO_kid (by omega) hm)) (hl.trans (by rw [lvs_at (show b ≤ nc (N n) by omega)]; simp [List.append_assoc])) hk0 (by omega) (fun m hm => hB2 m (fpO_kid (by omega) hm))
          · refine v_iload_n C d_Tree_find_35 rfl ?_
            refine v_aload_n C d_Tree_find_36 rfl ?_
            refine v_getf C i_Tree (ci := 0) rfl 5 (by decide) (List.mem_of_getElem? (i := 0) rfl) fl_Tree_28 d_Tree_find_37 (.ref (a 5)) rfl ?_
            refine v_aload_n C d_Tree_find_40 rfl ?_
            refine v_iload_n C d_Tree_find_41 rfl ?_
            refine v_iload C d_Tree_find_42 rfl ?_
            refine v_cI C (As := [.int (nI n), .int (nI b)]) (st := [.ref (a 5), .int (nI lf)]) (c_Tree_kid l D kA h a N fr rt ky up fl fp n b hn (by omega)) cv_Tree_kid ml_Tree_65 d_Tree_find_44 ⟨by omega, by decide⟩ tw_rcv ⟨rfl, rfl⟩ rfl ?_
            rintro _ _ ⟨rfl, rfl⟩
            refine v_iald C (List.mem_of_getElem? (i := 6) rfl) (by omega) (by decide) d_Tree_find_47 (nI (ns (N (nC (N n) b)))) (rfl) ?_
            refine v_isub C d_Tree_find_48 (by omega) ?_
            refine v_istore_n C d_Tree_find_49 ⟨Nat.le_of_ble_eq_true rfl, Nat.le_of_ble_eq_true rfl⟩ [.ref h, .int (nI k0), .int (nI n), .int (nI (lf - (ns (N (nC (N n) b))))), .int (nI b)] rfl ?_
            refine v_iinc C d_Tree_find_50 rfl ⟨Nat.le_of_ble_eq_true rfl, Nat.le_of_ble_eq_true rfl⟩ (nI (b + 1)) (inc1 _) [.ref h, .int (nI k0), .int (nI n), .int (nI (lf - (ns (N (nC (N n) b))))), .int (nI (b + 1))] rfl ?_
            refine v_goto C d_Tree_find_53 19 (by decide) ?_
            refine ih2 (b + 1) _ (by omega) (by omega) (by rw [← rank_step ho (by omega)]; omega) ?_
            rw [show nc (N n) + 1 - (b + 1) = nc (N n) - b by omega]
            omega
      refine lp2 (nc (N n) + 2) 0 left (by omega) (by omega) (by simp only [seg_0, List.append_nil]; exact hk0) ?_
      exact hlt
  refine loop d rt 0 TOP NONE _ [] [] k0 hT.1 (TI.lt hT) (by simp) (by simp) (by rw [hT.2.1]; exact hk0) ?_
  exact ns_small hT hL
