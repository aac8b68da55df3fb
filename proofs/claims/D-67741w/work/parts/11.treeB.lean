/-- a node is wholly another -/
def un (N : Nat → Nd) (n : Nat) (f g : Nat → Nat) (c l x s : Nat) : Nat → Nd := uN N n (nd f g c l x s)
section UN
variable {N : Nat → Nd} {n m : Nat} {f g : Nat → Nat} {c l x s k v : Nat}
theorem un_at : un N n f g c l x s n = nd f g c l x s := uN_self
theorem un_ne (h : m ≠ n) : un N n f g c l x s m = N m := uN_ne h
theorem un_id : un N n (nK (N n)) (nC (N n)) (nc (N n)) (nl (N n)) (nx (N n)) (ns (N n)) = N := uN_id
theorem sK_un : sK (un N n f g c l x s) n k v = un N n (va_up f k v) g c l x s := by simp only [sK, un, uN_self, uN_uN, nK_nd, nC_nd, nc_nd, nl_nd, nx_nd, ns_nd]
theorem sC_un : sC (un N n f g c l x s) n k v = un N n f (va_up g k v) c l x s := by simp only [sC, un, uN_self, uN_uN, nK_nd, nC_nd, nc_nd, nl_nd, nx_nd, ns_nd]
theorem sc_un : sc (un N n f g c l x s) n v = un N n f g v l x s := by simp only [sc, un, uN_self, uN_uN, nK_nd, nC_nd, nc_nd, nl_nd, nx_nd, ns_nd]
theorem sl_un : sl (un N n f g c l x s) n v = un N n f g c v x s := by simp only [sl, un, uN_self, uN_uN, nK_nd, nC_nd, nc_nd, nl_nd, nx_nd, ns_nd]
theorem sx_un : sx (un N n f g c l x s) n v = un N n f g c l v s := by simp only [sx, un, uN_self, uN_uN, nK_nd, nC_nd, nc_nd, nl_nd, nx_nd, ns_nd]
theorem ss_un : ss (un N n f g c l x s) n v = un N n f g c l x v := by simp only [ss, un, uN_self, uN_uN, nK_nd, nC_nd, nc_nd, nl_nd, nx_nd, ns_nd]
theorem un_un {f' g' : Nat → Nat} {c' l' x' s' : Nat} : un (un N n f g c l x s) n f' g' c' l' x' s' = un N n f' g' c' l' x' s' := uN_uN
end UN
/-- a place for one more is made from place q on -/
def opK (K : Nat → Nat) (q c : Nat) : Nat → Nat := fun i => if q < i ∧ i ≤ c then K (i - 1) else K i
def opC (C : Nat → Nat) (q c : Nat) : Nat → Nat := fun i => if q + 1 < i ∧ i ≤ c + 1 then C (i - 1) else C i
def opN (N : Nat → Nd) (n q : Nat) : Nat → Nd := un N n (opK (nK (N n)) q (nc (N n))) (opC (nC (N n)) q (nc (N n))) (nc (N n) + 1) (nl (N n)) (nx (N n)) (ns (N n))
/-- place q is taken out -/
def shK (K : Nat → Nat) (q c : Nat) : Nat → Nat := fun i => if q ≤ i ∧ i < c then K (i + 1) else K i
def shC (C : Nat → Nat) (q c : Nat) : Nat → Nat := fun i => if q + 1 ≤ i ∧ i < c then C (i + 1) else C i
def shN (N : Nat → Nd) (n q : Nat) : Nat → Nd := un N n (shK (nK (N n)) q (nc (N n) - 1)) (shC (nC (N n)) q (nc (N n))) (nc (N n) - 1) (nl (N n)) (nx (N n)) (ns (N n))
/-- the sum of the kids' sizes -/
def smN (N : Nat → Nd) (C : Nat → Nat) : Nat → Nat
  | 0 => 0
  | k + 1 => smN N C k + ns (N (C k))
theorem smN_congr {N N' : Nat → Nd} {C C' : Nat → Nat} : ∀ (k : Nat), (∀ i, i < k → ns (N (C i)) = ns (N' (C' i))) → smN N C k = smN N' C' k
  | 0, _ => rfl
  | k + 1, h => by rw [smN, smN, smN_congr k (fun i hi => h i (by omega)), h k (by omega)]

set_option maxHeartbeats 4000000 in
set_option maxRecDepth 20000 in
theorem c_Tree_open (l : Launch) (D : va_G) (kA : Nat → ClassId) (h : Nat) (a : Nat → Nat) (N : Nat → Nd) (fr rt ky up fl fp : Nat) (n q : Nat) (hn : n < 500) (hc : nc (N n) ≤ 8) (hq : q ≤ nc (N n)) : Ct l D kA 2 y_Tree_open b_Tree_open 4 none [.ref h, .int (nI n), .int (nI q)] (tw kA h a N fr rt ky up fl fp) (pV fun w => w = (tw kA h a (opN N n q) fr rt ky up fl fp)) := by
  refine ct_of (by decide) (Nat.le_of_ble_eq_true rfl) rfl ?_
  intro p e s m args below meth c C
  refine v_aload_n C d_Tree_open_0 rfl ?_
  refine v_getf C i_Tree (ci := 0) rfl 2 (by decide) (List.mem_of_getElem? (i := 0) rfl) fl_Tree_18 d_Tree_open_1 (.ref (a 2)) rfl ?_
  refine v_iload_n C d_Tree_open_4 rfl ?_
  refine v_iald C (List.mem_of_getElem? (i := 3) rfl) (by omega) (by decide) d_Tree_open_5 (nI (nc (N n))) (rfl) ?_
  refine v_istore_n C d_Tree_open_6 ⟨Nat.le_of_ble_eq_true rfl, Nat.le_of_ble_eq_true rfl⟩ [.ref h, .int (nI n), .int (nI q), .int (nI (nc (N n)))] rfl ?_
  have loop : ∀ (t k : Nat) (f g : Nat → Nat), k < t → q ≤ k → k ≤ nc (N n) → (∀ i, f i = opK (nK (N n)) k (nc (N n)) i) → (∀ i, g i = opC (nC (N n)) k (nc (N n)) i) → V p l e (rmk 2) s m args below meth c D (qA (tw kA h a N fr rt ky up fl fp)) 4 0 0 (MQ below (QC D (tw kA h a N fr rt ky up fl fp) (pV fun w => w = (tw kA h a (opN N n q) fr rt ky up fl fp))) args s 0 0 (qA (tw kA h a N fr rt ky up fl fp))) 7 [.ref h, .int (nI n), .int (nI q), .int (nI k)] [] (tw kA h a (un N n f g (nc (N n)) (nl (N n)) (nx (N n)) (ns (N n))) fr rt ky up fl fp) := by
    intro t
    induction t with
    | zero => intro k f g hk; omega
    | succ t ih =>
      intro k f g hk hq hc2 hf hg
      refine v_iload_n C d_Tree_open_7 rfl ?_
      refine v_iload_n C d_Tree_open_8 rfl ?_
      refine v_icmp_le C d_Tree_open_9 52 (by decide) (by omega) (by omega) (fun ck => ?_) (fun ck => ?_)
      · obtain rfl : k = q := by omega
        obtain rfl : f = opK (nK (N n)) k (nc (N n)) := funext hf
        obtain rfl : g = opC (nC (N n)) k (nc (N n)) := funext hg
        refine v_aload_n C d_Tree_open_52 rfl ?_
        refine v_getf C i_Tree (ci := 0) rfl 2 (by decide) (List.mem_of_getElem? (i := 0) rfl) fl_Tree_18 d_Tree_open_53 (.ref (a 2)) rfl ?_
        refine v_iload_n C d_Tree_open_56 rfl ?_
        refine v_dup2 C d_Tree_open_57 rfl rfl ?_
        refine v_iald C (List.mem_of_getElem? (i := 3) rfl) (by omega) (by decide) d_Tree_open_58 (nI (nc (N n))) (congrArg (fun z => nI (nc z)) un_at) ?_
        refine v_iconst C d_Tree_open_59 (nI 1) (by decide) ?_
        refine v_iadd C d_Tree_open_60 ?_
        refine v_iast C (ws' := (tw kA h a (sc (un N n (opK (nK (N n)) k (nc (N n))) (opC (nC (N n)) k (nc (N n))) (nc (N n)) (nl (N n)) (nx (N n)) (ns (N n))) n (nc (N n) + 1)) fr rt ky up fl fp)) (tw_sc) (by omega) (by decide) d_Tree_open_61 (fun j _ => cntF_sc j) ?_
        rw [sc_un]
        exact v_vret C rfl d_Tree_open_62 (⟨rfl, rfl⟩)
      · refine v_aload_n C d_Tree_open_12 rfl ?_
        refine v_iload_n C d_Tree_open_13 rfl ?_
        refine v_iload_n C d_Tree_open_14 rfl ?_
        refine v_iconst C d_Tree_open_15 (nI 1) (by decide) ?_
        refine v_isub C d_Tree_open_16 (by omega) ?_
        refine v_iload_n C d_Tree_open_17 rfl ?_
        refine v_iload_n C d_Tree_open_18 rfl ?_
        refine v_cV C (As := [.int (nI n), .int (nI (k - 1)), .int (nI n), .int (nI k)]) (st := []) (c_Tree_copy l D kA h a (un N n f g (nc (N n)) (nl (N n)) (nx (N n)) (ns (N n))) fr rt ky up fl fp n (k - 1) n k hn (by omega) hn (by omega)) cv_Tree_copy ml_Tree_81 d_Tree_open_19 ⟨by omega, by decide⟩ tw_rcv ⟨rfl, rfl⟩ rfl ?_
        rintro _ rfl
        simp only [un_at, nK_nd, sK_un]
        refine v_aload_n C d_Tree_open_22 rfl ?_
        refine v_getf C i_Tree (ci := 0) rfl 1 (by decide) (List.mem_of_getElem? (i := 0) rfl) fl_Tree_15 d_Tree_open_23 (.ref (a 1)) rfl ?_
        refine v_bipush C d_Tree_open_26 (nI 11) (by decide) ?_
        refine v_iload_n C d_Tree_open_28 rfl ?_
        refine v_imul C d_Tree_open_29 ?_
        refine v_iload_n C d_Tree_open_30 rfl ?_
        refine v_iadd C d_Tree_open_31 ?_
        refine v_iconst C d_Tree_open_32 (nI 1) (by decide) ?_
        refine v_iadd C d_Tree_open_33 ?_
        refine v_top (y := nI (11 * n + (k + 1))) (congrArg nI (show ((11 * n) + k) + 1 = 11 * n + (k + 1) from by omega)) ?_
        refine v_aload_n C d_Tree_open_34 rfl ?_
        refine v_getf C i_Tree (ci := 0) rfl 1 (by decide) (List.mem_of_getElem? (i := 0) rfl) fl_Tree_15 d_Tree_open_35 (.ref (a 1)) rfl ?_
        refine v_bipush C d_Tree_open_38 (nI 11) (by decide) ?_
        refine v_iload_n C d_Tree_open_40 rfl ?_
        refine v_imul C d_Tree_open_41 ?_
        refine v_iload_n C d_Tree_open_42 rfl ?_
        refine v_iadd C d_Tree_open_43 ?_
        refine v_iald C (List.mem_of_getElem? (i := 2) rfl) (by omega) (by decide) d_Tree_open_44 (nI (g k)) ((kidsF_at (by omega)).trans (congrArg (fun z => nI (nC z k)) un_at)) ?_
        refine v_iast C (ws' := (tw kA h a (sC (un N n (va_up f k (f (k - 1))) g (nc (N n)) (nl (N n)) (nx (N n)) (ns (N n))) n (k + 1) (g k)) fr rt ky up fl fp)) (tw_sC) (by omega) (by decide) d_Tree_open_45 (fun j _ => kidsF_sC (by omega) j) ?_
        rw [sC_un]
        refine v_iinc C d_Tree_open_46 rfl ⟨Nat.le_of_ble_eq_true rfl, Nat.le_of_ble_eq_true rfl⟩ (nI (k - 1)) (dec1 (by omega)) [.ref h, .int (nI n), .int (nI q), .int (nI (k - 1))] rfl ?_
        refine v_goto C d_Tree_open_49 7 (by decide) ?_
        refine ih (k - 1) _ _ (by omega) (by omega) (by omega) ?_ ?_
        · intro i; simp only [va_up, hf, opK]; repeat' split
          all_goals first | rfl | (exfalso; omega) | (congr 1; omega)
        · intro i; simp only [va_up, hg, opC]; repeat' split
          all_goals first | rfl | (exfalso; omega) | (congr 1; omega)
  have z := loop (nc (N n) + 1) (nc (N n)) (nK (N n)) (nC (N n)) (by omega) hq (Nat.le_refl _) (fun i => by simp only [opK]; rw [if_neg (by omega)]) (fun i => by simp only [opC]; rw [if_neg (by omega)])
  rw [un_id] at z
  exact z

set_option maxHeartbeats 4000000 in
set_option maxRecDepth 20000 in
theorem c_Tree_shut (l : Launch) (D : va_G) (kA : Nat → ClassId) (h : Nat) (a : Nat → Nat) (N : Nat → Nd) (fr rt ky up fl fp : Nat) (n q : Nat) (hn : n < 500) (hc : nc (N n) ≤ 9) (hq : q < nc (N n)) : Ct l D kA 2 y_Tree_shut b_Tree_shut 4 none [.ref h, .int (nI n), .int (nI q)] (tw kA h a N fr rt ky up fl fp) (pV fun w => w = (tw kA h a (shN N n q) fr rt ky up fl fp)) := by
  refine ct_of (by decide) (Nat.le_of_ble_eq_true rfl) rfl ?_
  intro p e s m args below meth c C
  refine v_aload_n C d_Tree_shut_0 rfl ?_
  refine v_getf C i_Tree (ci := 0) rfl 2 (by decide) (List.mem_of_getElem? (i := 0) rfl) fl_Tree_18 d_Tree_shut_1 (.ref (a 2)) rfl ?_
  refine v_iload_n C d_Tree_shut_4 rfl ?_
  refine v_dup2 C d_Tree_shut_5 rfl rfl ?_
  refine v_iald C (List.mem_of_getElem? (i := 3) rfl) (by omega) (by decide) d_Tree_shut_6 (nI (nc (N n))) (rfl) ?_
  refine v_iconst C d_Tree_shut_7 (nI 1) (by decide) ?_
  refine v_isub C d_Tree_shut_8 (by omega) ?_
  refine v_iast C (ws' := (tw kA h a (sc N n (nc (N n) - 1)) fr rt ky up fl fp)) (tw_sc) (by omega) (by decide) d_Tree_shut_9 (fun j _ => cntF_sc j) ?_
  rw [show sc N n (nc (N n) - 1) = un N n (nK (N n)) (nC (N n)) (nc (N n) - 1) (nl (N n)) (nx (N n)) (ns (N n)) from rfl]
  refine v_iload_n C d_Tree_shut_10 rfl ?_
  refine v_istore_n C d_Tree_shut_11 ⟨Nat.le_of_ble_eq_true rfl, Nat.le_of_ble_eq_true rfl⟩ [.ref h, .int (nI n), .int (nI q), .int (nI q)] rfl ?_
  have loop2 : ∀ (t k : Nat) (f g : Nat → Nat), nc (N n) - k < t → q + 1 ≤ k → k ≤ nc (N n) → (∀ i, f i = shK (nK (N n)) q (nc (N n) - 1) i) → (∀ i, g i = shC (nC (N n)) q k i) → V p l e (rmk 2) s m args below meth c D (qA (tw kA h a N fr rt ky up fl fp)) 4 0 0 (MQ below (QC D (tw kA h a N fr rt ky up fl fp) (pV fun w => w = (tw kA h a (shN N n q) fr rt ky up fl fp))) args s 0 0 (qA (tw kA h a N fr rt ky up fl fp))) 42 [.ref h, .int (nI n), .int (nI q), .int (nI k)] [] (tw kA h a (un N n f g (nc (N n) - 1) (nl (N n)) (nx (N n)) (ns (N n))) fr rt ky up fl fp) := by
    intro t
    induction t with
    | zero => intro k f g hk; omega
    | succ t ih =>
      intro k f g hk hq2 hc2 hf hg
      refine v_iload_n C d_Tree_shut_42 rfl ?_
      refine v_aload_n C d_Tree_shut_43 rfl ?_
      refine v_getf C i_Tree (ci := 0) rfl 2 (by decide) (List.mem_of_getElem? (i := 0) rfl) fl_Tree_18 d_Tree_shut_44 (.ref (a 2)) rfl ?_
      refine v_iload_n C d_Tree_shut_47 rfl ?_
      refine v_iald C (List.mem_of_getElem? (i := 3) rfl) (by omega) (by decide) d_Tree_shut_48 (nI (nc (N n) - 1)) (congrArg (fun z => nI (nc z)) un_at) ?_
      refine v_icmp_gt C d_Tree_shut_49 82 (by decide) (by omega) (by omega) (fun ck => ?_) (fun ck => ?_)
      · obtain rfl : k = nc (N n) := by omega
        obtain rfl : f = shK (nK (N n)) q (nc (N n) - 1) := funext hf
        obtain rfl : g = shC (nC (N n)) q (nc (N n)) := funext hg
        exact v_vret C rfl d_Tree_shut_82 (⟨rfl, rfl⟩)
      · refine v_aload_n C d_Tree_shut_52 rfl ?_
        refine v_getf C i_Tree (ci := 0) rfl 1 (by decide) (List.mem_of_getElem? (i := 0) rfl) fl_Tree_15 d_Tree_shut_53 (.ref (a 1)) rfl ?_
        refine v_bipush C d_Tree_shut_56 (nI 11) (by decide) ?_
        refine v_iload_n C d_Tree_shut_58 rfl ?_
        refine v_imul C d_Tree_shut_59 ?_
        refine v_iload_n C d_Tree_shut_60 rfl ?_
        refine v_iadd C d_Tree_shut_61 ?_
        refine v_top (y := nI (11 * n + k)) (congrArg nI (show (11 * n) + k = 11 * n + k from by omega)) ?_
        refine v_aload_n C d_Tree_shut_62 rfl ?_
        refine v_getf C i_Tree (ci := 0) rfl 1 (by decide) (List.mem_of_getElem? (i := 0) rfl) fl_Tree_15 d_Tree_shut_63 (.ref (a 1)) rfl ?_
        refine v_bipush C d_Tree_shut_66 (nI 11) (by decide) ?_
        refine v_iload_n C d_Tree_shut_68 rfl ?_
        refine v_imul C d_Tree_shut_69 ?_
        refine v_iload_n C d_Tree_shut_70 rfl ?_
        refine v_iadd C d_Tree_shut_71 ?_
        refine v_iconst C d_Tree_shut_72 (nI 1) (by decide) ?_
        refine v_iadd C d_Tree_shut_73 ?_
        refine v_top (y := nI (11 * n + (k + 1))) (congrArg nI (show ((11 * n) + k) + 1 = 11 * n + (k + 1) from by omega)) ?_
        refine v_iald C (List.mem_of_getElem? (i := 2) rfl) (by omega) (by decide) d_Tree_shut_74 (nI (g (k + 1))) ((kidsF_at (by omega)).trans (congrArg (fun z => nI (nC z (k + 1))) un_at)) ?_
        refine v_iast C (ws' := (tw kA h a (sC (un N n f g (nc (N n) - 1) (nl (N n)) (nx (N n)) (ns (N n))) n k (g (k + 1))) fr rt ky up fl fp)) (tw_sC) (by omega) (by decide) d_Tree_shut_75 (fun j _ => kidsF_sC (by omega) j) ?_
        rw [sC_un]
        refine v_iinc C d_Tree_shut_76 rfl ⟨Nat.le_of_ble_eq_true rfl, Nat.le_of_ble_eq_true rfl⟩ (nI (k + 1)) (inc1 _) [.ref h, .int (nI n), .int (nI q), .int (nI (k + 1))] rfl ?_
        refine v_goto C d_Tree_shut_79 42 (by decide) ?_
        refine ih (k + 1) _ _ (by omega) (by omega) (by omega) hf ?_
        intro i; simp only [va_up, hg, shC]; repeat' split
        all_goals first | rfl | (exfalso; omega) | (congr 1; omega)
  have loop1 : ∀ (t k : Nat) (f : Nat → Nat), nc (N n) - 1 - k < t → q ≤ k → k ≤ nc (N n) - 1 → (∀ i, f i = shK (nK (N n)) q k i) → V p l e (rmk 2) s m args below meth c D (qA (tw kA h a N fr rt ky up fl fp)) 4 0 0 (MQ below (QC D (tw kA h a N fr rt ky up fl fp) (pV fun w => w = (tw kA h a (shN N n q) fr rt ky up fl fp))) args s 0 0 (qA (tw kA h a N fr rt ky up fl fp))) 12 [.ref h, .int (nI n), .int (nI q), .int (nI k)] [] (tw kA h a (un N n f (nC (N n)) (nc (N n) - 1) (nl (N n)) (nx (N n)) (ns (N n))) fr rt ky up fl fp) := by
    intro t
    induction t with
    | zero => intro k f hk; omega
    | succ t ih =>
      intro k f hk hq2 hc2 hf
      refine v_iload_n C d_Tree_shut_12 rfl ?_
      refine v_aload_n C d_Tree_shut_13 rfl ?_
      refine v_getf C i_Tree (ci := 0) rfl 2 (by decide) (List.mem_of_getElem? (i := 0) rfl) fl_Tree_18 d_Tree_shut_14 (.ref (a 2)) rfl ?_
      refine v_iload_n C d_Tree_shut_17 rfl ?_
      refine v_iald C (List.mem_of_getElem? (i := 3) rfl) (by omega) (by decide) d_Tree_shut_18 (nI (nc (N n) - 1)) (congrArg (fun z => nI (nc z)) un_at) ?_
      refine v_icmp_ge C d_Tree_shut_19 38 (by decide) (by omega) (by omega) (fun ck => ?_) (fun ck => ?_)
      · obtain rfl : k = nc (N n) - 1 := by omega
        refine v_iload_n C d_Tree_shut_38 rfl ?_
        refine v_iconst C d_Tree_shut_39 (nI 1) (by decide) ?_
        refine v_iadd C d_Tree_shut_40 ?_
        refine v_istore_n C d_Tree_shut_41 ⟨Nat.le_of_ble_eq_true rfl, Nat.le_of_ble_eq_true rfl⟩ [.ref h, .int (nI n), .int (nI q), .int (nI (q + 1))] rfl ?_
        exact loop2 (nc (N n) + 1) (q + 1) f (nC (N n)) (by omega) (by omega) (by omega) hf (fun i => by simp only [shC]; rw [if_neg (by omega)])
      · refine v_aload_n C d_Tree_shut_22 rfl ?_
        refine v_iload_n C d_Tree_shut_23 rfl ?_
        refine v_iload_n C d_Tree_shut_24 rfl ?_
        refine v_iconst C d_Tree_shut_25 (nI 1) (by decide) ?_
        refine v_iadd C d_Tree_shut_26 ?_
        refine v_iload_n C d_Tree_shut_27 rfl ?_
        refine v_iload_n C d_Tree_shut_28 rfl ?_
        refine v_cV C (As := [.int (nI n), .int (nI (k + 1)), .int (nI n), .int (nI k)]) (st := []) (c_Tree_copy l D kA h a (un N n f (nC (N n)) (nc (N n) - 1) (nl (N n)) (nx (N n)) (ns (N n))) fr rt ky up fl fp n (k + 1) n k hn (by omega) hn (by omega)) cv_Tree_copy ml_Tree_81 d_Tree_shut_29 ⟨by omega, by decide⟩ tw_rcv ⟨rfl, rfl⟩ rfl ?_
        rintro _ rfl
        simp only [un_at, nK_nd, sK_un]
        refine v_iinc C d_Tree_shut_32 rfl ⟨Nat.le_of_ble_eq_true rfl, Nat.le_of_ble_eq_true rfl⟩ (nI (k + 1)) (inc1 _) [.ref h, .int (nI n), .int (nI q), .int (nI (k + 1))] rfl ?_
        refine v_goto C d_Tree_shut_35 12 (by decide) ?_
        refine ih (k + 1) _ (by omega) (by omega) (by omega) ?_
        intro i; simp only [va_up, hf, shK]; repeat' split
        all_goals first | rfl | (exfalso; omega) | (congr 1; omega)
  exact loop1 (nc (N n) + 1) q (nK (N n)) (by omega) (Nat.le_refl _) (by omega) (fun i => by simp only [shK]; rw [if_neg (by omega)])

set_option maxHeartbeats 4000000 in
set_option maxRecDepth 20000 in
theorem c_Tree_sum (l : Launch) (D : va_G) (kA : Nat → ClassId) (h : Nat) (a : Nat → Nat) (N : Nat → Nd) (fr rt ky up fl fp : Nat) (n : Nat) (hn : n < 500) (hc : nc (N n) ≤ 9) (hC : ∀ k, k ≤ nc (N n) → nC (N n) k < 500) : Ct l D kA 1 y_Tree_sum b_Tree_sum 4 (some .int) [.ref h, .int (nI n)] (tw kA h a N fr rt ky up fl fp) (pI fun x w => x = nI (smN N (nC (N n)) (nc (N n) + 1)) ∧ w = (tw kA h a N fr rt ky up fl fp)) := by
  refine ct_of (by decide) (Nat.le_of_ble_eq_true rfl) rfl ?_
  intro p e s m args below meth c C
  refine v_iconst C d_Tree_sum_0 (nI 0) (by decide) ?_
  refine v_istore_n C d_Tree_sum_1 ⟨Nat.le_of_ble_eq_true rfl, Nat.le_of_ble_eq_true rfl⟩ [.ref h, .int (nI n), .int (nI 0)] rfl ?_
  refine v_iconst C d_Tree_sum_2 (nI 0) (by decide) ?_
  refine v_istore_n C d_Tree_sum_3 ⟨Nat.le_of_ble_eq_true rfl, Nat.le_of_ble_eq_true rfl⟩ [.ref h, .int (nI n), .int (nI 0), .int (nI 0)] rfl ?_
  have loop : ∀ t k : Nat, nc (N n) + 1 - k < t → k ≤ nc (N n) + 1 → V p l e (rmk 1) s m args below meth c D (qA (tw kA h a N fr rt ky up fl fp)) 4 0 0 (MQ below (QC D (tw kA h a N fr rt ky up fl fp) (pI fun x w => x = nI (smN N (nC (N n)) (nc (N n) + 1)) ∧ w = (tw kA h a N fr rt ky up fl fp))) args s 0 0 (qA (tw kA h a N fr rt ky up fl fp))) 4 [.ref h, .int (nI n), .int (nI (smN N (nC (N n)) k)), .int (nI k)] [] (tw kA h a N fr rt ky up fl fp) := by
    intro t
    induction t with
    | zero => intro k hk; omega
    | succ t ih =>
      intro k hk hk2
      refine v_iload_n C d_Tree_sum_4 rfl ?_
      refine v_aload_n C d_Tree_sum_5 rfl ?_
      refine v_getf C i_Tree (ci := 0) rfl 2 (by decide) (List.mem_of_getElem? (i := 0) rfl) fl_Tree_18 d_Tree_sum_6 (.ref (a 2)) rfl ?_
      refine v_iload_n C d_Tree_sum_9 rfl ?_
      refine v_iald C (List.mem_of_getElem? (i := 3) rfl) (by omega) (by decide) d_Tree_sum_10 (nI (nc (N n))) (rfl) ?_
      refine v_icmp_gt C d_Tree_sum_11 34 (by decide) (by omega) (by omega) (fun ck => ?_) (fun ck => ?_)
      · obtain rfl : k = nc (N n) + 1 := by omega
        refine v_iload_n C d_Tree_sum_34 rfl ?_
        exact v_iret C rfl d_Tree_sum_35 (⟨_, rfl, rfl, rfl⟩)
      · refine v_iload_n C d_Tree_sum_14 rfl ?_
        refine v_aload_n C d_Tree_sum_15 rfl ?_
        refine v_getf C i_Tree (ci := 0) rfl 5 (by decide) (List.mem_of_getElem? (i := 0) rfl) fl_Tree_28 d_Tree_sum_16 (.ref (a 5)) rfl ?_
        refine v_aload_n C d_Tree_sum_19 rfl ?_
        refine v_iload_n C d_Tree_sum_20 rfl ?_
        refine v_iload_n C d_Tree_sum_21 rfl ?_
        refine v_cI C (As := [.int (nI n), .int (nI k)]) (st := [.ref (a 5), .int (nI (smN N (nC (N n)) k))]) (c_Tree_kid l D kA h a N fr rt ky up fl fp n k hn (by omega)) cv_Tree_kid ml_Tree_65 d_Tree_sum_22 ⟨by omega, by decide⟩ tw_rcv ⟨rfl, rfl⟩ rfl ?_
        rintro _ _ ⟨rfl, rfl⟩
        have hkk := hC k (by omega)
        refine v_iald C (List.mem_of_getElem? (i := 6) rfl) (by omega) (by decide) d_Tree_sum_25 (nI (ns (N (nC (N n) k)))) (rfl) ?_
        refine v_iadd C d_Tree_sum_26 ?_
        refine v_istore_n C d_Tree_sum_27 ⟨Nat.le_of_ble_eq_true rfl, Nat.le_of_ble_eq_true rfl⟩ [.ref h, .int (nI n), .int (nI ((smN N (nC (N n)) k) + (ns (N (nC (N n) k))))), .int (nI k)] rfl ?_
        refine v_iinc C d_Tree_sum_28 rfl ⟨Nat.le_of_ble_eq_true rfl, Nat.le_of_ble_eq_true rfl⟩ (nI (k + 1)) (inc1 _) [.ref h, .int (nI n), .int (nI ((smN N (nC (N n)) k) + (ns (N (nC (N n) k))))), .int (nI (k + 1))] rfl ?_
        refine v_goto C d_Tree_sum_31 4 (by decide) ?_
        exact ih (k + 1) (by omega) (by omega)
  exact loop (nc (N n) + 2) 0 (by omega) (by omega)
