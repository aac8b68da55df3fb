/-- the order of a mask -/
def oo (m : Nat) : Nat := if m = 2 ∨ m = 6 then 1 else if m = 4 ∨ m = 5 then 2 else 0
theorem oo_0 {m : Nat} (c1 : m ≠ 2) (c2 : m ≠ 6) (c3 : m ≠ 4) (c4 : m ≠ 5) : oo m = 0 := by unfold oo; rw [if_neg (by omega), if_neg (by omega)]
theorem oo_lt (m : Nat) : oo m < 3 := by
  unfold oo
  split
  · decide
  · split <;> decide

set_option maxHeartbeats 800000 in
set_option maxRecDepth 20000 in
theorem c_Mod_orderOf (l : Launch) (D : va_G) (kA : Nat → ClassId) (m : Nat) (hm : m < 8) : Ct l D kA 0 y_Mod_orderOf b_Mod_orderOf 1 (some .int) [.int (nI m)] [] (pI fun x w => x = nI (oo m) ∧ w = []) := by
  refine ct_of (by decide) (Nat.le_of_ble_eq_true rfl) rfl ?_
  intro pg en s0 m0 args below meth cod C
  refine v_iload_n C d_Mod_orderOf_0 rfl ?_
  refine v_iconst C d_Mod_orderOf_1 (nI 2) (by decide) ?_
  refine v_icmp_eq C d_Mod_orderOf_2 11 (by decide) (by omega) (by omega) (fun c1 => ?_) (fun c1 => ?_)
  · subst c1
    refine v_iconst C d_Mod_orderOf_11 (nI 1) (by decide) ?_
    refine v_goto C d_Mod_orderOf_12 30 (by decide) ?_
    exact v_iret C rfl d_Mod_orderOf_30 (⟨_, rfl, rfl, rfl⟩)
  · refine v_iload_n C d_Mod_orderOf_5 rfl ?_
    refine v_bipush C d_Mod_orderOf_6 (nI 6) (by decide) ?_
    refine v_icmp_ne C d_Mod_orderOf_8 15 (by decide) (by omega) (by omega) (fun c2 => ?_) (fun c2 => ?_)
    · refine v_iload_n C d_Mod_orderOf_15 rfl ?_
      refine v_iconst C d_Mod_orderOf_16 (nI 4) (by decide) ?_
      refine v_icmp_eq C d_Mod_orderOf_17 25 (by decide) (by omega) (by omega) (fun c3 => ?_) (fun c3 => ?_)
      · subst c3
        refine v_iconst C d_Mod_orderOf_25 (nI 2) (by decide) ?_
        refine v_goto C d_Mod_orderOf_26 30 (by decide) ?_
        exact v_iret C rfl d_Mod_orderOf_30 (⟨_, rfl, rfl, rfl⟩)
      · refine v_iload_n C d_Mod_orderOf_20 rfl ?_
        refine v_iconst C d_Mod_orderOf_21 (nI 5) (by decide) ?_
        refine v_icmp_ne C d_Mod_orderOf_22 29 (by decide) (by omega) (by omega) (fun c4 => ?_) (fun c4 => ?_)
        · refine v_iconst C d_Mod_orderOf_29 (nI 0) (by decide) ?_
          exact v_iret C rfl d_Mod_orderOf_30 (⟨_, rfl, by rw [oo_0 c1 c2 c3 c4], rfl⟩)
        · subst c4
          refine v_iconst C d_Mod_orderOf_25 (nI 2) (by decide) ?_
          refine v_goto C d_Mod_orderOf_26 30 (by decide) ?_
          exact v_iret C rfl d_Mod_orderOf_30 (⟨_, rfl, rfl, rfl⟩)
    · subst c2
      refine v_iconst C d_Mod_orderOf_11 (nI 1) (by decide) ?_
      refine v_goto C d_Mod_orderOf_12 30 (by decide) ?_
      exact v_iret C rfl d_Mod_orderOf_30 (⟨_, rfl, rfl, rfl⟩)

set_option maxHeartbeats 800000 in
set_option maxRecDepth 20000 in
theorem c_Mod_partOf (l : Launch) (D : va_G) (kA : Nat → ClassId) (t i : Nat) (ht : t < 3) (hi : i < 3) : Ct l D kA 0 y_Mod_partOf b_Mod_partOf 2 (some .int) [.int (nI t), .int (nI i)] [] (pI fun x w => x = nI ((t + i) % 3) ∧ w = []) := by
  refine ct_of (by decide) (Nat.le_of_ble_eq_true rfl) rfl ?_
  intro pg en s0 m0 args below meth cod C
  refine v_iload_n C d_Mod_partOf_0 rfl ?_
  refine v_iload_n C d_Mod_partOf_1 rfl ?_
  refine v_iadd C d_Mod_partOf_2 ?_
  refine v_iconst C d_Mod_partOf_3 (nI 3) (by decide) ?_
  refine v_irem C d_Mod_partOf_4 (by omega) (by omega) (by omega) ?_
  exact v_iret C rfl d_Mod_partOf_5 (⟨_, rfl, rfl, rfl⟩)

set_option maxHeartbeats 800000 in
set_option maxRecDepth 20000 in
theorem c_Mod_cell (l : Launch) (D : va_G) (kA : Nat → ClassId) (h : Nat) (a : Nat → Nat) (R : Nat → Int32) (sz ch : Nat) (op sl mk : Nat → Nat) (pt : Nat → Int32) (pp : Nat → Nat) (mt : Nat → Int32) (sp : Nat → Nat) (me : Nat) (t k i : Nat) (L : List Nat) (ht : t < 3) (hL : L.length ≤ 700) (hR : rowOK R t L) (hk : k < L.length) (hi : i < 3) : Ct l D kA 0 y_Mod_cell b_Mod_cell 4 (some .int) [.ref h, .int (nI t), .int (nI k), .int (nI i)] (mw kA h a R sz ch op sl mk pt pp mt sp me) (pI fun x w => x = dc (lg L k) (po t i) ∧ w = (mw kA h a R sz ch op sl mk pt pp mt sp me)) := by
  refine ct_of (by decide) (Nat.le_of_ble_eq_true rfl) rfl ?_
  intro pg en s0 m0 args below meth cod C
  refine v_aload_n C d_Mod_cell_0 rfl ?_
  refine v_getf C i_Mod (ci := 3) rfl 0 (by decide) (List.mem_of_getElem? (i := 0) rfl) fl_Mod_7 d_Mod_cell_1 (.ref (a 0)) rfl ?_
  refine v_sipush C d_Mod_cell_4 (nI 2101) (by decide) ?_
  refine v_iload_n C d_Mod_cell_7 rfl ?_
  refine v_imul C d_Mod_cell_8 ?_
  refine v_iconst C d_Mod_cell_9 (nI 3) (by decide) ?_
  refine v_iload_n C d_Mod_cell_10 rfl ?_
  refine v_imul C d_Mod_cell_11 ?_
  refine v_iadd C d_Mod_cell_12 ?_
  refine v_iload_n C d_Mod_cell_13 rfl ?_
  refine v_iadd C d_Mod_cell_14 ?_
  refine v_iald C (List.mem_of_getElem? (i := 1) rfl) (by omega) (by decide) d_Mod_cell_15 (dc (lg L k) (po t i)) (hR k hk i hi) ?_
  exact v_iret C rfl d_Mod_cell_16 (⟨_, rfl, rfl, rfl⟩)

theorem sel_s {part : Nat} {s p o : Int32} (h : part = 0) : sel part s p o = s := by simp [sel, h]
theorem sel_p {part : Nat} {s p o : Int32} (h : part = 1) : sel part s p o = p := by simp [sel, h]
theorem sel_o {part : Nat} {s p o : Int32} (h0 : part ≠ 0) (h1 : part ≠ 1) : sel part s p o = o := by simp [sel, h0, h1]

set_option maxHeartbeats 800000 in
set_option maxRecDepth 20000 in
theorem c_Mod_compare (l : Launch) (D : va_G) (kA : Nat → ClassId) (h : Nat) (a : Nat → Nat) (R : Nat → Int32) (sz ch : Nat) (op sl mk : Nat → Nat) (pt : Nat → Int32) (pp : Nat → Nat) (mt : Nat → Int32) (sp : Nat → Nat) (me : Nat) (t k : Nat) (L : List Nat) (vs vp vo : Int32) (ht : t < 3) (hL : L.length ≤ 700) (hR : rowOK R t L) (hT : ∀ x ∈ L, x < TOP) (hk : k < L.length) : Ct l D kA 1 y_Mod_compare b_Mod_compare 10 (some .int) [.ref h, .int (nI t), .int (nI k), .int vs, .int vp, .int vo] (mw kA h a R sz ch op sl mk pt pp mt sp me) (pI fun x w => x = cmpI (lg L k) (ec t vs vp vo) ∧ w = (mw kA h a R sz ch op sl mk pt pp mt sp me)) := by
  refine ct_of (by decide) (Nat.le_of_ble_eq_true rfl) rfl ?_
  intro pg en s0 m0 args below meth cod C
  refine v_iconst C d_Mod_compare_0 (nI 0) (by decide) ?_
  refine v_istore C d_Mod_compare_1 ⟨Nat.le_of_ble_eq_true rfl, Nat.le_of_ble_eq_true rfl⟩ [.ref h, .int (nI t), .int (nI k), .int vs, .int vp, .int vo, .int (nI 0)] rfl ?_
  have hTL := hT _ (lg_mem hk)
  have hTE := ec_lt t vs vp vo
  have stp : ∀ i : Nat, i < 3 → (∀ j, j < i → dc (lg L k) j = dc (ec t vs vp vo) j) → (dc (lg L k) i = dc (ec t vs vp vo) i → V pg l en (rmk 1) s0 m0 args below meth cod D (qA (mw kA h a R sz ch op sl mk pt pp mt sp me)) 10 0 0 (MQ below (QC D (mw kA h a R sz ch op sl mk pt pp mt sp me) (pI fun x w => x = cmpI (lg L k) (ec t vs vp vo) ∧ w = (mw kA h a R sz ch op sl mk pt pp mt sp me))) args s0 0 0 (qA (mw kA h a R sz ch op sl mk pt pp mt sp me))) 3 [.ref h, .int (nI t), .int (nI k), .int vs, .int vp, .int vo, .int (nI (i + 1))] [] (mw kA h a R sz ch op sl mk pt pp mt sp me)) → V pg l en (rmk 1) s0 m0 args below meth cod D (qA (mw kA h a R sz ch op sl mk pt pp mt sp me)) 10 0 0 (MQ below (QC D (mw kA h a R sz ch op sl mk pt pp mt sp me) (pI fun x w => x = cmpI (lg L k) (ec t vs vp vo) ∧ w = (mw kA h a R sz ch op sl mk pt pp mt sp me))) args s0 0 0 (qA (mw kA h a R sz ch op sl mk pt pp mt sp me))) 3 [.ref h, .int (nI t), .int (nI k), .int vs, .int vp, .int vo, .int (nI i)] [] (mw kA h a R sz ch op sl mk pt pp mt sp me) := by
    intro i hi hj kn
    refine v_iload C d_Mod_compare_3 rfl ?_
    refine v_iconst C d_Mod_compare_5 (nI 3) (by decide) ?_
    refine v_icmp_ge C d_Mod_compare_6 77 (by decide) (by omega) (by omega) (fun c0 => False.elim (by omega)) (fun c0 => ?_)
    refine v_iload_n C d_Mod_compare_9 rfl ?_
    refine v_iload C d_Mod_compare_10 rfl ?_
    refine v_cS C (As := [.int (nI t), .int (nI i)]) (st := []) (c_Mod_partOf l D kA t i ht hi) cv_Mod_partOf ml_Mod_39 d_Mod_compare_12 ⟨by omega, by decide⟩ ⟨rfl, rfl⟩ rfl ?_
    rintro _ rfl
    refine v_istore C d_Mod_compare_15 ⟨Nat.le_of_ble_eq_true rfl, Nat.le_of_ble_eq_true rfl⟩ [.ref h, .int (nI t), .int (nI k), .int vs, .int vp, .int vo, .int (nI i), .int (nI ((t + i) % 3))] rfl ?_
    refine v_aload_n C d_Mod_compare_17 rfl ?_
    refine v_iload_n C d_Mod_compare_18 rfl ?_
    refine v_iload_n C d_Mod_compare_19 rfl ?_
    refine v_iload C d_Mod_compare_20 rfl ?_
    refine v_cI C (As := [.int (nI t), .int (nI k), .int (nI ((t + i) % 3))]) (st := []) (c_Mod_cell l D kA h a R sz ch op sl mk pt pp mt sp me t k ((t + i) % 3) L ht hL hR hk (by omega)) cv_Mod_cell ml_Mod_43 d_Mod_compare_22 ⟨by omega, by decide⟩ mw_rcv ⟨rfl, rfl⟩ rfl ?_
    rintro _ _ ⟨rfl, rfl⟩
    rw [po_of ht hi]
    refine v_istore C d_Mod_compare_25 ⟨Nat.le_of_ble_eq_true rfl, Nat.le_of_ble_eq_true rfl⟩ [.ref h, .int (nI t), .int (nI k), .int vs, .int vp, .int vo, .int (nI i), .int (nI ((t + i) % 3)), .int (dc (lg L k) i)] rfl ?_
    have tail : V pg l en (rmk 1) s0 m0 args below meth cod D (qA (mw kA h a R sz ch op sl mk pt pp mt sp me)) 10 0 0 (MQ below (QC D (mw kA h a R sz ch op sl mk pt pp mt sp me) (pI fun x w => x = cmpI (lg L k) (ec t vs vp vo) ∧ w = (mw kA h a R sz ch op sl mk pt pp mt sp me))) args s0 0 0 (qA (mw kA h a R sz ch op sl mk pt pp mt sp me))) 49 [.ref h, .int (nI t), .int (nI k), .int vs, .int vp, .int vo, .int (nI i), .int (nI ((t + i) % 3)), .int (dc (lg L k) i)] [.int (sel ((t + i) % 3) vs vp vo)] (mw kA h a R sz ch op sl mk pt pp mt sp me) := by
      rw [← ec_dc ht hi vs vp vo]
      refine v_istore C d_Mod_compare_49 ⟨Nat.le_of_ble_eq_true rfl, Nat.le_of_ble_eq_true rfl⟩ [.ref h, .int (nI t), .int (nI k), .int vs, .int vp, .int vo, .int (nI i), .int (nI ((t + i) % 3)), .int (dc (lg L k) i), .int (dc (ec t vs vp vo) i)] rfl ?_
      refine v_iload C d_Mod_compare_51 rfl ?_
      refine v_iload C d_Mod_compare_53 rfl ?_
      refine v_icmp_eqR C d_Mod_compare_55 71 (by decide) (fun ce => ?_) (fun ce => ?_)
      · refine v_iinc C d_Mod_compare_71 rfl ⟨Nat.le_of_ble_eq_true rfl, Nat.le_of_ble_eq_true rfl⟩ (nI (i + 1)) (inc1 _) [.ref h, .int (nI t), .int (nI k), .int vs, .int vp, .int vo, .int (nI (i + 1)), .int (nI ((t + i) % 3)), .int (dc (lg L k) i), .int (dc (ec t vs vp vo) i)] rfl ?_
        refine v_goto C d_Mod_compare_74 3 (by decide) ?_
        refine v_less 7 rfl ?_
        exact kn ce
      · have hf := dc_first hTL hTE hi hj ce
        refine v_iload C d_Mod_compare_58 rfl ?_
        refine v_iload C d_Mod_compare_60 rfl ?_
        refine v_icmp_geR C d_Mod_compare_62 69 (by decide) (fun cg => ?_) (fun cg => ?_)
        · refine v_iconst C d_Mod_compare_69 (nI 1) (by decide) ?_
          exact v_iret C rfl d_Mod_compare_70 (⟨_, rfl, by unfold cmpI; rw [if_neg (fun q => Int32.not_lt.mpr cg (hf.1.mp q)), if_neg hf.2]; rfl, rfl⟩)
        · refine v_iconst C d_Mod_compare_65 (-1) (by decide) ?_
          refine v_goto C d_Mod_compare_66 70 (by decide) ?_
          exact v_iret C rfl d_Mod_compare_70 (⟨_, rfl, by unfold cmpI; rw [if_pos (hf.1.mpr (Int32.not_le.mp cg))], rfl⟩)
    refine v_iload C d_Mod_compare_27 rfl ?_
    refine v_if_ne C d_Mod_compare_29 36 (by decide) (by omega) (fun cp => ?_) (fun cp => ?_)
    · refine v_iload C d_Mod_compare_36 rfl ?_
      refine v_iconst C d_Mod_compare_38 (nI 1) (by decide) ?_
      refine v_icmp_ne C d_Mod_compare_39 47 (by decide) (by omega) (by omega) (fun cq => ?_) (fun cq => ?_)
      · refine v_iload C d_Mod_compare_47 rfl ?_
        rw [sel_o cp cq] at tail
        exact tail
      · refine v_iload C d_Mod_compare_42 rfl ?_
        refine v_goto C d_Mod_compare_44 49 (by decide) ?_
        rw [sel_p cq] at tail
        exact tail
    · refine v_iload_n C d_Mod_compare_32 rfl ?_
      refine v_goto C d_Mod_compare_33 49 (by decide) ?_
      rw [sel_s cp] at tail
      exact tail
  refine stp 0 (by decide) (fun j hj => absurd hj (Nat.not_lt_zero j)) (fun e0 => ?_)
  refine stp 1 (by decide) (lt_s lt_0 e0) (fun e1 => ?_)
  refine stp 2 (by decide) (lt_s (lt_s lt_0 e0) e1) (fun e2 => ?_)
  refine v_iload C d_Mod_compare_3 rfl ?_
  refine v_iconst C d_Mod_compare_5 (nI 3) (by decide) ?_
  refine v_icmp_ge C d_Mod_compare_6 77 (by decide) (by decide) (by decide) (fun c0 => ?_) (fun c0 => False.elim (by omega))
  refine v_iconst C d_Mod_compare_77 (nI 0) (by decide) ?_
  exact v_iret C rfl d_Mod_compare_78 (⟨_, rfl, by unfold cmpI; have := dc_eq hTL hTE (fun i hi => by rcases (show i = 0 ∨ i = 1 ∨ i = 2 by omega) with rfl | rfl | rfl <;> assumption); rw [if_neg (by omega), if_pos this]; rfl, rfl⟩)

set_option maxHeartbeats 800000 in
set_option maxRecDepth 20000 in
theorem c_Mod_placeOf (l : Launch) (D : va_G) (kA : Nat → ClassId) (h : Nat) (a : Nat → Nat) (R : Nat → Int32) (sz ch : Nat) (op sl mk : Nat → Nat) (pt : Nat → Int32) (pp : Nat → Nat) (mt : Nat → Int32) (sp : Nat → Nat) (me : Nat) (t : Nat) (L : List Nat) (vs vp vo : Int32) (ht : t < 3) (hL : L.length ≤ 700) (hR : rowOK R t L) (hT : ∀ x ∈ L, x < TOP) (hsz : sz = L.length) : Ct l D kA 2 y_Mod_placeOf b_Mod_placeOf 6 (some .int) [.ref h, .int (nI t), .int vs, .int vp, .int vo] (mw kA h a R sz ch op sl mk pt pp mt sp me) (pI fun x w => ∃ j, x = nI j ∧ j ≤ L.length ∧ (∀ i, i < j → lg L i < (ec t vs vp vo)) ∧ (j < L.length → (ec t vs vp vo) ≤ lg L j) ∧ w = (mw kA h a R sz ch op sl mk pt pp mt sp me)) := by
  refine ct_of (by decide) (Nat.le_of_ble_eq_true rfl) rfl ?_
  intro pg en s0 m0 args below meth cod C
  subst hsz
  refine v_iconst C d_Mod_placeOf_0 (nI 0) (by decide) ?_
  refine v_istore C d_Mod_placeOf_1 ⟨Nat.le_of_ble_eq_true rfl, Nat.le_of_ble_eq_true rfl⟩ [.ref h, .int (nI t), .int vs, .int vp, .int vo, .int (nI 0)] rfl ?_
  have lp : ∀ (t9 : Nat) (j : Nat), L.length - j < t9 → j ≤ L.length → (∀ i, i < j → lg L i < (ec t vs vp vo)) → V pg l en (rmk 2) s0 m0 args below meth cod D (qA (mw kA h a R L.length ch op sl mk pt pp mt sp me)) 6 0 0 (MQ below (QC D (mw kA h a R L.length ch op sl mk pt pp mt sp me) (pI fun x w => ∃ j, x = nI j ∧ j ≤ L.length ∧ (∀ i, i < j → lg L i < (ec t vs vp vo)) ∧ (j < L.length → (ec t vs vp vo) ≤ lg L j) ∧ w = (mw kA h a R L.length ch op sl mk pt pp mt sp me))) args s0 0 0 (qA (mw kA h a R L.length ch op sl mk pt pp mt sp me))) 3 [.ref h, .int (nI t), .int vs, .int vp, .int vo, .int (nI j)] [] (mw kA h a R L.length ch op sl mk pt pp mt sp me) := by
    intro t9
    induction t9 with
    | zero => intro j hj; omega
    | succ t9 ih =>
      intro j hj1 hj2 hj
      refine v_iload C d_Mod_placeOf_3 rfl ?_
      refine v_aload_n C d_Mod_placeOf_5 rfl ?_
      refine v_getf C i_Mod (ci := 3) rfl 1 (by decide) (List.mem_of_getElem? (i := 0) rfl) fl_Mod_35 d_Mod_placeOf_6 (.int (nI L.length)) rfl ?_
      refine v_icmp_ge C d_Mod_placeOf_9 32 (by decide) (by omega) (by omega) (fun cj => ?_) (fun cj => ?_)
      · refine v_iload C d_Mod_placeOf_32 rfl ?_
        exact v_iret C rfl d_Mod_placeOf_34 (⟨_, rfl, j, rfl, by omega, hj, fun q => by omega, rfl⟩)
      · refine v_aload_n C d_Mod_placeOf_12 rfl ?_
        refine v_iload_n C d_Mod_placeOf_13 rfl ?_
        refine v_iload C d_Mod_placeOf_14 rfl ?_
        refine v_iload_n C d_Mod_placeOf_16 rfl ?_
        refine v_iload_n C d_Mod_placeOf_17 rfl ?_
        refine v_iload C d_Mod_placeOf_18 rfl ?_
        refine v_cI C (As := [.int (nI t), .int (nI j), .int vs, .int vp, .int vo]) (st := []) (c_Mod_compare l D kA h a R L.length ch op sl mk pt pp mt sp me t j L vs vp vo ht hL hR hT cj) cv_Mod_compare ml_Mod_47 d_Mod_placeOf_20 ⟨by omega, by decide⟩ mw_rcv ⟨rfl, rfl⟩ rfl ?_
        rintro _ _ ⟨rfl, rfl⟩
        refine v_if_geR C d_Mod_placeOf_23 32 (by decide) (fun cc => ?_) (fun cc => ?_)
        · refine v_iload C d_Mod_placeOf_32 rfl ?_
          exact v_iret C rfl d_Mod_placeOf_34 (⟨_, rfl, j, rfl, by omega, hj, fun _ => Nat.le_of_not_lt fun z => Int32.not_lt.mpr cc (cmpI_lt.mpr z), rfl⟩)
        · refine v_iinc C d_Mod_placeOf_26 rfl ⟨Nat.le_of_ble_eq_true rfl, Nat.le_of_ble_eq_true rfl⟩ (nI (j + 1)) (inc1 _) [.ref h, .int (nI t), .int vs, .int vp, .int vo, .int (nI (j + 1))] rfl ?_
          refine v_goto C d_Mod_placeOf_29 3 (by decide) ?_
          exact ih (j + 1) (by omega) (by omega) (lt_s hj (cmpI_lt.mp (Int32.not_le.mp cc)))
  exact lp (L.length + 1) 0 (by omega) (by omega) lt_0

set_option maxHeartbeats 800000 in
set_option maxRecDepth 20000 in
theorem c_Mod_holds (l : Launch) (D : va_G) (kA : Nat → ClassId) (h : Nat) (a : Nat → Nat) (R : Nat → Int32) (sz ch : Nat) (op sl mk : Nat → Nat) (pt : Nat → Int32) (pp : Nat → Nat) (mt : Nat → Int32) (sp : Nat → Nat) (me : Nat) (L : List Nat) (vs vp vo : Int32) (hL : L.length ≤ 700) (hR : rowOK R 0 L) (hT : ∀ x ∈ L, x < TOP) (hs : Srt L) (hsz : sz = L.length) : Ct l D kA 3 y_Mod_holds b_Mod_holds 5 (some .boolean) [.ref h, .int vs, .int vp, .int vo] (mw kA h a R sz ch op sl mk pt pp mt sp me) (pI fun x w => x = (if ec 0 vs vp vo ∈ L then 1 else 0) ∧ w = (mw kA h a R sz ch op sl mk pt pp mt sp me)) := by
  refine ct_of (by decide) (Nat.le_of_ble_eq_true rfl) rfl ?_
  intro pg en s0 m0 args below meth cod C
  refine v_aload_n C d_Mod_holds_0 rfl ?_
  refine v_iconst C d_Mod_holds_1 (nI 0) (by decide) ?_
  refine v_iload_n C d_Mod_holds_2 rfl ?_
  refine v_iload_n C d_Mod_holds_3 rfl ?_
  refine v_iload_n C d_Mod_holds_4 rfl ?_
  refine v_cI C (As := [.int (nI 0), .int vs, .int vp, .int vo]) (st := []) (c_Mod_placeOf l D kA h a R sz ch op sl mk pt pp mt sp me 0 L vs vp vo (by decide) hL hR hT hsz) cv_Mod_placeOf ml_Mod_51 d_Mod_holds_5 ⟨by omega, by decide⟩ mw_rcv ⟨rfl, rfl⟩ rfl ?_
  rintro _ _ ⟨j, rfl, hj, hj1, hj2, rfl⟩
  have hm := mem_at hs hj hj1 hj2
  refine v_istore C d_Mod_holds_8 ⟨Nat.le_of_ble_eq_true rfl, Nat.le_of_ble_eq_true rfl⟩ [.ref h, .int vs, .int vp, .int vo, .int (nI j)] rfl ?_
  refine v_iload C d_Mod_holds_10 rfl ?_
  refine v_aload_n C d_Mod_holds_12 rfl ?_
  refine v_getf C i_Mod (ci := 3) rfl 1 (by decide) (List.mem_of_getElem? (i := 0) rfl) fl_Mod_35 d_Mod_holds_13 (.int (nI sz)) rfl ?_
  refine v_icmp_ge C d_Mod_holds_16 36 (by decide) (by omega) (by omega) (fun cj => ?_) (fun cj => ?_)
  · refine v_iconst C d_Mod_holds_36 (nI 0) (by decide) ?_
    exact v_zret C rfl (rfl) d_Mod_holds_37 (⟨_, rfl, by rw [if_neg (fun q => by have := (hm.mp q).1; omega)]; rfl, rfl⟩)
  · refine v_aload_n C d_Mod_holds_19 rfl ?_
    refine v_iconst C d_Mod_holds_20 (nI 0) (by decide) ?_
    refine v_iload C d_Mod_holds_21 rfl ?_
    refine v_iload_n C d_Mod_holds_23 rfl ?_
    refine v_iload_n C d_Mod_holds_24 rfl ?_
    refine v_iload_n C d_Mod_holds_25 rfl ?_
    refine v_cI C (As := [.int (nI 0), .int (nI j), .int vs, .int vp, .int vo]) (st := []) (c_Mod_compare l D kA h a R sz ch op sl mk pt pp mt sp me 0 j L vs vp vo (by decide) hL hR hT (by omega)) cv_Mod_compare ml_Mod_47 d_Mod_holds_26 ⟨by omega, by decide⟩ mw_rcv ⟨rfl, rfl⟩ rfl ?_
    rintro _ _ ⟨rfl, rfl⟩
    refine v_if_neR C d_Mod_holds_29 36 (by decide) (fun cc => ?_) (fun cc => ?_)
    · refine v_iconst C d_Mod_holds_36 (nI 0) (by decide) ?_
      exact v_zret C rfl (rfl) d_Mod_holds_37 (⟨_, rfl, by rw [if_neg (fun q => cc (cmpI_eq.mpr (hm.mp q).2))]; rfl, rfl⟩)
    · refine v_iconst C d_Mod_holds_32 (nI 1) (by decide) ?_
      refine v_goto C d_Mod_holds_33 37 (by decide) ?_
      exact v_zret C rfl (rfl) d_Mod_holds_37 (⟨_, rfl, by rw [if_pos (hm.mpr ⟨by omega, cmpI_eq.mp cc⟩)]; rfl, rfl⟩)
