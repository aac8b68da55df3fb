set_option maxHeartbeats 800000 in
set_option maxRecDepth 20000 in
theorem c_Mod_at (l : Launch) (D : va_G) (kA : Nat → ClassId) (h : Nat) (a : Nat → Nat) (R : Nat → Int32) (sz ch : Nat) (op sl mk : Nat → Nat) (pt : Nat → Int32) (pp : Nat → Nat) (mt : Nat → Int32) (sp : Nat → Nat) (me : Nat) (LL : Nat → List Nat) (vt vk vi : Int32) (hLI : LI LL) (hR : ∀ t, t < 3 → rowOK R t (LL t)) (hsz : sz = (LL 0).length) (hL : (LL 0).length ≤ 600) : Ct l D kA 1 y_Mod_at b_Mod_at 4 (some .int) [.ref h, .int vt, .int vk, .int vi] (mw kA h a R sz ch op sl mk pt pp mt sp me) (pI fun x w => ((∃ t1 k1 i1, t1 < 3 ∧ k1 < sz ∧ i1 < 3 ∧ vt = nI t1 ∧ vk = nI k1 ∧ vi = nI i1 ∧ x = dc (lg (LL t1) k1) (po t1 i1)) ∨ ((∀ t1 k1 i1, t1 < 3 → k1 < sz → i1 < 3 → vt = nI t1 → vk = nI k1 → vi = nI i1 → False) ∧ x = 0)) ∧ w = (mw kA h a R sz ch op sl mk pt pp mt sp me)) := by
  refine ct_of (by decide) (Nat.le_of_ble_eq_true rfl) rfl ?_
  intro pg en s0 m0 args below meth cod C
  have t30 : (∀ t1 k1 i1, t1 < 3 → k1 < sz → i1 < 3 → vt = nI t1 → vk = nI k1 → vi = nI i1 → False) → V pg l en (rmk 1) s0 m0 args below meth cod D (qA (mw kA h a R sz ch op sl mk pt pp mt sp me)) 4 0 0 (MQ below (QC D (mw kA h a R sz ch op sl mk pt pp mt sp me) (pI fun x w => ((∃ t1 k1 i1, t1 < 3 ∧ k1 < sz ∧ i1 < 3 ∧ vt = nI t1 ∧ vk = nI k1 ∧ vi = nI i1 ∧ x = dc (lg (LL t1) k1) (po t1 i1)) ∨ ((∀ t1 k1 i1, t1 < 3 → k1 < sz → i1 < 3 → vt = nI t1 → vk = nI k1 → vi = nI i1 → False) ∧ x = 0)) ∧ w = (mw kA h a R sz ch op sl mk pt pp mt sp me))) args s0 0 0 (qA (mw kA h a R sz ch op sl mk pt pp mt sp me))) 30 [.ref h, .int vt, .int vk, .int vi] [] (mw kA h a R sz ch op sl mk pt pp mt sp me) := by
    intro hn
    refine v_iconst C d_Mod_at_30 (nI 0) (by decide) ?_
    refine v_goto C d_Mod_at_31 41 (by decide) ?_
    exact v_iret C rfl d_Mod_at_41 (⟨_, rfl, Or.inr ⟨hn, rfl⟩, rfl⟩)
  rcases pk_ix vt (n := 3) (by omega) with hv | hv | ⟨t9, ht9, rfl⟩
  · refine v_iload_n C d_Mod_at_0 rfl ?_
    refine v_if_ltR C d_Mod_at_1 30 (by decide) (fun c0 => ?_) (fun c0 => False.elim (by exact c0 hv))
    exact t30 (fun t1 k1 i1 z1 z2 z3 z4 z5 z6 => nI_ne_neg hv (by omega) z4)
  · refine v_iload_n C d_Mod_at_0 rfl ?_
    refine v_if_ltR C d_Mod_at_1 30 (by decide) (fun c0 => False.elim (by exact nI_ge_n0 hv (by decide) c0)) (fun c0 => ?_)
    refine v_iload_n C d_Mod_at_4 rfl ?_
    refine v_iconst C d_Mod_at_5 (nI 2) (by decide) ?_
    refine v_icmp_gtR C d_Mod_at_6 30 (by decide) (fun c1 => ?_) (fun c1 => False.elim (by exact c1 (Int32.lt_of_lt_of_le (show nI 2 < nI 3 by decide) hv)))
    exact t30 (fun t1 k1 i1 z1 z2 z3 z4 z5 z6 => nI_ge_ne hv z1 (by omega) z4)
  · refine v_iload_n C d_Mod_at_0 rfl ?_
    refine v_if_ltR C d_Mod_at_1 30 (by decide) (fun c0 => False.elim (by exact nI_pos (by omega) c0)) (fun c0 => ?_)
    refine v_iload_n C d_Mod_at_4 rfl ?_
    refine v_iconst C d_Mod_at_5 (nI 2) (by decide) ?_
    refine v_icmp_gt C d_Mod_at_6 30 (by decide) (by omega) (by omega) (fun c1 => False.elim (by omega)) (fun c1 => ?_)
    refine v_iload_n C d_Mod_at_9 rfl ?_
    rcases pk_ix vk (n := sz) (by omega) with hv | hv | ⟨k9, hk9, rfl⟩
    · refine v_if_ltR C d_Mod_at_10 30 (by decide) (fun c2 => ?_) (fun c2 => False.elim (by exact c2 hv))
      exact t30 (fun t1 k1 i1 z1 z2 z3 z4 z5 z6 => nI_ne_neg hv (by omega) z5)
    · refine v_if_ltR C d_Mod_at_10 30 (by decide) (fun c2 => False.elim (by exact nI_ge_n0 hv (by omega) c2)) (fun c2 => ?_)
      refine v_iload_n C d_Mod_at_13 rfl ?_
      refine v_aload_n C d_Mod_at_14 rfl ?_
      refine v_getf C i_Mod (ci := 3) rfl 1 (by decide) (List.mem_of_getElem? (i := 0) rfl) fl_Mod_35 d_Mod_at_15 (.int (nI sz)) rfl ?_
      refine v_icmp_geR C d_Mod_at_18 30 (by decide) (fun c3 => ?_) (fun c3 => False.elim (by exact c3 hv))
      exact t30 (fun t1 k1 i1 z1 z2 z3 z4 z5 z6 => nI_ge_ne hv z2 (by omega) z5)
    · refine v_if_ltR C d_Mod_at_10 30 (by decide) (fun c2 => False.elim (by exact nI_pos (by omega) c2)) (fun c2 => ?_)
      refine v_iload_n C d_Mod_at_13 rfl ?_
      refine v_aload_n C d_Mod_at_14 rfl ?_
      refine v_getf C i_Mod (ci := 3) rfl 1 (by decide) (List.mem_of_getElem? (i := 0) rfl) fl_Mod_35 d_Mod_at_15 (.int (nI sz)) rfl ?_
      refine v_icmp_ge C d_Mod_at_18 30 (by decide) (by omega) (by omega) (fun c3 => False.elim (by omega)) (fun c3 => ?_)
      refine v_iload_n C d_Mod_at_21 rfl ?_
      rcases pk_ix vi (n := 3) (by omega) with hv | hv | ⟨i9, hi9, rfl⟩
      · refine v_if_ltR C d_Mod_at_22 30 (by decide) (fun c4 => ?_) (fun c4 => False.elim (by exact c4 hv))
        exact t30 (fun t1 k1 i1 z1 z2 z3 z4 z5 z6 => nI_ne_neg hv (by omega) z6)
      · refine v_if_ltR C d_Mod_at_22 30 (by decide) (fun c4 => False.elim (by exact nI_ge_n0 hv (by decide) c4)) (fun c4 => ?_)
        refine v_iload_n C d_Mod_at_25 rfl ?_
        refine v_iconst C d_Mod_at_26 (nI 2) (by decide) ?_
        refine v_icmp_leR C d_Mod_at_27 34 (by decide) (fun c5 => False.elim (by exact Int32.not_lt.mpr c5 (Int32.lt_of_lt_of_le (show nI 2 < nI 3 by decide) hv))) (fun c5 => ?_)
        exact t30 (fun t1 k1 i1 z1 z2 z3 z4 z5 z6 => nI_ge_ne hv z3 (by omega) z6)
      · refine v_if_ltR C d_Mod_at_22 30 (by decide) (fun c4 => False.elim (by exact nI_pos (by omega) c4)) (fun c4 => ?_)
        refine v_iload_n C d_Mod_at_25 rfl ?_
        refine v_iconst C d_Mod_at_26 (nI 2) (by decide) ?_
        refine v_icmp_le C d_Mod_at_27 34 (by decide) (by omega) (by omega) (fun c5 => ?_) (fun c5 => False.elim (by omega))
        refine v_aload_n C d_Mod_at_34 rfl ?_
        refine v_iload_n C d_Mod_at_35 rfl ?_
        refine v_iload_n C d_Mod_at_36 rfl ?_
        refine v_iload_n C d_Mod_at_37 rfl ?_
        have hlt := (hLI.1 _ ht9).2.2
        refine v_cI C (As := [.int (nI t9), .int (nI k9), .int (nI i9)]) (st := []) (c_Mod_cell l D kA h a R sz ch op sl mk pt pp mt sp me t9 k9 i9 (LL t9) ht9 (by omega) (hR _ ht9) (by omega) hi9) cv_Mod_cell ml_Mod_43 d_Mod_at_38 ⟨by omega, by decide⟩ mw_rcv ⟨rfl, rfl⟩ rfl ?_
        rintro _ _ ⟨rfl, rfl⟩
        exact v_iret C rfl d_Mod_at_41 (⟨_, rfl, Or.inl ⟨t9, k9, i9, ht9, hk9, hi9, rfl, rfl, rfl, rfl⟩, rfl⟩)

set_option maxHeartbeats 800000 in
set_option maxRecDepth 20000 in
theorem c_Mod_before (l : Launch) (D : va_G) (kA : Nat → ClassId) (h : Nat) (a : Nat → Nat) (R : Nat → Int32) (sz ch : Nat) (op sl mk : Nat → Nat) (pt : Nat → Int32) (pp : Nat → Nat) (mt : Nat → Int32) (sp : Nat → Nat) (me : Nat) (LL : Nat → List Nat) (v : Int32) (vs vp vo : Int32) (hLI : LI LL) (hR : ∀ t, t < 3 → rowOK R t (LL t)) (hsz : sz = (LL 0).length) (hL : (LL 0).length ≤ 600) : Ct l D kA 3 y_Mod_before b_Mod_before 5 (some .int) [.ref h, .int v, .int vs, .int vp, .int vo] (mw kA h a R sz ch op sl mk pt pp mt sp me) (pI fun x w => ((∃ t1, t1 < 3 ∧ v = nI t1 ∧ x = nI (blw (LL t1) (ec t1 vs vp vo))) ∨ ((∀ t2, t2 < 3 → v ≠ nI t2) ∧ x = -1)) ∧ w = (mw kA h a R sz ch op sl mk pt pp mt sp me)) := by
  refine ct_of (by decide) (Nat.le_of_ble_eq_true rfl) rfl ?_
  intro pg en s0 m0 args below meth cod C
  rcases pk_ix v (n := 3) (by omega) with hv | hv | ⟨t9, ht9, rfl⟩
  · refine v_iload_n C d_Mod_before_0 rfl ?_
    refine v_if_ltR C d_Mod_before_1 9 (by decide) (fun c0 => ?_) (fun c0 => False.elim (by exact c0 hv))
    refine v_iconst C d_Mod_before_9 (-1) (by decide) ?_
    refine v_goto C d_Mod_before_10 22 (by decide) ?_
    exact v_iret C rfl d_Mod_before_22 (⟨_, rfl, Or.inr ⟨fun t2 z => nI_ne_neg hv (by omega), rfl⟩, rfl⟩)
  · refine v_iload_n C d_Mod_before_0 rfl ?_
    refine v_if_ltR C d_Mod_before_1 9 (by decide) (fun c0 => False.elim (by exact nI_ge_n0 hv (by decide) c0)) (fun c0 => ?_)
    refine v_iload_n C d_Mod_before_4 rfl ?_
    refine v_iconst C d_Mod_before_5 (nI 2) (by decide) ?_
    refine v_icmp_leR C d_Mod_before_6 13 (by decide) (fun c1 => False.elim (by exact Int32.not_lt.mpr c1 (Int32.lt_of_lt_of_le (show nI 2 < nI 3 by decide) hv))) (fun c1 => ?_)
    refine v_iconst C d_Mod_before_9 (-1) (by decide) ?_
    refine v_goto C d_Mod_before_10 22 (by decide) ?_
    exact v_iret C rfl d_Mod_before_22 (⟨_, rfl, Or.inr ⟨fun t2 z => nI_ge_ne hv z (by decide), rfl⟩, rfl⟩)
  · refine v_iload_n C d_Mod_before_0 rfl ?_
    refine v_if_ltR C d_Mod_before_1 9 (by decide) (fun c0 => False.elim (by exact nI_pos (by omega) c0)) (fun c0 => ?_)
    refine v_iload_n C d_Mod_before_4 rfl ?_
    refine v_iconst C d_Mod_before_5 (nI 2) (by decide) ?_
    refine v_icmp_le C d_Mod_before_6 13 (by decide) (by omega) (by omega) (fun c1 => ?_) (fun c1 => False.elim (by omega))
    refine v_aload_n C d_Mod_before_13 rfl ?_
    refine v_iload_n C d_Mod_before_14 rfl ?_
    refine v_iload_n C d_Mod_before_15 rfl ?_
    refine v_iload_n C d_Mod_before_16 rfl ?_
    refine v_iload C d_Mod_before_17 rfl ?_
    have hlt := hLI.1 _ ht9
    refine v_cI C (As := [.int (nI t9), .int vs, .int vp, .int vo]) (st := []) (c_Mod_placeOf l D kA h a R sz ch op sl mk pt pp mt sp me t9 (LL t9) vs vp vo ht9 (by omega) (hR _ ht9) hlt.2.1 (by omega)) cv_Mod_placeOf ml_Mod_51 d_Mod_before_19 ⟨by omega, by decide⟩ mw_rcv ⟨rfl, rfl⟩ rfl ?_
    rintro _ _ ⟨j, rfl, hj, hj1, hj2, rfl⟩
    exact v_iret C rfl d_Mod_before_22 (⟨_, rfl, Or.inl ⟨t9, ht9, rfl, by rw [(blw_at hlt.1 hj hj1 hj2).1]⟩, rfl⟩)

/-- how many first parts are different, up to k -/
def dfc (L : List Nat) : Nat → Nat
  | 0 => 0
  | k + 1 => dfc L k + (if k = 0 ∨ dc (lg L k) 0 ≠ dc (lg L (k - 1)) 0 then 1 else 0)
theorem po_tt {t : Nat} (ht : t < 3) : po t t = 0 := by unfold po; omega

set_option maxHeartbeats 800000 in
set_option maxRecDepth 20000 in
theorem c_Mod_different (l : Launch) (D : va_G) (kA : Nat → ClassId) (h : Nat) (a : Nat → Nat) (R : Nat → Int32) (sz ch : Nat) (op sl mk : Nat → Nat) (pt : Nat → Int32) (pp : Nat → Nat) (mt : Nat → Int32) (sp : Nat → Nat) (me : Nat) (LL : Nat → List Nat) (v : Int32) (hLI : LI LL) (hR : ∀ t, t < 3 → rowOK R t (LL t)) (hsz : sz = (LL 0).length) (hL : (LL 0).length ≤ 600) : Ct l D kA 1 y_Mod_different b_Mod_different 4 (some .int) [.ref h, .int v] (mw kA h a R sz ch op sl mk pt pp mt sp me) (pI fun x w => ((∃ t1, t1 < 3 ∧ v = nI t1 ∧ x = nI (dfc (LL t1) (LL t1).length)) ∨ ((∀ t2, t2 < 3 → v ≠ nI t2) ∧ x = -1)) ∧ w = (mw kA h a R sz ch op sl mk pt pp mt sp me)) := by
  refine ct_of (by decide) (Nat.le_of_ble_eq_true rfl) rfl ?_
  intro pg en s0 m0 args below meth cod C
  rcases pk_ix v (n := 3) (by omega) with hv | hv | ⟨t9, ht9, rfl⟩
  · refine v_iload_n C d_Mod_different_0 rfl ?_
    refine v_if_ltR C d_Mod_different_1 9 (by decide) (fun c0 => ?_) (fun c0 => False.elim (by exact c0 hv))
    refine v_iconst C d_Mod_different_9 (-1) (by decide) ?_
    exact v_iret C rfl d_Mod_different_10 (⟨_, rfl, Or.inr ⟨fun t2 z => nI_ne_neg hv (by omega), rfl⟩, rfl⟩)
  · refine v_iload_n C d_Mod_different_0 rfl ?_
    refine v_if_ltR C d_Mod_different_1 9 (by decide) (fun c0 => False.elim (by exact nI_ge_n0 hv (by decide) c0)) (fun c0 => ?_)
    refine v_iload_n C d_Mod_different_4 rfl ?_
    refine v_iconst C d_Mod_different_5 (nI 2) (by decide) ?_
    refine v_icmp_leR C d_Mod_different_6 11 (by decide) (fun c1 => False.elim (by exact Int32.not_lt.mpr c1 (Int32.lt_of_lt_of_le (show nI 2 < nI 3 by decide) hv))) (fun c1 => ?_)
    refine v_iconst C d_Mod_different_9 (-1) (by decide) ?_
    exact v_iret C rfl d_Mod_different_10 (⟨_, rfl, Or.inr ⟨fun t2 z => nI_ge_ne hv z (by decide), rfl⟩, rfl⟩)
  · refine v_iload_n C d_Mod_different_0 rfl ?_
    refine v_if_ltR C d_Mod_different_1 9 (by decide) (fun c0 => False.elim (by exact nI_pos (by omega) c0)) (fun c0 => ?_)
    refine v_iload_n C d_Mod_different_4 rfl ?_
    refine v_iconst C d_Mod_different_5 (nI 2) (by decide) ?_
    refine v_icmp_le C d_Mod_different_6 11 (by decide) (by omega) (by omega) (fun c1 => ?_) (fun c1 => False.elim (by omega))
    have hlt := (hLI.1 _ ht9).2.2
    have hp0 := po_tt ht9
    refine v_iconst C d_Mod_different_11 (nI 0) (by decide) ?_
    refine v_istore_n C d_Mod_different_12 ⟨Nat.le_of_ble_eq_true rfl, Nat.le_of_ble_eq_true rfl⟩ [.ref h, .int (nI t9), .int (nI 0)] rfl ?_
    refine v_iconst C d_Mod_different_13 (nI 0) (by decide) ?_
    refine v_istore_n C d_Mod_different_14 ⟨Nat.le_of_ble_eq_true rfl, Nat.le_of_ble_eq_true rfl⟩ [.ref h, .int (nI t9), .int (nI 0), .int (nI 0)] rfl ?_
    have lp : ∀ (t8 : Nat) (k : Nat), (LL t9).length - k < t8 → k ≤ (LL t9).length → V pg l en (rmk 1) s0 m0 args below meth cod D (qA (mw kA h a R sz ch op sl mk pt pp mt sp me)) 4 0 0 (MQ below (QC D (mw kA h a R sz ch op sl mk pt pp mt sp me) (pI fun x w => ((∃ t1, t1 < 3 ∧ (nI t9) = nI t1 ∧ x = nI (dfc (LL t1) (LL t1).length)) ∨ ((∀ t2, t2 < 3 → (nI t9) ≠ nI t2) ∧ x = -1)) ∧ w = (mw kA h a R sz ch op sl mk pt pp mt sp me))) args s0 0 0 (qA (mw kA h a R sz ch op sl mk pt pp mt sp me))) 15 [.ref h, .int (nI t9), .int (nI (dfc (LL t9) k)), .int (nI k)] [] (mw kA h a R sz ch op sl mk pt pp mt sp me) := by
      intro t8
      induction t8 with
      | zero => intro k hk; omega
      | succ t8 ih =>
        intro k hk hk2
        refine v_iload_n C d_Mod_different_15 rfl ?_
        refine v_aload_n C d_Mod_different_16 rfl ?_
        refine v_getf C i_Mod (ci := 3) rfl 1 (by decide) (List.mem_of_getElem? (i := 0) rfl) fl_Mod_35 d_Mod_different_17 (.int (nI sz)) rfl ?_
        refine v_icmp_ge C d_Mod_different_20 60 (by decide) (by omega) (by omega) (fun ck => ?_) (fun ck => ?_)
        · obtain rfl : k = (LL t9).length := by omega
          refine v_iload_n C d_Mod_different_60 rfl ?_
          exact v_iret C rfl d_Mod_different_61 (⟨_, rfl, Or.inl ⟨t9, ht9, rfl, rfl⟩, rfl⟩)
        · refine v_iload_n C d_Mod_different_23 rfl ?_
          refine v_iload_n C d_Mod_different_24 rfl ?_
          refine v_if_eq C d_Mod_different_25 47 (by decide) (by omega) (fun cz => ?_) (fun cz => ?_)
          · refine v_iconst C d_Mod_different_47 (nI 1) (by decide) ?_
            refine v_goto C d_Mod_different_48 52 (by decide) ?_
            refine v_iadd C d_Mod_different_52 ?_
            refine v_top (y := nI (dfc (LL t9) (k + 1))) (show nI ((dfc (LL t9) k) + 1) = nI (dfc (LL t9) (k + 1)) from by rw [dfc, if_pos (Or.inl cz)]) ?_
            refine v_istore_n C d_Mod_different_53 ⟨Nat.le_of_ble_eq_true rfl, Nat.le_of_ble_eq_true rfl⟩ [.ref h, .int (nI t9), .int (nI (dfc (LL t9) (k + 1))), .int (nI k)] rfl ?_
            refine v_iinc C d_Mod_different_54 rfl ⟨Nat.le_of_ble_eq_true rfl, Nat.le_of_ble_eq_true rfl⟩ (nI (k + 1)) (inc1 _) [.ref h, .int (nI t9), .int (nI (dfc (LL t9) (k + 1))), .int (nI (k + 1))] rfl ?_
            refine v_goto C d_Mod_different_57 15 (by decide) ?_
            exact ih (k + 1) (by omega) (by omega)
          · refine v_aload_n C d_Mod_different_28 rfl ?_
            refine v_iload_n C d_Mod_different_29 rfl ?_
            refine v_iload_n C d_Mod_different_30 rfl ?_
            refine v_iload_n C d_Mod_different_31 rfl ?_
            refine v_cI C (As := [.int (nI t9), .int (nI k), .int (nI t9)]) (st := [.int (nI (dfc (LL t9) k))]) (c_Mod_cell l D kA h a R sz ch op sl mk pt pp mt sp me t9 k t9 (LL t9) ht9 (by omega) (hR _ ht9) (by omega) ht9) cv_Mod_cell ml_Mod_43 d_Mod_different_32 ⟨by omega, by decide⟩ mw_rcv ⟨rfl, rfl⟩ rfl ?_
            rintro _ _ ⟨rfl, rfl⟩
            refine v_aload_n C d_Mod_different_35 rfl ?_
            refine v_iload_n C d_Mod_different_36 rfl ?_
            refine v_iload_n C d_Mod_different_37 rfl ?_
            refine v_iconst C d_Mod_different_38 (nI 1) (by decide) ?_
            refine v_isub C d_Mod_different_39 (by omega) ?_
            refine v_iload_n C d_Mod_different_40 rfl ?_
            refine v_cI C (As := [.int (nI t9), .int (nI (k - 1)), .int (nI t9)]) (st := [.int (dc (lg (LL t9) k) (po t9 t9)), .int (nI (dfc (LL t9) k))]) (c_Mod_cell l D kA h a R sz ch op sl mk pt pp mt sp me t9 (k - 1) t9 (LL t9) ht9 (by omega) (hR _ ht9) (by omega) ht9) cv_Mod_cell ml_Mod_43 d_Mod_different_41 ⟨by omega, by decide⟩ mw_rcv ⟨rfl, rfl⟩ rfl ?_
            rintro _ _ ⟨rfl, rfl⟩
            refine v_icmp_eqR C d_Mod_different_44 51 (by decide) (fun ce => ?_) (fun ce => ?_)
            · rw [hp0] at ce
              refine v_iconst C d_Mod_different_51 (nI 0) (by decide) ?_
              refine v_iadd C d_Mod_different_52 ?_
              refine v_top (y := nI (dfc (LL t9) (k + 1))) (show nI ((dfc (LL t9) k) + 0) = nI (dfc (LL t9) (k + 1)) from by rw [dfc, if_neg (fun q => q.elim cz (fun y => y ce))]) ?_
              refine v_istore_n C d_Mod_different_53 ⟨Nat.le_of_ble_eq_true rfl, Nat.le_of_ble_eq_true rfl⟩ [.ref h, .int (nI t9), .int (nI (dfc (LL t9) (k + 1))), .int (nI k)] rfl ?_
              refine v_iinc C d_Mod_different_54 rfl ⟨Nat.le_of_ble_eq_true rfl, Nat.le_of_ble_eq_true rfl⟩ (nI (k + 1)) (inc1 _) [.ref h, .int (nI t9), .int (nI (dfc (LL t9) (k + 1))), .int (nI (k + 1))] rfl ?_
              refine v_goto C d_Mod_different_57 15 (by decide) ?_
              exact ih (k + 1) (by omega) (by omega)
            · rw [hp0] at ce
              refine v_iconst C d_Mod_different_47 (nI 1) (by decide) ?_
              refine v_goto C d_Mod_different_48 52 (by decide) ?_
              refine v_iadd C d_Mod_different_52 ?_
              refine v_top (y := nI (dfc (LL t9) (k + 1))) (show nI ((dfc (LL t9) k) + 1) = nI (dfc (LL t9) (k + 1)) from by rw [dfc, if_pos (Or.inr ce)]) ?_
              refine v_istore_n C d_Mod_different_53 ⟨Nat.le_of_ble_eq_true rfl, Nat.le_of_ble_eq_true rfl⟩ [.ref h, .int (nI t9), .int (nI (dfc (LL t9) (k + 1))), .int (nI k)] rfl ?_
              refine v_iinc C d_Mod_different_54 rfl ⟨Nat.le_of_ble_eq_true rfl, Nat.le_of_ble_eq_true rfl⟩ (nI (k + 1)) (inc1 _) [.ref h, .int (nI t9), .int (nI (dfc (LL t9) (k + 1))), .int (nI (k + 1))] rfl ?_
              refine v_goto C d_Mod_different_57 15 (by decide) ?_
              exact ih (k + 1) (by omega) (by omega)
    exact lp ((LL t9).length + 1) 0 (by omega) (by omega)

/-- chains: from the k-th on by q -/
def cq (q : Int32) (x y : Nat) : Bool := decide (dc y 1 = q) && decide (dc x 2 = dc y 0)
def chc (L : List Nat) (p q : Int32) : Nat → Nat
  | 0 => 0
  | k + 1 => chc L p q k + (if dc (lg L k) 1 = p then (L.filter (cq q (lg L k))).length else 0)
theorem po0 : po 0 0 = 0 ∧ po 0 1 = 1 ∧ po 0 2 = 2 := by decide

set_option maxHeartbeats 800000 in
set_option maxRecDepth 20000 in
theorem c_Mod_chains (l : Launch) (D : va_G) (kA : Nat → ClassId) (h : Nat) (a : Nat → Nat) (R : Nat → Int32) (sz ch : Nat) (op sl mk : Nat → Nat) (pt : Nat → Int32) (pp : Nat → Nat) (mt : Nat → Int32) (sp : Nat → Nat) (me : Nat) (LL : Nat → List Nat) (vp vq : Int32) (hLI : LI LL) (hR : ∀ t, t < 3 → rowOK R t (LL t)) (hsz : sz = (LL 0).length) (hL : (LL 0).length ≤ 600) : Ct l D kA 1 y_Mod_chains b_Mod_chains 6 (some .int) [.ref h, .int vp, .int vq] (mw kA h a R sz ch op sl mk pt pp mt sp me) (pI fun x w => x = nI (chc (LL 0) vp vq (LL 0).length) ∧ w = (mw kA h a R sz ch op sl mk pt pp mt sp me)) := by
  refine ct_of (by decide) (Nat.le_of_ble_eq_true rfl) rfl ?_
  intro pg en s0 m0 args below meth cod C
  have hl0 := hLI.1 0 (by decide)
  refine v_iconst C d_Mod_chains_0 (nI 0) (by decide) ?_
  refine v_istore_n C d_Mod_chains_1 ⟨Nat.le_of_ble_eq_true rfl, Nat.le_of_ble_eq_true rfl⟩ [.ref h, .int vp, .int vq, .int (nI 0)] rfl ?_
  refine v_iconst C d_Mod_chains_2 (nI 0) (by decide) ?_
  refine v_istore C d_Mod_chains_3 ⟨Nat.le_of_ble_eq_true rfl, Nat.le_of_ble_eq_true rfl⟩ [.ref h, .int vp, .int vq, .int (nI 0), .int (nI 0)] rfl ?_
  have lp : ∀ (t9 : Nat) (k : Nat), (LL 0).length - k < t9 → k ≤ (LL 0).length → V pg l en (rmk 1) s0 m0 args below meth cod D (qA (mw kA h a R sz ch op sl mk pt pp mt sp me)) 6 0 0 (MQ below (QC D (mw kA h a R sz ch op sl mk pt pp mt sp me) (pI fun x w => x = nI (chc (LL 0) vp vq (LL 0).length) ∧ w = (mw kA h a R sz ch op sl mk pt pp mt sp me))) args s0 0 0 (qA (mw kA h a R sz ch op sl mk pt pp mt sp me))) 5 [.ref h, .int vp, .int vq, .int (nI (chc (LL 0) vp vq k)), .int (nI k)] [] (mw kA h a R sz ch op sl mk pt pp mt sp me) := by
    intro t9
    induction t9 with
    | zero => intro k hk; omega
    | succ t9 ih =>
      intro k hk hk2
      refine v_iload C d_Mod_chains_5 rfl ?_
      refine v_aload_n C d_Mod_chains_7 rfl ?_
      refine v_getf C i_Mod (ci := 3) rfl 1 (by decide) (List.mem_of_getElem? (i := 0) rfl) fl_Mod_35 d_Mod_chains_8 (.int (nI sz)) rfl ?_
      refine v_icmp_ge C d_Mod_chains_11 89 (by decide) (by omega) (by omega) (fun ck => ?_) (fun ck => ?_)
      · obtain rfl : k = (LL 0).length := by omega
        refine v_iload_n C d_Mod_chains_89 rfl ?_
        exact v_iret C rfl d_Mod_chains_90 (⟨_, rfl, rfl, rfl⟩)
      · refine v_iconst C d_Mod_chains_14 (nI 0) (by decide) ?_
        refine v_istore C d_Mod_chains_15 ⟨Nat.le_of_ble_eq_true rfl, Nat.le_of_ble_eq_true rfl⟩ [.ref h, .int vp, .int vq, .int (nI (chc (LL 0) vp vq k)), .int (nI k), .int (nI 0)] rfl ?_
        by_cases hp : dc (lg (LL 0) k) 1 = vp
        · have lp2 : ∀ (t8 : Nat) (j : Nat), (LL 0).length - j < t8 → j ≤ (LL 0).length → V pg l en (rmk 1) s0 m0 args below meth cod D (qA (mw kA h a R sz ch op sl mk pt pp mt sp me)) 6 0 0 (MQ below (QC D (mw kA h a R sz ch op sl mk pt pp mt sp me) (pI fun x w => x = nI (chc (LL 0) vp vq (LL 0).length) ∧ w = (mw kA h a R sz ch op sl mk pt pp mt sp me))) args s0 0 0 (qA (mw kA h a R sz ch op sl mk pt pp mt sp me))) 17 [.ref h, .int vp, .int vq, .int (nI (chc (LL 0) vp vq k + (((LL 0).take j).filter (cq vq (lg (LL 0) k))).length)), .int (nI k), .int (nI j)] [] (mw kA h a R sz ch op sl mk pt pp mt sp me) := by
            intro t8
            induction t8 with
            | zero => intro j hj; omega
            | succ t8 ih2 =>
              intro j hj hj2
              refine v_iload C d_Mod_chains_17 rfl ?_
              refine v_aload_n C d_Mod_chains_19 rfl ?_
              refine v_getf C i_Mod (ci := 3) rfl 1 (by decide) (List.mem_of_getElem? (i := 0) rfl) fl_Mod_35 d_Mod_chains_20 (.int (nI sz)) rfl ?_
              refine v_icmp_ge C d_Mod_chains_23 83 (by decide) (by omega) (by omega) (fun cj => ?_) (fun cj => ?_)
              · obtain rfl : j = (LL 0).length := by omega
                have e9 : chc (LL 0) vp vq k + (((LL 0).take (LL 0).length).filter (cq vq (lg (LL 0) k))).length = chc (LL 0) vp vq (k + 1) := by rw [chc, if_pos hp, List.take_length]
                rw [e9]
                refine v_iinc C d_Mod_chains_83 rfl ⟨Nat.le_of_ble_eq_true rfl, Nat.le_of_ble_eq_true rfl⟩ (nI (k + 1)) (inc1 _) [.ref h, .int vp, .int vq, .int (nI (chc (LL 0) vp vq (k + 1))), .int (nI (k + 1)), .int (nI ((LL 0).length))] rfl ?_
                refine v_goto C d_Mod_chains_86 5 (by decide) ?_
                refine v_less 5 rfl ?_
                exact ih (k + 1) (by omega) (by omega)
              · refine v_aload_n C d_Mod_chains_26 rfl ?_
                refine v_iconst C d_Mod_chains_27 (nI 0) (by decide) ?_
                refine v_iload C d_Mod_chains_28 rfl ?_
                refine v_iconst C d_Mod_chains_30 (nI 1) (by decide) ?_
                refine v_cI C (As := [.int (nI 0), .int (nI k), .int (nI 1)]) (st := []) (c_Mod_cell l D kA h a R sz ch op sl mk pt pp mt sp me 0 k 1 (LL 0) (by decide) (by omega) (hR 0 (by decide)) (by omega) (by decide)) cv_Mod_cell ml_Mod_43 d_Mod_chains_31 ⟨by omega, by decide⟩ mw_rcv ⟨rfl, rfl⟩ rfl ?_
                rintro _ _ ⟨rfl, rfl⟩
                refine v_iload_n C d_Mod_chains_34 rfl ?_
                refine v_icmp_neR C d_Mod_chains_35 83 (by decide) (fun c2 => False.elim (by exact c2 hp)) (fun c2 => ?_)
                refine v_iload_n C d_Mod_chains_38 rfl ?_
                refine v_aload_n C d_Mod_chains_39 rfl ?_
                refine v_iconst C d_Mod_chains_40 (nI 0) (by decide) ?_
                refine v_iload C d_Mod_chains_41 rfl ?_
                refine v_iconst C d_Mod_chains_43 (nI 1) (by decide) ?_
                refine v_cI C (As := [.int (nI 0), .int (nI j), .int (nI 1)]) (st := [.int (nI (chc (LL 0) vp vq k + (((LL 0).take j).filter (cq vq (lg (LL 0) k))).length))]) (c_Mod_cell l D kA h a R sz ch op sl mk pt pp mt sp me 0 j 1 (LL 0) (by decide) (by omega) (hR 0 (by decide)) (by omega) (by decide)) cv_Mod_cell ml_Mod_43 d_Mod_chains_44 ⟨by omega, by decide⟩ mw_rcv ⟨rfl, rfl⟩ rfl ?_
                rintro _ _ ⟨rfl, rfl⟩
                refine v_iload_n C d_Mod_chains_47 rfl ?_
                have hst := fl_step (L := LL 0) (k := j) (q := cq vq (lg (LL 0) k)) (by omega)
                refine v_icmp_neR C d_Mod_chains_48 74 (by decide) (fun c3 => ?_) (fun c3 => ?_)
                · rw [if_neg (show ¬ cq vq (lg (LL 0) k) (lg (LL 0) j) = true from fun z => c3 (by unfold cq at z; simp at z; exact z.1))] at hst
                  refine v_iconst C d_Mod_chains_74 (nI 0) (by decide) ?_
                  refine v_iadd C d_Mod_chains_75 ?_
                  refine v_top (y := nI (chc (LL 0) vp vq k + (((LL 0).take (j + 1)).filter (cq vq (lg (LL 0) k))).length)) (show nI ((chc (LL 0) vp vq k + (((LL 0).take j).filter (cq vq (lg (LL 0) k))).length) + 0) = nI (chc (LL 0) vp vq k + (((LL 0).take (j + 1)).filter (cq vq (lg (LL 0) k))).length) from by rw [hst, Nat.add_assoc]) ?_
                  refine v_istore_n C d_Mod_chains_76 ⟨Nat.le_of_ble_eq_true rfl, Nat.le_of_ble_eq_true rfl⟩ [.ref h, .int vp, .int vq, .int (nI (chc (LL 0) vp vq k + (((LL 0).take (j + 1)).filter (cq vq (lg (LL 0) k))).length)), .int (nI k), .int (nI j)] rfl ?_
                  refine v_iinc C d_Mod_chains_77 rfl ⟨Nat.le_of_ble_eq_true rfl, Nat.le_of_ble_eq_true rfl⟩ (nI (j + 1)) (inc1 _) [.ref h, .int vp, .int vq, .int (nI (chc (LL 0) vp vq k + (((LL 0).take (j + 1)).filter (cq vq (lg (LL 0) k))).length)), .int (nI k), .int (nI (j + 1))] rfl ?_
                  refine v_goto C d_Mod_chains_80 17 (by decide) ?_
                  exact ih2 (j + 1) (by omega) (by omega)
                · refine v_aload_n C d_Mod_chains_51 rfl ?_
                  refine v_iconst C d_Mod_chains_52 (nI 0) (by decide) ?_
                  refine v_iload C d_Mod_chains_53 rfl ?_
                  refine v_iconst C d_Mod_chains_55 (nI 2) (by decide) ?_
                  refine v_cI C (As := [.int (nI 0), .int (nI k), .int (nI 2)]) (st := [.int (nI (chc (LL 0) vp vq k + (((LL 0).take j).filter (cq vq (lg (LL 0) k))).length))]) (c_Mod_cell l D kA h a R sz ch op sl mk pt pp mt sp me 0 k 2 (LL 0) (by decide) (by omega) (hR 0 (by decide)) (by omega) (by decide)) cv_Mod_cell ml_Mod_43 d_Mod_chains_56 ⟨by omega, by decide⟩ mw_rcv ⟨rfl, rfl⟩ rfl ?_
                  rintro _ _ ⟨rfl, rfl⟩
                  refine v_aload_n C d_Mod_chains_59 rfl ?_
                  refine v_iconst C d_Mod_chains_60 (nI 0) (by decide) ?_
                  refine v_iload C d_Mod_chains_61 rfl ?_
                  refine v_iconst C d_Mod_chains_63 (nI 0) (by decide) ?_
                  refine v_cI C (As := [.int (nI 0), .int (nI j), .int (nI 0)]) (st := [.int (dc (lg (LL 0) k) (po 0 2)), .int (nI (chc (LL 0) vp vq k + (((LL 0).take j).filter (cq vq (lg (LL 0) k))).length))]) (c_Mod_cell l D kA h a R sz ch op sl mk pt pp mt sp me 0 j 0 (LL 0) (by decide) (by omega) (hR 0 (by decide)) (by omega) (by decide)) cv_Mod_cell ml_Mod_43 d_Mod_chains_64 ⟨by omega, by decide⟩ mw_rcv ⟨rfl, rfl⟩ rfl ?_
                  rintro _ _ ⟨rfl, rfl⟩
                  refine v_icmp_neR C d_Mod_chains_67 74 (by decide) (fun c4 => ?_) (fun c4 => ?_)
                  · rw [if_neg (show ¬ cq vq (lg (LL 0) k) (lg (LL 0) j) = true from fun z => c4 (by unfold cq at z; simp at z; exact z.2))] at hst
                    refine v_iconst C d_Mod_chains_74 (nI 0) (by decide) ?_
                    refine v_iadd C d_Mod_chains_75 ?_
                    refine v_top (y := nI (chc (LL 0) vp vq k + (((LL 0).take (j + 1)).filter (cq vq (lg (LL 0) k))).length)) (show nI ((chc (LL 0) vp vq k + (((LL 0).take j).filter (cq vq (lg (LL 0) k))).length) + 0) = nI (chc (LL 0) vp vq k + (((LL 0).take (j + 1)).filter (cq vq (lg (LL 0) k))).length) from by rw [hst, Nat.add_assoc]) ?_
                    refine v_istore_n C d_Mod_chains_76 ⟨Nat.le_of_ble_eq_true rfl, Nat.le_of_ble_eq_true rfl⟩ [.ref h, .int vp, .int vq, .int (nI (chc (LL 0) vp vq k + (((LL 0).take (j + 1)).filter (cq vq (lg (LL 0) k))).length)), .int (nI k), .int (nI j)] rfl ?_
                    refine v_iinc C d_Mod_chains_77 rfl ⟨Nat.le_of_ble_eq_true rfl, Nat.le_of_ble_eq_true rfl⟩ (nI (j + 1)) (inc1 _) [.ref h, .int vp, .int vq, .int (nI (chc (LL 0) vp vq k + (((LL 0).take (j + 1)).filter (cq vq (lg (LL 0) k))).length)), .int (nI k), .int (nI (j + 1))] rfl ?_
                    refine v_goto C d_Mod_chains_80 17 (by decide) ?_
                    exact ih2 (j + 1) (by omega) (by omega)
                  · rw [if_pos (show cq vq (lg (LL 0) k) (lg (LL 0) j) = true from by unfold cq; simp only [Bool.and_eq_true, decide_eq_true_eq]; exact ⟨c3, c4⟩)] at hst
                    refine v_iconst C d_Mod_chains_70 (nI 1) (by decide) ?_
                    refine v_goto C d_Mod_chains_71 75 (by decide) ?_
                    refine v_iadd C d_Mod_chains_75 ?_
                    refine v_top (y := nI (chc (LL 0) vp vq k + (((LL 0).take (j + 1)).filter (cq vq (lg (LL 0) k))).length)) (show nI ((chc (LL 0) vp vq k + (((LL 0).take j).filter (cq vq (lg (LL 0) k))).length) + 1) = nI (chc (LL 0) vp vq k + (((LL 0).take (j + 1)).filter (cq vq (lg (LL 0) k))).length) from by rw [hst, Nat.add_assoc]) ?_
                    refine v_istore_n C d_Mod_chains_76 ⟨Nat.le_of_ble_eq_true rfl, Nat.le_of_ble_eq_true rfl⟩ [.ref h, .int vp, .int vq, .int (nI (chc (LL 0) vp vq k + (((LL 0).take (j + 1)).filter (cq vq (lg (LL 0) k))).length)), .int (nI k), .int (nI j)] rfl ?_
                    refine v_iinc C d_Mod_chains_77 rfl ⟨Nat.le_of_ble_eq_true rfl, Nat.le_of_ble_eq_true rfl⟩ (nI (j + 1)) (inc1 _) [.ref h, .int vp, .int vq, .int (nI (chc (LL 0) vp vq k + (((LL 0).take (j + 1)).filter (cq vq (lg (LL 0) k))).length)), .int (nI k), .int (nI (j + 1))] rfl ?_
                    refine v_goto C d_Mod_chains_80 17 (by decide) ?_
                    exact ih2 (j + 1) (by omega) (by omega)
          exact lp2 ((LL 0).length + 1) 0 (by omega) (by omega)
        · have e9 : chc (LL 0) vp vq k = chc (LL 0) vp vq (k + 1) := by rw [chc, if_neg hp]; rfl
          refine v_iload C d_Mod_chains_17 rfl ?_
          refine v_aload_n C d_Mod_chains_19 rfl ?_
          refine v_getf C i_Mod (ci := 3) rfl 1 (by decide) (List.mem_of_getElem? (i := 0) rfl) fl_Mod_35 d_Mod_chains_20 (.int (nI sz)) rfl ?_
          refine v_icmp_ge C d_Mod_chains_23 83 (by decide) (by decide) (by omega) (fun cj => False.elim (by omega)) (fun cj => ?_)
          refine v_aload_n C d_Mod_chains_26 rfl ?_
          refine v_iconst C d_Mod_chains_27 (nI 0) (by decide) ?_
          refine v_iload C d_Mod_chains_28 rfl ?_
          refine v_iconst C d_Mod_chains_30 (nI 1) (by decide) ?_
          refine v_cI C (As := [.int (nI 0), .int (nI k), .int (nI 1)]) (st := []) (c_Mod_cell l D kA h a R sz ch op sl mk pt pp mt sp me 0 k 1 (LL 0) (by decide) (by omega) (hR 0 (by decide)) (by omega) (by decide)) cv_Mod_cell ml_Mod_43 d_Mod_chains_31 ⟨by omega, by decide⟩ mw_rcv ⟨rfl, rfl⟩ rfl ?_
          rintro _ _ ⟨rfl, rfl⟩
          refine v_iload_n C d_Mod_chains_34 rfl ?_
          refine v_icmp_neR C d_Mod_chains_35 83 (by decide) (fun c2 => ?_) (fun c2 => False.elim (by exact hp c2))
          rw [e9]
          refine v_iinc C d_Mod_chains_83 rfl ⟨Nat.le_of_ble_eq_true rfl, Nat.le_of_ble_eq_true rfl⟩ (nI (k + 1)) (inc1 _) [.ref h, .int vp, .int vq, .int (nI (chc (LL 0) vp vq (k + 1))), .int (nI (k + 1)), .int (nI 0)] rfl ?_
          refine v_goto C d_Mod_chains_86 5 (by decide) ?_
          refine v_less 5 rfl ?_
          exact ih (k + 1) (by omega) (by omega)
  exact lp ((LL 0).length + 1) 0 (by omega) (by omega)
