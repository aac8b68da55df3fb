set_option maxHeartbeats 800000 in
set_option maxRecDepth 20000 in
theorem c_Mod_matches (l : Launch) (D : va_G) (kA : Nat → ClassId) (h : Nat) (a : Nat → Nat) (R : Nat → Int32) (sz ch : Nat) (op sl mk : Nat → Nat) (pt : Nat → Int32) (pp : Nat → Nat) (mt : Nat → Int32) (sp : Nat → Nat) (me : Nat) (t k m : Nat) (L : List Nat) (vs vp vo : Int32) (ht : t < 3) (hL : L.length ≤ 700) (hR : rowOK R t L) (hk : k < L.length) (hm : m < 8) : Ct l D kA 1 y_Mod_matches b_Mod_matches 7 (some .boolean) [.ref h, .int (nI t), .int (nI k), .int (nI m), .int vs, .int vp, .int vo] (mw kA h a R sz ch op sl mk pt pp mt sp me) (pI fun x w => x = (if mT t m vs vp vo (lg L k) = true then 1 else 0) ∧ w = (mw kA h a R sz ch op sl mk pt pp mt sp me)) := by
  refine ct_of (by decide) (Nat.le_of_ble_eq_true rfl) rfl ?_
  intro pg en s0 m0 args below meth cod C
  have t58 : ¬ ((m % 2 = 0 ∨ dc (lg L k) (po t 0) = vs) ∧ (m / 2 % 2 = 0 ∨ dc (lg L k) (po t 1) = vp) ∧ (m / 4 % 2 = 0 ∨ dc (lg L k) (po t 2) = vo)) → V pg l en (rmk 1) s0 m0 args below meth cod D (qA (mw kA h a R sz ch op sl mk pt pp mt sp me)) 7 0 0 (MQ below (QC D (mw kA h a R sz ch op sl mk pt pp mt sp me) (pI fun x w => x = (if mT t m vs vp vo (lg L k) = true then 1 else 0) ∧ w = (mw kA h a R sz ch op sl mk pt pp mt sp me))) args s0 0 0 (qA (mw kA h a R sz ch op sl mk pt pp mt sp me))) 58 [.ref h, .int (nI t), .int (nI k), .int (nI m), .int vs, .int vp, .int vo] [] (mw kA h a R sz ch op sl mk pt pp mt sp me) := by
    intro hn
    refine v_iconst C d_Mod_matches_58 (nI 0) (by decide) ?_
    exact v_zret C rfl (by decide) d_Mod_matches_59 (⟨_, rfl, by rw [if_neg (fun q => hn (mT_iff.mp q))]; rfl, rfl⟩)
  have t54 : ((m % 2 = 0 ∨ dc (lg L k) (po t 0) = vs) ∧ (m / 2 % 2 = 0 ∨ dc (lg L k) (po t 1) = vp) ∧ (m / 4 % 2 = 0 ∨ dc (lg L k) (po t 2) = vo)) → V pg l en (rmk 1) s0 m0 args below meth cod D (qA (mw kA h a R sz ch op sl mk pt pp mt sp me)) 7 0 0 (MQ below (QC D (mw kA h a R sz ch op sl mk pt pp mt sp me) (pI fun x w => x = (if mT t m vs vp vo (lg L k) = true then 1 else 0) ∧ w = (mw kA h a R sz ch op sl mk pt pp mt sp me))) args s0 0 0 (qA (mw kA h a R sz ch op sl mk pt pp mt sp me))) 54 [.ref h, .int (nI t), .int (nI k), .int (nI m), .int vs, .int vp, .int vo] [] (mw kA h a R sz ch op sl mk pt pp mt sp me) := by
    intro hy
    refine v_iconst C d_Mod_matches_54 (nI 1) (by decide) ?_
    refine v_goto C d_Mod_matches_55 59 (by decide) ?_
    exact v_zret C rfl (by decide) d_Mod_matches_59 (⟨_, rfl, by rw [if_pos (mT_iff.mpr hy)]; rfl, rfl⟩)
  have t36 : ((m % 2 = 0 ∨ dc (lg L k) (po t 0) = vs) ∧ (m / 2 % 2 = 0 ∨ dc (lg L k) (po t 1) = vp)) → V pg l en (rmk 1) s0 m0 args below meth cod D (qA (mw kA h a R sz ch op sl mk pt pp mt sp me)) 7 0 0 (MQ below (QC D (mw kA h a R sz ch op sl mk pt pp mt sp me) (pI fun x w => x = (if mT t m vs vp vo (lg L k) = true then 1 else 0) ∧ w = (mw kA h a R sz ch op sl mk pt pp mt sp me))) args s0 0 0 (qA (mw kA h a R sz ch op sl mk pt pp mt sp me))) 36 [.ref h, .int (nI t), .int (nI k), .int (nI m), .int vs, .int vp, .int vo] [] (mw kA h a R sz ch op sl mk pt pp mt sp me) := by
    intro hc
    refine v_iload_n C d_Mod_matches_36 rfl ?_
    refine v_iconst C d_Mod_matches_37 (nI 4) (by decide) ?_
    refine v_iandR C d_Mod_matches_38 ?_
    refine v_if_eqR C d_Mod_matches_39 54 (by decide) (fun cb => ?_) (fun cb => ?_)
    · exact t54 ⟨hc.1, hc.2, Or.inl ((and_4 m hm).mp cb)⟩
    · refine v_aload_n C d_Mod_matches_42 rfl ?_
      refine v_iload_n C d_Mod_matches_43 rfl ?_
      refine v_iload_n C d_Mod_matches_44 rfl ?_
      refine v_iconst C d_Mod_matches_45 (nI 2) (by decide) ?_
      refine v_cI C (As := [.int (nI t), .int (nI k), .int (nI 2)]) (st := []) (c_Mod_cell l D kA h a R sz ch op sl mk pt pp mt sp me t k 2 L ht hL hR hk (by decide)) cv_Mod_cell ml_Mod_43 d_Mod_matches_46 ⟨by omega, by decide⟩ mw_rcv ⟨rfl, rfl⟩ rfl ?_
      rintro _ _ ⟨rfl, rfl⟩
      refine v_iload C d_Mod_matches_49 rfl ?_
      refine v_icmp_neR C d_Mod_matches_51 58 (by decide) (fun cc => ?_) (fun cc => ?_)
      · exact t58 (fun q => (q.2.2).elim (fun z => cb ((and_4 m hm).mpr z)) cc)
      · exact t54 ⟨hc.1, hc.2, Or.inr cc⟩
  have t18 : (m % 2 = 0 ∨ dc (lg L k) (po t 0) = vs) → V pg l en (rmk 1) s0 m0 args below meth cod D (qA (mw kA h a R sz ch op sl mk pt pp mt sp me)) 7 0 0 (MQ below (QC D (mw kA h a R sz ch op sl mk pt pp mt sp me) (pI fun x w => x = (if mT t m vs vp vo (lg L k) = true then 1 else 0) ∧ w = (mw kA h a R sz ch op sl mk pt pp mt sp me))) args s0 0 0 (qA (mw kA h a R sz ch op sl mk pt pp mt sp me))) 18 [.ref h, .int (nI t), .int (nI k), .int (nI m), .int vs, .int vp, .int vo] [] (mw kA h a R sz ch op sl mk pt pp mt sp me) := by
    intro hc
    refine v_iload_n C d_Mod_matches_18 rfl ?_
    refine v_iconst C d_Mod_matches_19 (nI 2) (by decide) ?_
    refine v_iandR C d_Mod_matches_20 ?_
    refine v_if_eqR C d_Mod_matches_21 36 (by decide) (fun cb => ?_) (fun cb => ?_)
    · exact t36 ⟨hc, Or.inl ((and_2 m hm).mp cb)⟩
    · refine v_aload_n C d_Mod_matches_24 rfl ?_
      refine v_iload_n C d_Mod_matches_25 rfl ?_
      refine v_iload_n C d_Mod_matches_26 rfl ?_
      refine v_iconst C d_Mod_matches_27 (nI 1) (by decide) ?_
      refine v_cI C (As := [.int (nI t), .int (nI k), .int (nI 1)]) (st := []) (c_Mod_cell l D kA h a R sz ch op sl mk pt pp mt sp me t k 1 L ht hL hR hk (by decide)) cv_Mod_cell ml_Mod_43 d_Mod_matches_28 ⟨by omega, by decide⟩ mw_rcv ⟨rfl, rfl⟩ rfl ?_
      rintro _ _ ⟨rfl, rfl⟩
      refine v_iload C d_Mod_matches_31 rfl ?_
      refine v_icmp_neR C d_Mod_matches_33 58 (by decide) (fun cc => ?_) (fun cc => ?_)
      · exact t58 (fun q => (q.2.1).elim (fun z => cb ((and_2 m hm).mpr z)) cc)
      · exact t36 ⟨hc, Or.inr cc⟩
  refine v_iload_n C d_Mod_matches_0 rfl ?_
  refine v_iconst C d_Mod_matches_1 (nI 1) (by decide) ?_
  refine v_iandR C d_Mod_matches_2 ?_
  refine v_if_eqR C d_Mod_matches_3 18 (by decide) (fun cb => ?_) (fun cb => ?_)
  · exact t18 (Or.inl ((and_1 m hm).mp cb))
  · refine v_aload_n C d_Mod_matches_6 rfl ?_
    refine v_iload_n C d_Mod_matches_7 rfl ?_
    refine v_iload_n C d_Mod_matches_8 rfl ?_
    refine v_iconst C d_Mod_matches_9 (nI 0) (by decide) ?_
    refine v_cI C (As := [.int (nI t), .int (nI k), .int (nI 0)]) (st := []) (c_Mod_cell l D kA h a R sz ch op sl mk pt pp mt sp me t k 0 L ht hL hR hk (by decide)) cv_Mod_cell ml_Mod_43 d_Mod_matches_10 ⟨by omega, by decide⟩ mw_rcv ⟨rfl, rfl⟩ rfl ?_
    rintro _ _ ⟨rfl, rfl⟩
    refine v_iload C d_Mod_matches_13 rfl ?_
    refine v_icmp_neR C d_Mod_matches_15 58 (by decide) (fun cc => ?_) (fun cc => ?_)
    · exact t58 (fun q => (q.1).elim (fun z => cb ((and_1 m hm).mpr z)) cc)
    · exact t18 (Or.inr cc)

theorem nI_ne_neg {v : Int32} {m : Nat} (h : v < 0) (hm : m < 2 ^ 31) : v ≠ nI m := fun e => nI_pos hm (e ▸ h)
theorem nI_ge_ne {v : Int32} {n m : Nat} (h : nI n ≤ v) (hm : m < n) (hn : n < 2 ^ 31) : v ≠ nI m := fun e => by
  rw [e, nI_leI hn (by omega)] at h; omega
theorem nI_ge_n0 {v : Int32} {n : Nat} (h : nI n ≤ v) (hn : n < 2 ^ 31) : ¬ v < 0 := fun q => by
  have := nI_pos' (n := n) hn
  exact Int32.not_lt.mpr (Int32.le_trans this h) q

set_option maxHeartbeats 800000 in
set_option maxRecDepth 20000 in
theorem c_Mod_isMask (l : Launch) (D : va_G) (kA : Nat → ClassId) (v : Int32) : Ct l D kA 0 y_Mod_isMask b_Mod_isMask 1 (some .boolean) [.int v] [] (pI fun x w => ((∃ m, m < 8 ∧ v = nI m ∧ x = 1) ∨ ((∀ m2, m2 < 8 → v ≠ nI m2) ∧ x = 0)) ∧ w = []) := by
  refine ct_of (by decide) (Nat.le_of_ble_eq_true rfl) rfl ?_
  intro pg en s0 m0 args below meth cod C
  rcases pk_ix v (n := 8) (by decide) with hv | hv | ⟨m9, hm9, rfl⟩
  · refine v_iload_n C d_Mod_isMask_0 rfl ?_
    refine v_if_ltR C d_Mod_isMask_1 14 (by decide) (fun c0 => ?_) (fun c0 => False.elim (by exact c0 hv))
    refine v_iconst C d_Mod_isMask_14 (nI 0) (by decide) ?_
    exact v_zret C rfl (by decide) d_Mod_isMask_15 (⟨_, rfl, Or.inr ⟨fun m hm => nI_ne_neg hv (by omega), rfl⟩, rfl⟩)
  · refine v_iload_n C d_Mod_isMask_0 rfl ?_
    refine v_if_ltR C d_Mod_isMask_1 14 (by decide) (fun c0 => False.elim (by exact nI_ge_n0 hv (by decide) c0)) (fun c0 => ?_)
    refine v_iload_n C d_Mod_isMask_4 rfl ?_
    refine v_bipush C d_Mod_isMask_5 (nI 7) (by decide) ?_
    refine v_icmp_gtR C d_Mod_isMask_7 14 (by decide) (fun c1 => ?_) (fun c1 => False.elim (by exact c1 (Int32.lt_of_lt_of_le (show nI 7 < nI 8 by decide) hv)))
    refine v_iconst C d_Mod_isMask_14 (nI 0) (by decide) ?_
    exact v_zret C rfl (by decide) d_Mod_isMask_15 (⟨_, rfl, Or.inr ⟨fun m hm => nI_ge_ne hv hm (by decide), rfl⟩, rfl⟩)
  · refine v_iload_n C d_Mod_isMask_0 rfl ?_
    refine v_if_ltR C d_Mod_isMask_1 14 (by decide) (fun c0 => False.elim (by exact nI_pos (by omega) c0)) (fun c0 => ?_)
    refine v_iload_n C d_Mod_isMask_4 rfl ?_
    refine v_bipush C d_Mod_isMask_5 (nI 7) (by decide) ?_
    refine v_icmp_gt C d_Mod_isMask_7 14 (by decide) (by omega) (by omega) (fun c1 => False.elim (by omega)) (fun c1 => ?_)
    refine v_iconst C d_Mod_isMask_10 (nI 1) (by decide) ?_
    refine v_goto C d_Mod_isMask_11 15 (by decide) ?_
    exact v_zret C rfl (by decide) d_Mod_isMask_15 (⟨_, rfl, Or.inl ⟨m9, hm9, rfl, rfl⟩, rfl⟩)

theorem take_s {L : List Nat} {k : Nat} (h : k < L.length) : L.take (k + 1) = L.take k ++ [lg L k] := by
  rw [List.take_add_one, lg_get h]; rfl
theorem fl_step {L : List Nat} {k : Nat} {q : Nat → Bool} (h : k < L.length) : ((L.take (k + 1)).filter q).length = ((L.take k).filter q).length + (if q (lg L k) = true then 1 else 0) := by
  rw [take_s h, List.filter_append, List.length_append]
  congr 1
  by_cases hq : q (lg L k) = true
  · rw [List.filter_cons_of_pos (by exact hq), if_pos hq]; rfl
  · rw [List.filter_cons_of_neg (by exact hq), if_neg hq]; rfl

set_option maxHeartbeats 800000 in
set_option maxRecDepth 20000 in
theorem c_Mod_many (l : Launch) (D : va_G) (kA : Nat → ClassId) (h : Nat) (a : Nat → Nat) (R : Nat → Int32) (sz ch : Nat) (op sl mk : Nat → Nat) (pt : Nat → Int32) (pp : Nat → Nat) (mt : Nat → Int32) (sp : Nat → Nat) (me : Nat) (LL : Nat → List Nat) (v : Int32) (vs vp vo : Int32) (hLI : LI LL) (hR : ∀ t, t < 3 → rowOK R t (LL t)) (hsz : sz = (LL 0).length) (hL : (LL 0).length ≤ 600) : Ct l D kA 2 y_Mod_many b_Mod_many 7 (some .int) [.ref h, .int v, .int vs, .int vp, .int vo] (mw kA h a R sz ch op sl mk pt pp mt sp me) (pI fun x w => ((∃ m1, m1 < 8 ∧ v = nI m1 ∧ x = nI (cnM LL 0 m1 vs vp vo)) ∨ ((∀ m2, m2 < 8 → v ≠ nI m2) ∧ x = -1)) ∧ w = (mw kA h a R sz ch op sl mk pt pp mt sp me)) := by
  refine ct_of (by decide) (Nat.le_of_ble_eq_true rfl) rfl ?_
  intro pg en s0 m0 args below meth cod C
  have hl0 := hLI.1 0 (by decide)
  refine v_iload_n C d_Mod_many_0 rfl ?_
  refine v_cS C (As := [.int v]) (st := []) (c_Mod_isMask l D kA v) cv_Mod_isMask ml_Mod_65 d_Mod_many_1 ⟨by omega, by decide⟩ ⟨rfl, rfl⟩ rfl ?_
  rintro x9 (⟨m, hm, rfl, rfl⟩ | ⟨hv, rfl⟩)
  · refine v_if_neR C d_Mod_many_4 9 (by decide) (fun c0 => ?_) (fun c0 => False.elim (by exact absurd c0 (by decide)))
    refine v_iconst C d_Mod_many_9 (nI 0) (by decide) ?_
    refine v_istore C d_Mod_many_10 ⟨Nat.le_of_ble_eq_true rfl, Nat.le_of_ble_eq_true rfl⟩ [.ref h, .int (nI m), .int vs, .int vp, .int vo, .int (nI 0)] rfl ?_
    refine v_iconst C d_Mod_many_12 (nI 0) (by decide) ?_
    refine v_istore C d_Mod_many_13 ⟨Nat.le_of_ble_eq_true rfl, Nat.le_of_ble_eq_true rfl⟩ [.ref h, .int (nI m), .int vs, .int vp, .int vo, .int (nI 0), .int (nI 0)] rfl ?_
    have lp : ∀ (t9 : Nat) (k : Nat), (LL 0).length - k < t9 → k ≤ (LL 0).length → V pg l en (rmk 2) s0 m0 args below meth cod D (qA (mw kA h a R sz ch op sl mk pt pp mt sp me)) 7 0 0 (MQ below (QC D (mw kA h a R sz ch op sl mk pt pp mt sp me) (pI fun x w => ((∃ m1, m1 < 8 ∧ (nI m) = nI m1 ∧ x = nI (cnM LL 0 m1 vs vp vo)) ∨ ((∀ m2, m2 < 8 → (nI m) ≠ nI m2) ∧ x = -1)) ∧ w = (mw kA h a R sz ch op sl mk pt pp mt sp me))) args s0 0 0 (qA (mw kA h a R sz ch op sl mk pt pp mt sp me))) 15 [.ref h, .int (nI m), .int vs, .int vp, .int vo, .int (nI ((((LL 0).take k).filter (mT 0 m vs vp vo)).length)), .int (nI k)] [] (mw kA h a R sz ch op sl mk pt pp mt sp me) := by
      intro t9
      induction t9 with
      | zero => intro k hk; omega
      | succ t9 ih =>
        intro k hk hk2
        refine v_iload C d_Mod_many_15 rfl ?_
        refine v_aload_n C d_Mod_many_17 rfl ?_
        refine v_getf C i_Mod (ci := 3) rfl 1 (by decide) (List.mem_of_getElem? (i := 0) rfl) fl_Mod_35 d_Mod_many_18 (.int (nI sz)) rfl ?_
        refine v_icmp_ge C d_Mod_many_21 55 (by decide) (by omega) (by omega) (fun ck => ?_) (fun ck => ?_)
        · obtain rfl : k = (LL 0).length := by omega
          refine v_iload C d_Mod_many_55 rfl ?_
          exact v_iret C rfl d_Mod_many_57 (⟨_, rfl, Or.inl ⟨m, hm, rfl, by rw [List.take_length]; rfl⟩, rfl⟩)
        · refine v_iload C d_Mod_many_24 rfl ?_
          refine v_aload_n C d_Mod_many_26 rfl ?_
          refine v_iconst C d_Mod_many_27 (nI 0) (by decide) ?_
          refine v_iload C d_Mod_many_28 rfl ?_
          refine v_iload_n C d_Mod_many_30 rfl ?_
          refine v_iload_n C d_Mod_many_31 rfl ?_
          refine v_iload_n C d_Mod_many_32 rfl ?_
          refine v_iload C d_Mod_many_33 rfl ?_
          refine v_cI C (As := [.int (nI 0), .int (nI k), .int (nI m), .int vs, .int vp, .int vo]) (st := [.int (nI ((((LL 0).take k).filter (mT 0 m vs vp vo)).length))]) (c_Mod_matches l D kA h a R sz ch op sl mk pt pp mt sp me 0 k m (LL 0) vs vp vo (by decide) (by omega) (hR 0 (by decide)) (by omega) hm) cv_Mod_matches ml_Mod_69 d_Mod_many_35 ⟨by omega, by decide⟩ mw_rcv ⟨rfl, rfl⟩ rfl ?_
          rintro _ _ ⟨rfl, rfl⟩
          have hst := fl_step (L := LL 0) (k := k) (q := mT 0 m vs vp vo) (by omega)
          by_cases hq : mT 0 m vs vp vo (lg (LL 0) k) = true
          · rw [if_pos hq] at hst ⊢
            refine v_if_eqR C d_Mod_many_38 45 (by decide) (fun c1 => False.elim (by exact absurd c1 (by decide))) (fun c1 => ?_)
            refine v_iconst C d_Mod_many_41 (nI 1) (by decide) ?_
            refine v_goto C d_Mod_many_42 46 (by decide) ?_
            refine v_iadd C d_Mod_many_46 ?_
            refine v_top (y := nI ((((LL 0).take (k + 1)).filter (mT 0 m vs vp vo)).length)) (show nI (((((LL 0).take k).filter (mT 0 m vs vp vo)).length) + 1) = nI ((((LL 0).take (k + 1)).filter (mT 0 m vs vp vo)).length) from by rw [hst]) ?_
            refine v_istore C d_Mod_many_47 ⟨Nat.le_of_ble_eq_true rfl, Nat.le_of_ble_eq_true rfl⟩ [.ref h, .int (nI m), .int vs, .int vp, .int vo, .int (nI ((((LL 0).take (k + 1)).filter (mT 0 m vs vp vo)).length)), .int (nI k)] rfl ?_
            refine v_iinc C d_Mod_many_49 rfl ⟨Nat.le_of_ble_eq_true rfl, Nat.le_of_ble_eq_true rfl⟩ (nI (k + 1)) (inc1 _) [.ref h, .int (nI m), .int vs, .int vp, .int vo, .int (nI ((((LL 0).take (k + 1)).filter (mT 0 m vs vp vo)).length)), .int (nI (k + 1))] rfl ?_
            refine v_goto C d_Mod_many_52 15 (by decide) ?_
            exact ih (k + 1) (by omega) (by omega)
          · rw [if_neg hq] at hst ⊢
            refine v_if_eqR C d_Mod_many_38 45 (by decide) (fun c1 => ?_) (fun c1 => False.elim (by exact c1 rfl))
            refine v_iconst C d_Mod_many_45 (nI 0) (by decide) ?_
            refine v_iadd C d_Mod_many_46 ?_
            refine v_top (y := nI ((((LL 0).take (k + 1)).filter (mT 0 m vs vp vo)).length)) (show nI (((((LL 0).take k).filter (mT 0 m vs vp vo)).length) + 0) = nI ((((LL 0).take (k + 1)).filter (mT 0 m vs vp vo)).length) from by rw [hst]) ?_
            refine v_istore C d_Mod_many_47 ⟨Nat.le_of_ble_eq_true rfl, Nat.le_of_ble_eq_true rfl⟩ [.ref h, .int (nI m), .int vs, .int vp, .int vo, .int (nI ((((LL 0).take (k + 1)).filter (mT 0 m vs vp vo)).length)), .int (nI k)] rfl ?_
            refine v_iinc C d_Mod_many_49 rfl ⟨Nat.le_of_ble_eq_true rfl, Nat.le_of_ble_eq_true rfl⟩ (nI (k + 1)) (inc1 _) [.ref h, .int (nI m), .int vs, .int vp, .int vo, .int (nI ((((LL 0).take (k + 1)).filter (mT 0 m vs vp vo)).length)), .int (nI (k + 1))] rfl ?_
            refine v_goto C d_Mod_many_52 15 (by decide) ?_
            exact ih (k + 1) (by omega) (by omega)
    exact lp ((LL 0).length + 1) 0 (by omega) (by omega)
  · refine v_if_neR C d_Mod_many_4 9 (by decide) (fun c0 => False.elim (by exact c0 rfl)) (fun c0 => ?_)
    refine v_iconst C d_Mod_many_7 (-1) (by decide) ?_
    exact v_iret C rfl d_Mod_many_8 (⟨_, rfl, Or.inr ⟨hv, rfl⟩, rfl⟩)

/-- deletion at a place leaves what is ahead of it -/
theorem Del.lg {y k : Nat} {L L' : List Nat} (h : Del y L L') (hk : k < L.length) (e : lg L k = y) : ∀ i, i < k → lg L' i = lg L i := by
  obtain ⟨A, B, rfl, rfl, hA, hB⟩ := h
  have hAk : k ≤ A.length := by
    refine Nat.le_of_not_lt fun hz => ?_
    have h1 := lg_get hk
    rw [List.getElem?_append_right (by omega), show k - A.length = (k - A.length - 1) + 1 by omega, List.getElem?_cons_succ] at h1
    have h2 := hB _ (List.mem_of_getElem? h1)
    rw [e] at h2
    exact Nat.lt_irrefl _ h2
  intro i hi
  show (A ++ B).getD i 0 = (A ++ y :: B).getD i 0
  rw [List.getD_eq_getElem?_getD, List.getD_eq_getElem?_getD, List.getElem?_append_left (by omega), List.getElem?_append_left (by omega)]
theorem flM_none {LL : Nat → List Nat} {m : Nat} {s p o : Int32} (h : LI LL) (hn : ∀ i, i < (LL 0).length → mT 0 m s p o (lg (LL 0) i) = false) : cnM LL 0 m s p o = 0 ∧ ∀ t, t < 3 → flM LL m s p o t = LL t := by
  have h0 : ∀ x ∈ LL 0, mT 0 m s p o x = false := fun x hx => by
    obtain ⟨k, hk, rfl⟩ := mem_lg hx
    exact hn k hk
  refine ⟨by unfold cnM; rw [filt_none _ h0]; rfl, fun t ht => filt_all _ (fun x hx => ?_)⟩
  obtain ⟨a, b, c, rfl⟩ := ec_of ht ((h.1 t ht).2.1 x hx)
  rw [mT_rot ht, h0 _ ((h.2 t a b c ht).mp hx)]; rfl

set_option maxHeartbeats 800000 in
set_option maxRecDepth 20000 in
theorem c_Mod_removeAll (l : Launch) (D : va_G) (kA : Nat → ClassId) (h : Nat) (a : Nat → Nat) (R : Nat → Int32) (sz ch : Nat) (op sl mk : Nat → Nat) (pt : Nat → Int32) (pp : Nat → Nat) (mt : Nat → Int32) (sp : Nat → Nat) (me : Nat) (LL : Nat → List Nat) (v : Int32) (vs vp vo : Int32) (hLI : LI LL) (hR : ∀ t, t < 3 → rowOK R t (LL t)) (hsz : sz = (LL 0).length) (hL : (LL 0).length ≤ 600) (hop : ∀ j, j < 8 → op j = 0 ∨ op j = 1) : Ct l D kA 5 y_Mod_removeAll b_Mod_removeAll 7 (some .int) [.ref h, .int v, .int vs, .int vp, .int vo] (mw kA h a R sz ch op sl mk pt pp mt sp me) (pI fun x w => (∃ m1, m1 < 8 ∧ v = nI m1 ∧ ∃ (R' : Nat → Int32) (sl' : Nat → Nat), x = nI (cnM LL 0 m1 vs vp vo) ∧ w = (mw kA h a R' (sz - cnM LL 0 m1 vs vp vo) (ch + cnM LL 0 m1 vs vp vo) op sl' mk pt pp mt sp me) ∧ (∀ j, j < 8 → sl' j = if cnM LL 0 m1 vs vp vo = 0 then sl j else op j) ∧ ∀ t, t < 3 → rowOK R' t (flM LL m1 vs vp vo t)) ∨ ((∀ m2, m2 < 8 → v ≠ nI m2) ∧ x = -1 ∧ w = (mw kA h a R sz ch op sl mk pt pp mt sp me))) := by
  refine ct_of (by decide) (Nat.le_of_ble_eq_true rfl) rfl ?_
  intro pg en s0 m0 args below meth cod C
  refine v_iload_n C d_Mod_removeAll_0 rfl ?_
  refine v_cS C (As := [.int v]) (st := []) (c_Mod_isMask l D kA v) cv_Mod_isMask ml_Mod_65 d_Mod_removeAll_1 ⟨by omega, by decide⟩ ⟨rfl, rfl⟩ rfl ?_
  rintro x9 (⟨m, hm, rfl, rfl⟩ | ⟨hv, rfl⟩)
  · refine v_if_neR C d_Mod_removeAll_4 9 (by decide) (fun c0 => ?_) (fun c0 => False.elim (by exact absurd c0 (by decide)))
    refine v_iconst C d_Mod_removeAll_9 (nI 0) (by decide) ?_
    refine v_istore C d_Mod_removeAll_10 ⟨Nat.le_of_ble_eq_true rfl, Nat.le_of_ble_eq_true rfl⟩ [.ref h, .int (nI m), .int vs, .int vp, .int vo, .int (nI 0)] rfl ?_
    refine v_iconst C d_Mod_removeAll_12 (nI 0) (by decide) ?_
    refine v_istore C d_Mod_removeAll_13 ⟨Nat.le_of_ble_eq_true rfl, Nat.le_of_ble_eq_true rfl⟩ [.ref h, .int (nI m), .int vs, .int vp, .int vo, .int (nI 0), .int (nI 0)] rfl ?_
    have lp : ∀ (t9 : Nat) (n k : Nat) (f : Nat → Int32) (g : Nat → Nat) (M : Nat → List Nat), (M 0).length - k < t9 → LI M → (∀ t, t < 3 → rowOK f t (M t)) → (M 0).length ≤ 600 → k ≤ (M 0).length → (∀ t, t < 3 → flM M m vs vp vo t = flM LL m vs vp vo t) → n + cnM M 0 m vs vp vo = cnM LL 0 m vs vp vo → n + (M 0).length = sz → (∀ i, i < k → mT 0 m vs vp vo (lg (M 0) i) = false) → (∀ j, j < 8 → g j = if n = 0 then sl j else op j) → V pg l en (rmk 5) s0 m0 args below meth cod D (qA (mw kA h a R sz ch op sl mk pt pp mt sp me)) 7 0 0 (MQ below (QC D (mw kA h a R sz ch op sl mk pt pp mt sp me) (pI fun x w => (∃ m1, m1 < 8 ∧ (nI m) = nI m1 ∧ ∃ (R' : Nat → Int32) (sl' : Nat → Nat), x = nI (cnM LL 0 m1 vs vp vo) ∧ w = (mw kA h a R' (sz - cnM LL 0 m1 vs vp vo) (ch + cnM LL 0 m1 vs vp vo) op sl' mk pt pp mt sp me) ∧ (∀ j, j < 8 → sl' j = if cnM LL 0 m1 vs vp vo = 0 then sl j else op j) ∧ ∀ t, t < 3 → rowOK R' t (flM LL m1 vs vp vo t)) ∨ ((∀ m2, m2 < 8 → (nI m) ≠ nI m2) ∧ x = -1 ∧ w = (mw kA h a R sz ch op sl mk pt pp mt sp me)))) args s0 0 0 (qA (mw kA h a R sz ch op sl mk pt pp mt sp me))) 15 [.ref h, .int (nI m), .int vs, .int vp, .int vo, .int (nI n), .int (nI k)] [] (mw kA h a f ((M 0).length) (ch + n) op g mk pt pp mt sp me) := by
      intro t9
      induction t9 with
      | zero => intro n k f g M hk; omega
      | succ t9 ih =>
        intro n k f g M hk hMI hf hL2 hk2 hfl hcn hnl hpre hg
        have hl0 := hMI.1 0 (by decide)
        refine v_iload C d_Mod_removeAll_15 rfl ?_
        refine v_aload_n C d_Mod_removeAll_17 rfl ?_
        refine v_getf C i_Mod (ci := 3) rfl 1 (by decide) (List.mem_of_getElem? (i := 0) rfl) fl_Mod_35 d_Mod_removeAll_18 (.int (nI ((M 0).length))) rfl ?_
        refine v_icmp_ge C d_Mod_removeAll_21 80 (by decide) (by omega) (by omega) (fun ck => ?_) (fun ck => ?_)
        · obtain rfl : k = (M 0).length := by omega
          obtain ⟨z1, z2⟩ := flM_none hMI hpre
          refine v_iload C d_Mod_removeAll_80 rfl ?_
          exact v_iret C rfl d_Mod_removeAll_82 (⟨_, rfl, Or.inl ⟨m, hm, rfl, f, g, by rw [show n = cnM LL 0 m vs vp vo by omega], by rw [show sz - cnM LL 0 m vs vp vo = (M 0).length by omega, show cnM LL 0 m vs vp vo = n by omega], fun j hj => by rw [show cnM LL 0 m vs vp vo = n by omega]; exact hg j hj, fun t ht => by rw [← hfl t ht, z2 t ht]; exact hf t ht⟩⟩)
        · refine v_aload_n C d_Mod_removeAll_24 rfl ?_
          refine v_iconst C d_Mod_removeAll_25 (nI 0) (by decide) ?_
          refine v_iload C d_Mod_removeAll_26 rfl ?_
          refine v_iload_n C d_Mod_removeAll_28 rfl ?_
          refine v_iload_n C d_Mod_removeAll_29 rfl ?_
          refine v_iload_n C d_Mod_removeAll_30 rfl ?_
          refine v_iload C d_Mod_removeAll_31 rfl ?_
          refine v_cI C (As := [.int (nI 0), .int (nI k), .int (nI m), .int vs, .int vp, .int vo]) (st := []) (c_Mod_matches l D kA h a f ((M 0).length) (ch + n) op g mk pt pp mt sp me 0 k m (M 0) vs vp vo (by decide) (by omega) (hf 0 (by decide)) (by omega) hm) cv_Mod_matches ml_Mod_69 d_Mod_removeAll_33 ⟨by omega, by decide⟩ mw_rcv ⟨rfl, rfl⟩ rfl ?_
          rintro _ _ ⟨rfl, rfl⟩
          by_cases hq : mT 0 m vs vp vo (lg (M 0) k) = true
          · rw [if_pos hq]
            refine v_if_eqR C d_Mod_removeAll_36 74 (by decide) (fun c1 => False.elim (by exact absurd c1 (by decide))) (fun c1 => ?_)
            refine v_aload_n C d_Mod_removeAll_39 rfl ?_
            refine v_aload_n C d_Mod_removeAll_40 rfl ?_
            refine v_iconst C d_Mod_removeAll_41 (nI 0) (by decide) ?_
            refine v_iload C d_Mod_removeAll_42 rfl ?_
            refine v_iconst C d_Mod_removeAll_44 (nI 0) (by decide) ?_
            refine v_cI C (As := [.int (nI 0), .int (nI k), .int (nI 0)]) (st := [.ref h]) (c_Mod_cell l D kA h a f ((M 0).length) (ch + n) op g mk pt pp mt sp me 0 k 0 (M 0) (by decide) (by omega) (hf 0 (by decide)) (by omega) (by decide)) cv_Mod_cell ml_Mod_43 d_Mod_removeAll_45 ⟨by omega, by decide⟩ mw_rcv ⟨rfl, rfl⟩ rfl ?_
            rintro _ _ ⟨rfl, rfl⟩
            refine v_aload_n C d_Mod_removeAll_48 rfl ?_
            refine v_iconst C d_Mod_removeAll_49 (nI 0) (by decide) ?_
            refine v_iload C d_Mod_removeAll_50 rfl ?_
            refine v_iconst C d_Mod_removeAll_52 (nI 1) (by decide) ?_
            refine v_cI C (As := [.int (nI 0), .int (nI k), .int (nI 1)]) (st := [.int (dc (lg (M 0) k) (po 0 0)), .ref h]) (c_Mod_cell l D kA h a f ((M 0).length) (ch + n) op g mk pt pp mt sp me 0 k 1 (M 0) (by decide) (by omega) (hf 0 (by decide)) (by omega) (by decide)) cv_Mod_cell ml_Mod_43 d_Mod_removeAll_53 ⟨by omega, by decide⟩ mw_rcv ⟨rfl, rfl⟩ rfl ?_
            rintro _ _ ⟨rfl, rfl⟩
            refine v_aload_n C d_Mod_removeAll_56 rfl ?_
            refine v_iconst C d_Mod_removeAll_57 (nI 0) (by decide) ?_
            refine v_iload C d_Mod_removeAll_58 rfl ?_
            refine v_iconst C d_Mod_removeAll_60 (nI 2) (by decide) ?_
            refine v_cI C (As := [.int (nI 0), .int (nI k), .int (nI 2)]) (st := [.int (dc (lg (M 0) k) (po 0 1)), .int (dc (lg (M 0) k) (po 0 0)), .ref h]) (c_Mod_cell l D kA h a f ((M 0).length) (ch + n) op g mk pt pp mt sp me 0 k 2 (M 0) (by decide) (by omega) (hf 0 (by decide)) (by omega) (by decide)) cv_Mod_cell ml_Mod_43 d_Mod_removeAll_61 ⟨by omega, by decide⟩ mw_rcv ⟨rfl, rfl⟩ rfl ?_
            rintro _ _ ⟨rfl, rfl⟩
            have hxT := hl0.2.1 _ (lg_mem ck)
            have hec : ec 0 (dc (lg (M 0) k) (po 0 0)) (dc (lg (M 0) k) (po 0 1)) (dc (lg (M 0) k) (po 0 2)) = lg (M 0) k := ec_self hxT
            refine v_cI C (As := [.int (dc (lg (M 0) k) (po 0 0)), .int (dc (lg (M 0) k) (po 0 1)), .int (dc (lg (M 0) k) (po 0 2))]) (st := []) (c_Mod_remove l D kA h a f ((M 0).length) (ch + n) op g mk pt pp mt sp me M (dc (lg (M 0) k) (po 0 0)) (dc (lg (M 0) k) (po 0 1)) (dc (lg (M 0) k) (po 0 2)) hMI hf rfl (by omega) hop) cv_Mod_remove ml_Mod_73 d_Mod_removeAll_64 ⟨by omega, by decide⟩ mw_rcv ⟨rfl, rfl⟩ rfl ?_
            rintro _ _ (⟨hno, rfl, rfl⟩ | ⟨hyes, rfl, f', g', M', rfl, hg', hM'⟩)
            · exact absurd (by rw [hec]; exact lg_mem ck) hno
            · have hd : ∀ t, t < 3 → Del _ (M t) (M' t) := fun t ht => (hM' t ht).2
              have hMI' := hMI.del hyes hd
              obtain ⟨z1, z2⟩ := flM_del (mk := m) (s := vs) (p := vp) (o := vo) hd (by rw [hec]; exact hq)
              have hlen := (hd 0 (by decide)).len
              refine v_pop C d_Mod_removeAll_67 rfl ?_
              refine v_iinc C d_Mod_removeAll_68 rfl ⟨Nat.le_of_ble_eq_true rfl, Nat.le_of_ble_eq_true rfl⟩ (nI (n + 1)) (inc1 _) [.ref h, .int (nI m), .int vs, .int vp, .int vo, .int (nI (n + 1)), .int (nI k)] rfl ?_
              refine v_goto C d_Mod_removeAll_71 15 (by decide) ?_
              rw [show (M 0).length - 1 = (M' 0).length by omega]
              refine ih (n + 1) k _ _ M' (by omega) hMI' (fun t ht => (hM' t ht).1) (by omega) (by omega) (fun t ht => (z1 t ht).trans (hfl t ht)) (by omega) (by omega) (fun i hi => ?_) (fun j hj => ?_)
              · rw [(hd 0 (by decide)).lg ck hec.symm i hi]; exact hpre i hi
              · rw [hg' j hj, if_neg (by omega)]
          · rw [if_neg hq]
            refine v_if_eqR C d_Mod_removeAll_36 74 (by decide) (fun c1 => ?_) (fun c1 => False.elim (by exact c1 rfl))
            refine v_iinc C d_Mod_removeAll_74 rfl ⟨Nat.le_of_ble_eq_true rfl, Nat.le_of_ble_eq_true rfl⟩ (nI (k + 1)) (inc1 _) [.ref h, .int (nI m), .int vs, .int vp, .int vo, .int (nI n), .int (nI (k + 1))] rfl ?_
            refine v_goto C d_Mod_removeAll_77 15 (by decide) ?_
            exact ih n (k + 1) f g M (by omega) hMI hf (by omega) (by omega) hfl hcn (by omega) (lt_s hpre (by simpa using hq)) hg
    subst hsz
    exact lp ((LL 0).length + 1) 0 0 R sl LL (by omega) hLI hR hL (by omega) (fun _ _ => rfl) (by omega) (by omega) lt_0 (fun j hj => by rw [if_pos rfl])
  · refine v_if_neR C d_Mod_removeAll_4 9 (by decide) (fun c0 => False.elim (by exact c0 rfl)) (fun c0 => ?_)
    refine v_iconst C d_Mod_removeAll_7 (-1) (by decide) ?_
    exact v_iret C rfl d_Mod_removeAll_8 (⟨_, rfl, Or.inr ⟨hv, rfl, rfl⟩⟩)

set_option maxHeartbeats 800000 in
set_option maxRecDepth 20000 in
theorem c_Mod_size (l : Launch) (D : va_G) (kA : Nat → ClassId) (h : Nat) (a : Nat → Nat) (R : Nat → Int32) (sz ch : Nat) (op sl mk : Nat → Nat) (pt : Nat → Int32) (pp : Nat → Nat) (mt : Nat → Int32) (sp : Nat → Nat) (me : Nat)  : Ct l D kA 0 y_Mod_size b_Mod_size 1 (some .int) [.ref h] (mw kA h a R sz ch op sl mk pt pp mt sp me) (pI fun x w => x = nI sz ∧ w = (mw kA h a R sz ch op sl mk pt pp mt sp me)) := by
  refine ct_of (by decide) (Nat.le_of_ble_eq_true rfl) rfl ?_
  intro pg en s0 m0 args below meth cod C
  refine v_aload_n C d_Mod_size_0 rfl ?_
  refine v_getf C i_Mod (ci := 3) rfl 1 (by decide) (List.mem_of_getElem? (i := 0) rfl) fl_Mod_35 d_Mod_size_1 (.int (nI sz)) rfl ?_
  exact v_iret C rfl d_Mod_size_4 (⟨_, rfl, rfl, rfl⟩)

set_option maxHeartbeats 800000 in
set_option maxRecDepth 20000 in
theorem c_Mod_changes (l : Launch) (D : va_G) (kA : Nat → ClassId) (h : Nat) (a : Nat → Nat) (R : Nat → Int32) (sz ch : Nat) (op sl mk : Nat → Nat) (pt : Nat → Int32) (pp : Nat → Nat) (mt : Nat → Int32) (sp : Nat → Nat) (me : Nat)  : Ct l D kA 0 y_Mod_changes b_Mod_changes 1 (some .int) [.ref h] (mw kA h a R sz ch op sl mk pt pp mt sp me) (pI fun x w => x = nI ch ∧ w = (mw kA h a R sz ch op sl mk pt pp mt sp me)) := by
  refine ct_of (by decide) (Nat.le_of_ble_eq_true rfl) rfl ?_
  intro pg en s0 m0 args below meth cod C
  refine v_aload_n C d_Mod_changes_0 rfl ?_
  refine v_getf C i_Mod (ci := 3) rfl 2 (by decide) (List.mem_of_getElem? (i := 0) rfl) fl_Mod_55 d_Mod_changes_1 (.int (nI ch)) rfl ?_
  exact v_iret C rfl d_Mod_changes_4 (⟨_, rfl, rfl, rfl⟩)
