set_option maxHeartbeats 800000 in
set_option maxRecDepth 20000 in
theorem c_TT_size (l : Launch) (D : va_G) (kA : Nat → ClassId) (ad : Nat → Nat → Nat) (sz ch mc : Nat) (T : Nat → TS) (Cu : Nat → Nat → Nat) (mt : Nat → Int32) (fa : Nat → Nat)  : Ct l D kA 0 y_TT_size b_TT_size 1 (some .int) [.ref (ad 0 0)] (xw kA ad sz ch mc T Cu mt fa) (pI fun x w => x = nI sz ∧ w = (xw kA ad sz ch mc T Cu mt fa)) := by
  refine ct_of (by decide) (Nat.le_of_ble_eq_true rfl) rfl ?_
  intro pg en s0 m0 args below meth cod C
  refine v_aload_n C d_TT_size_0 rfl ?_
  refine v_getf C i_TT (ci := 2) rfl 2 (by decide) (List.mem_of_getElem? (i := 0) rfl) fl_TT_48 d_TT_size_1 (.int (nI sz)) rfl ?_
  exact v_iret C rfl d_TT_size_4 (⟨_, rfl, rfl, rfl⟩)

set_option maxHeartbeats 800000 in
set_option maxRecDepth 20000 in
theorem c_TT_changes (l : Launch) (D : va_G) (kA : Nat → ClassId) (ad : Nat → Nat → Nat) (sz ch mc : Nat) (T : Nat → TS) (Cu : Nat → Nat → Nat) (mt : Nat → Int32) (fa : Nat → Nat)  : Ct l D kA 0 y_TT_changes b_TT_changes 1 (some .int) [.ref (ad 0 0)] (xw kA ad sz ch mc T Cu mt fa) (pI fun x w => x = nI ch ∧ w = (xw kA ad sz ch mc T Cu mt fa)) := by
  refine ct_of (by decide) (Nat.le_of_ble_eq_true rfl) rfl ?_
  intro pg en s0 m0 args below meth cod C
  refine v_aload_n C d_TT_changes_0 rfl ?_
  refine v_getf C i_TT (ci := 2) rfl 3 (by decide) (List.mem_of_getElem? (i := 0) rfl) fl_TT_55 d_TT_changes_1 (.int (nI ch)) rfl ?_
  exact v_iret C rfl d_TT_changes_4 (⟨_, rfl, rfl, rfl⟩)

set_option maxHeartbeats 800000 in
set_option maxRecDepth 20000 in
theorem c_TT_open (l : Launch) (D : va_G) (kA : Nat → ClassId) (ad : Nat → Nat → Nat) (sz ch mc : Nat) (T : Nat → TS) (Cu : Nat → Nat → Nat) (mt : Nat → Int32) (fa : Nat → Nat) (dd : Nat → Nat) (LL : Nat → List Nat) (v : Int32) (vs vp vo : Int32) (hX : XI T dd LL) (hco : CO Cu ch) : Ct l D kA 5 y_TT_open b_TT_open 6 (some .int) [.ref (ad 0 0), .int v, .int vs, .int vp, .int vo] (xw kA ad sz ch mc T Cu mt fa) (pI fun x w => (∃ m1, m1 < 8 ∧ v = nI m1 ∧ ((∃ c1, c1 < 8 ∧ (∀ j, j < c1 → Cu j 0 = 1) ∧ Cu c1 0 = 0 ∧ x = nI c1 ∧ ∃ (T' : Nat → TS) (X' : Nat → Nat), w = (xw kA ad sz ch mc T' (va_up Cu c1 X') mt fa) ∧ Sm T T' ∧ X' 0 = 1 ∧ X' 1 = ch ∧ X' 2 = oo m1 ∧ X' 3 = bcn m1 ∧ X' 4 = ec (oo m1) vs vp vo ∧ X' 7 = 0 ∧ ps (T (oo m1)) (dd (oo m1)) (LL (oo m1)) (X' 5) (X' 6) (blw (LL (oo m1)) (lowk (bcn m1) (ec (oo m1) vs vp vo)))) ∨ ((∀ j, j < 8 → Cu j 0 = 1) ∧ x = -2 ∧ w = (xw kA ad sz ch mc T Cu mt fa)))) ∨ ((∀ m2, m2 < 8 → v ≠ nI m2) ∧ x = -1 ∧ w = (xw kA ad sz ch mc T Cu mt fa))) := by
  refine ct_of (by decide) (Nat.le_of_ble_eq_true rfl) rfl ?_
  intro pg en s0 m0 args below meth cod C
  refine v_iload_n C d_TT_open_0 rfl ?_
  refine v_cS C (As := [.int v]) (st := []) (c_TT_isMask l D kA v) cv_TT_isMask ml_TT_117 d_TT_open_1 ⟨by omega, by decide⟩ ⟨rfl, rfl⟩ rfl ?_
  rintro x9 hx9
  rcases hx9 with ⟨m, hm, rfl, rfl⟩ | ⟨hno, rfl⟩
  · refine v_if_neR C d_TT_open_4 9 (by decide) (fun c0 => ?_) (fun c0 => False.elim (by exact absurd c0 (by decide)))
    refine v_iconst C d_TT_open_9 (nI 0) (by decide) ?_
    refine v_istore C d_TT_open_10 ⟨Nat.le_of_ble_eq_true rfl, Nat.le_of_ble_eq_true rfl⟩ [.ref (ad 0 0), .int (nI m), .int vs, .int vp, .int vo, .int (nI 0)] rfl ?_
    have lp : ∀ (t9 : Nat) (k : Nat), 8 - k < t9 → k ≤ 8 → (∀ j, j < k → Cu j 0 = 1) → V pg l en (rmk 5) s0 m0 args below meth cod D (qA (xw kA ad sz ch mc T Cu mt fa)) 6 0 0 (MQ below (QC D (xw kA ad sz ch mc T Cu mt fa) (pI fun x w => (∃ m1, m1 < 8 ∧ (nI m) = nI m1 ∧ ((∃ c1, c1 < 8 ∧ (∀ j, j < c1 → Cu j 0 = 1) ∧ Cu c1 0 = 0 ∧ x = nI c1 ∧ ∃ (T' : Nat → TS) (X' : Nat → Nat), w = (xw kA ad sz ch mc T' (va_up Cu c1 X') mt fa) ∧ Sm T T' ∧ X' 0 = 1 ∧ X' 1 = ch ∧ X' 2 = oo m1 ∧ X' 3 = bcn m1 ∧ X' 4 = ec (oo m1) vs vp vo ∧ X' 7 = 0 ∧ ps (T (oo m1)) (dd (oo m1)) (LL (oo m1)) (X' 5) (X' 6) (blw (LL (oo m1)) (lowk (bcn m1) (ec (oo m1) vs vp vo)))) ∨ ((∀ j, j < 8 → Cu j 0 = 1) ∧ x = -2 ∧ w = (xw kA ad sz ch mc T Cu mt fa)))) ∨ ((∀ m2, m2 < 8 → (nI m) ≠ nI m2) ∧ x = -1 ∧ w = (xw kA ad sz ch mc T Cu mt fa)))) args s0 0 0 (qA (xw kA ad sz ch mc T Cu mt fa))) 12 [.ref (ad 0 0), .int (nI m), .int vs, .int vp, .int vo, .int (nI k)] [] (xw kA ad sz ch mc T Cu mt fa) := by
      intro t9
      induction t9 with
      | zero => intro k hk; omega
      | succ t9 ih =>
        intro k hk hk2 hk3
        refine v_iload C d_TT_open_12 rfl ?_
        refine v_bipush C d_TT_open_14 (nI 8) (by decide) ?_
        refine v_icmp_ge C d_TT_open_16 38 (by decide) (by omega) (by omega) (fun ck => ?_) (fun ck => ?_)
        · obtain rfl : k = 8 := by omega
          refine v_iload C d_TT_open_38 rfl ?_
          refine v_bipush C d_TT_open_40 (nI 8) (by decide) ?_
          refine v_icmp_ne C d_TT_open_42 48 (by decide) (by decide) (by decide) (fun c1 => False.elim (by exact c1 rfl)) (fun c1 => ?_)
          refine v_bipush C d_TT_open_45 (-2) (by decide) ?_
          exact v_iret C rfl d_TT_open_47 (⟨_, rfl, Or.inl ⟨m, hm, rfl, Or.inr ⟨hk3, rfl, rfl⟩⟩⟩)
        · have hb := (hco k ck).1
          refine v_aload_n C d_TT_open_19 rfl ?_
          refine v_getf C i_TT (ci := 2) rfl 1 (by decide) (List.mem_of_getElem? (i := 0) rfl) fl_TT_17 d_TT_open_20 (.ref (ad 0 2)) rfl ?_
          refine v_iload C d_TT_open_23 rfl ?_
          refine v_aald C (List.mem_of_getElem? (i := 2) rfl) (t0 := 3) rfl (by omega) (by decide) d_TT_open_25 (ad 2 k) rfl ?_
          refine v_getf C i_Cur (ci := 1) rfl 0 (by decide) (xm_C0 (show k < 10 by omega) (List.mem_of_getElem? (i := 0) rfl)) fl_TT_61 d_TT_open_26 (.int (nI (Cu k 0))) rfl ?_
          refine v_if_eq C d_TT_open_29 38 (by decide) (by omega) (fun c1 => ?_) (fun c1 => ?_)
          · refine v_iload C d_TT_open_38 rfl ?_
            refine v_bipush C d_TT_open_40 (nI 8) (by decide) ?_
            refine v_icmp_ne C d_TT_open_42 48 (by decide) (by omega) (by omega) (fun c2 => ?_) (fun c2 => False.elim (by omega))
            refine v_aload_n C d_TT_open_48 rfl ?_
            refine v_aload_n C d_TT_open_49 rfl ?_
            refine v_getf C i_TT (ci := 2) rfl 1 (by decide) (List.mem_of_getElem? (i := 0) rfl) fl_TT_17 d_TT_open_50 (.ref (ad 0 2)) rfl ?_
            refine v_iload C d_TT_open_53 rfl ?_
            refine v_aald C (List.mem_of_getElem? (i := 2) rfl) (t0 := 3) rfl (by omega) (by decide) d_TT_open_55 (ad 2 k) rfl ?_
            refine v_iload_n C d_TT_open_56 rfl ?_
            refine v_iload_n C d_TT_open_57 rfl ?_
            refine v_iload_n C d_TT_open_58 rfl ?_
            refine v_iload C d_TT_open_59 rfl ?_
            refine v_ws (ws' := (xw kA ad sz ch mc T (va_up Cu k (Cu k)) mt fa)) (by rw [up_eta]) ?_
            refine v_cV C (As := [.ref (ad 2 k), .int (nI m), .int vs, .int vp, .int vo]) (st := []) (c_TT_begin l D kA ad sz ch mc T Cu mt fa dd LL k m (Cu k) vs vp vo hX (show k < 10 by omega) hm) cv_TT_begin ml_TT_121 d_TT_open_61 ⟨by omega, by decide⟩ xw_rcv ⟨rfl, rfl⟩ rfl ?_
            rintro _ ⟨T1, X1, sm1, rfl, b01, b11, b21, b31, b41, b71, hps1⟩
            refine v_iload C d_TT_open_64 rfl ?_
            exact v_iret C rfl d_TT_open_66 (⟨_, rfl, Or.inl ⟨m, hm, rfl, Or.inl ⟨k, ck, hk3, c1, rfl, T1, X1, rfl, sm1, b01, b11, b21, b31, b41, b71, hps1⟩⟩⟩)
          · refine v_iinc C d_TT_open_32 rfl ⟨Nat.le_of_ble_eq_true rfl, Nat.le_of_ble_eq_true rfl⟩ (nI (k + 1)) (inc1 _) [.ref (ad 0 0), .int (nI m), .int vs, .int vp, .int vo, .int (nI (k + 1))] rfl ?_
            refine v_goto C d_TT_open_35 12 (by decide) ?_
            exact ih (k + 1) (by omega) (by omega) (lt_s hk3 (by omega))
    exact lp 9 0 (by omega) (by omega) lt_0
  · refine v_if_neR C d_TT_open_4 9 (by decide) (fun c0 => False.elim (by exact c0 rfl)) (fun c0 => ?_)
    refine v_iconst C d_TT_open_7 (-1) (by decide) ?_
    exact v_iret C rfl d_TT_open_8 (⟨_, rfl, Or.inr ⟨hno, rfl, rfl⟩⟩)

set_option maxHeartbeats 800000 in
set_option maxRecDepth 20000 in
theorem c_TT_part (l : Launch) (D : va_G) (kA : Nat → ClassId) (ad : Nat → Nat → Nat) (sz ch mc : Nat) (T : Nat → TS) (Cu : Nat → Nat → Nat) (mt : Nat → Int32) (fa : Nat → Nat) (dd : Nat → Nat) (LL : Nat → List Nat) (v vi : Int32) (jj : Nat → Nat) (hX : XI T dd LL) (hco : CO Cu ch) (hch : ch < 2 ^ 31) (hcp : CP T dd LL Cu ch jj) : Ct l D kA 2 y_TT_part b_TT_part 3 (some .int) [.ref (ad 0 0), .int v, .int vi] (xw kA ad sz ch mc T Cu mt fa) (pI fun x w => ((∃ c1 i1, c1 < 8 ∧ i1 < 3 ∧ v = nI c1 ∧ vi = nI i1 ∧ Cu c1 0 = 1 ∧ Cu c1 1 = ch ∧ Cu c1 7 = 1 ∧ x = dc (Cu c1 8) (po (Cu c1 2) i1)) ∨ ((∀ c2 i2, c2 < 8 → i2 < 3 → v = nI c2 → vi = nI i2 → Cu c2 0 = 1 → Cu c2 1 = ch → Cu c2 7 = 1 → False) ∧ x = 0)) ∧ w = (xw kA ad sz ch mc T Cu mt fa)) := by
  refine ct_of (by decide) (Nat.le_of_ble_eq_true rfl) rfl ?_
  intro pg en s0 m0 args below meth cod C
  refine v_aload_n C d_TT_part_0 rfl ?_
  refine v_iload_n C d_TT_part_1 rfl ?_
  refine v_cI C (As := [.int v]) (st := []) (c_TT_state l D kA ad sz ch mc T Cu mt fa v hco hch) cv_TT_state ml_TT_139 d_TT_part_2 ⟨by omega, by decide⟩ xw_rcv ⟨rfl, rfl⟩ rfl ?_
  rintro x9 w9 ⟨hx9, rfl⟩
  rcases hx9 with ⟨c1, hc1, rfl, ho, hv, rfl⟩ | ⟨c1, hc1, rfl, ho, hv, rfl⟩ | ⟨hno, rfl⟩
  · refine v_if_neR C d_TT_part_5 42 (by decide) (fun c0 => False.elim (by exact c0 rfl)) (fun c0 => ?_)
    obtain ⟨ht, htd, hp⟩ := hcp c1 hc1 ho hv
    have hb := (hco c1 hc1).2.1
    refine v_aload_n C d_TT_part_8 rfl ?_
    refine v_getf C i_TT (ci := 2) rfl 1 (by decide) (List.mem_of_getElem? (i := 0) rfl) fl_TT_17 d_TT_part_9 (.ref (ad 0 2)) rfl ?_
    refine v_iload_n C d_TT_part_12 rfl ?_
    refine v_aald C (List.mem_of_getElem? (i := 2) rfl) (t0 := 3) rfl (by omega) (by decide) d_TT_part_13 (ad 2 c1) rfl ?_
    refine v_getf C i_Cur (ci := 1) rfl 7 (by decide) (xm_C0 (show c1 < 10 by omega) (List.mem_of_getElem? (i := 0) rfl)) fl_TT_83 d_TT_part_14 (.int (nI (Cu c1 7))) rfl ?_
    refine v_if_eq C d_TT_part_17 42 (by decide) (by omega) (fun c2 => ?_) (fun c2 => ?_)
    · have hz := c2
      refine v_iconst C d_TT_part_42 (nI 0) (by decide) ?_
      exact v_iret C rfl d_TT_part_43 (⟨_, rfl, Or.inr ⟨fun c9 i9 h1 h2 e1 e2 h3 h4 h5 => by obtain rfl := (nI_eq (by omega) (by omega)).mp e1; omega, rfl⟩, rfl⟩)
    · rcases pk_ix vi (n := 3) (by omega) with hv3 | hv3 | ⟨k1, hk1, rfl⟩
      · refine v_iload_n C d_TT_part_20 rfl ?_
        refine v_if_ltR C d_TT_part_21 42 (by decide) (fun c3 => ?_) (fun c3 => False.elim (by exact c3 hv3))
        refine v_iconst C d_TT_part_42 (nI 0) (by decide) ?_
        exact v_iret C rfl d_TT_part_43 (⟨_, rfl, Or.inr ⟨fun c9 i9 h1 h2 e1 e2 h3 h4 h5 => nI_ne_neg hv3 (by omega) e2, rfl⟩, rfl⟩)
      · refine v_iload_n C d_TT_part_20 rfl ?_
        refine v_if_ltR C d_TT_part_21 42 (by decide) (fun c3 => False.elim (by exact nI_ge_n0 hv3 (by decide) c3)) (fun c3 => ?_)
        refine v_iload_n C d_TT_part_24 rfl ?_
        refine v_iconst C d_TT_part_25 (nI 3) (by decide) ?_
        refine v_icmp_geR C d_TT_part_26 42 (by decide) (fun c4 => ?_) (fun c4 => False.elim (by exact c4 hv3))
        refine v_iconst C d_TT_part_42 (nI 0) (by decide) ?_
        exact v_iret C rfl d_TT_part_43 (⟨_, rfl, Or.inr ⟨fun c9 i9 h1 h2 e1 e2 h3 h4 h5 => nI_ge_ne hv3 h2 (by decide) e2, rfl⟩, rfl⟩)
      · refine v_iload_n C d_TT_part_20 rfl ?_
        refine v_if_ltR C d_TT_part_21 42 (by decide) (fun c3 => False.elim (by exact nI_pos (by omega) c3)) (fun c3 => ?_)
        refine v_iload_n C d_TT_part_24 rfl ?_
        refine v_iconst C d_TT_part_25 (nI 3) (by decide) ?_
        refine v_icmp_ge C d_TT_part_26 42 (by decide) (by omega) (by omega) (fun c4 => False.elim (by omega)) (fun c4 => ?_)
        refine v_aload_n C d_TT_part_29 rfl ?_
        refine v_getf C i_TT (ci := 2) rfl 1 (by decide) (List.mem_of_getElem? (i := 0) rfl) fl_TT_17 d_TT_part_30 (.ref (ad 0 2)) rfl ?_
        refine v_iload_n C d_TT_part_33 rfl ?_
        refine v_aald C (List.mem_of_getElem? (i := 2) rfl) (t0 := 3) rfl (by omega) (by decide) d_TT_part_34 (ad 2 c1) rfl ?_
        refine v_iload_n C d_TT_part_35 rfl ?_
        refine v_ws (ws' := (xw kA ad sz ch mc T (va_up Cu c1 (Cu c1)) mt fa)) (by rw [up_eta]) ?_
        refine v_cSw C (As := [.ref (ad 2 c1), .int (nI k1)]) (st := []) (c_TT_partOf l D kA ad sz ch mc T Cu mt fa c1 k1 (Cu c1) (show c1 < 10 by omega) ht hk1) cv_TT_partOf ml_TT_129 d_TT_part_36 ⟨by omega, by decide⟩ ⟨rfl, rfl⟩ rfl ?_
        rintro _ _ ⟨rfl, rfl⟩
        refine v_goto C d_TT_part_39 43 (by decide) ?_
        exact v_iret C rfl d_TT_part_43 (⟨_, rfl, Or.inl ⟨c1, k1, hc1, hk1, rfl, rfl, ho, hv, by omega, rfl⟩, by rw [up_eta]⟩)
  · refine v_if_neR C d_TT_part_5 42 (by decide) (fun c0 => ?_) (fun c0 => False.elim (by exact absurd c0 (by decide)))
    refine v_iconst C d_TT_part_42 (nI 0) (by decide) ?_
    exact v_iret C rfl d_TT_part_43 (⟨_, rfl, Or.inr ⟨fun c9 i9 h1 h2 e1 e2 h3 h4 h5 => by obtain rfl := (nI_eq (by omega) (by omega)).mp e1; exact hv h4, rfl⟩, rfl⟩)
  · refine v_if_neR C d_TT_part_5 42 (by decide) (fun c0 => ?_) (fun c0 => False.elim (by exact absurd c0 (by decide)))
    refine v_iconst C d_TT_part_42 (nI 0) (by decide) ?_
    exact v_iret C rfl d_TT_part_43 (⟨_, rfl, Or.inr ⟨fun c9 i9 h1 h2 e1 e2 h3 h4 h5 => by have := hno c9 h1 e1; omega, rfl⟩, rfl⟩)

set_option maxHeartbeats 800000 in
set_option maxRecDepth 20000 in
theorem c_TT_at (l : Launch) (D : va_G) (kA : Nat → ClassId) (ad : Nat → Nat → Nat) (sz ch mc : Nat) (T : Nat → TS) (Cu : Nat → Nat → Nat) (mt : Nat → Int32) (fa : Nat → Nat) (dd : Nat → Nat) (LL : Nat → List Nat) (vt vk vi : Int32) (hX : XI T dd LL) (hLI : LI LL) (hsz : sz = (LL 0).length) (hL : (LL 0).length ≤ 520) : Ct l D kA 4 y_TT_at b_TT_at 5 (some .int) [.ref (ad 0 0), .int vt, .int vk, .int vi] (xw kA ad sz ch mc T Cu mt fa) (pI fun x w => (∃ t1 k1 i1, t1 < 3 ∧ k1 < sz ∧ i1 < 3 ∧ vt = nI t1 ∧ vk = nI k1 ∧ vi = nI i1 ∧ x = dc (lg (LL t1) k1) (po t1 i1) ∧ ∃ T', Sm T T' ∧ w = (xw kA ad sz ch mc T' Cu mt fa)) ∨ ((∀ t1 k1 i1, t1 < 3 → k1 < sz → i1 < 3 → vt = nI t1 → vk = nI k1 → vi = nI i1 → False) ∧ x = 0 ∧ w = (xw kA ad sz ch mc T Cu mt fa))) := by
  refine ct_of (by decide) (Nat.le_of_ble_eq_true rfl) rfl ?_
  intro pg en s0 m0 args below meth cod C
  have t30 : (∀ t1 k1 i1, t1 < 3 → k1 < sz → i1 < 3 → vt = nI t1 → vk = nI k1 → vi = nI i1 → False) → V pg l en (rmk 4) s0 m0 args below meth cod D (qA (xw kA ad sz ch mc T Cu mt fa)) 5 0 0 (MQ below (QC D (xw kA ad sz ch mc T Cu mt fa) (pI fun x w => (∃ t1 k1 i1, t1 < 3 ∧ k1 < sz ∧ i1 < 3 ∧ vt = nI t1 ∧ vk = nI k1 ∧ vi = nI i1 ∧ x = dc (lg (LL t1) k1) (po t1 i1) ∧ ∃ T', Sm T T' ∧ w = (xw kA ad sz ch mc T' Cu mt fa)) ∨ ((∀ t1 k1 i1, t1 < 3 → k1 < sz → i1 < 3 → vt = nI t1 → vk = nI k1 → vi = nI i1 → False) ∧ x = 0 ∧ w = (xw kA ad sz ch mc T Cu mt fa)))) args s0 0 0 (qA (xw kA ad sz ch mc T Cu mt fa))) 30 [.ref (ad 0 0), .int vt, .int vk, .int vi] [] (xw kA ad sz ch mc T Cu mt fa) := by
    intro hn
    refine v_iconst C d_TT_at_30 (nI 0) (by decide) ?_
    exact v_iret C rfl d_TT_at_31 (⟨_, rfl, Or.inr ⟨hn, rfl, rfl⟩⟩)
  rcases pk_ix vt (n := 3) (by omega) with hv | hv | ⟨t9, ht9, rfl⟩
  · refine v_iload_n C d_TT_at_0 rfl ?_
    refine v_if_ltR C d_TT_at_1 30 (by decide) (fun c0 => ?_) (fun c0 => False.elim (by exact c0 hv))
    exact t30 (fun t1 k1 i1 z1 z2 z3 z4 z5 z6 => nI_ne_neg hv (by omega) z4)
  · refine v_iload_n C d_TT_at_0 rfl ?_
    refine v_if_ltR C d_TT_at_1 30 (by decide) (fun c0 => False.elim (by exact nI_ge_n0 hv (by decide) c0)) (fun c0 => ?_)
    refine v_iload_n C d_TT_at_4 rfl ?_
    refine v_iconst C d_TT_at_5 (nI 2) (by decide) ?_
    refine v_icmp_gtR C d_TT_at_6 30 (by decide) (fun c1 => ?_) (fun c1 => False.elim (by exact c1 (Int32.lt_of_lt_of_le (show nI 2 < nI 3 by decide) hv)))
    exact t30 (fun t1 k1 i1 z1 z2 z3 z4 z5 z6 => nI_ge_ne hv z1 (by omega) z4)
  · refine v_iload_n C d_TT_at_0 rfl ?_
    refine v_if_ltR C d_TT_at_1 30 (by decide) (fun c0 => False.elim (by exact nI_pos (by omega) c0)) (fun c0 => ?_)
    refine v_iload_n C d_TT_at_4 rfl ?_
    refine v_iconst C d_TT_at_5 (nI 2) (by decide) ?_
    refine v_icmp_gt C d_TT_at_6 30 (by decide) (by omega) (by omega) (fun c1 => False.elim (by omega)) (fun c1 => ?_)
    refine v_iload_n C d_TT_at_9 rfl ?_
    rcases pk_ix vk (n := sz) (by omega) with hv | hv | ⟨k9, hk9, rfl⟩
    · refine v_if_ltR C d_TT_at_10 30 (by decide) (fun c2 => ?_) (fun c2 => False.elim (by exact c2 hv))
      exact t30 (fun t1 k1 i1 z1 z2 z3 z4 z5 z6 => nI_ne_neg hv (by omega) z5)
    · refine v_if_ltR C d_TT_at_10 30 (by decide) (fun c2 => False.elim (by exact nI_ge_n0 hv (by omega) c2)) (fun c2 => ?_)
      refine v_iload_n C d_TT_at_13 rfl ?_
      refine v_aload_n C d_TT_at_14 rfl ?_
      refine v_getf C i_TT (ci := 2) rfl 2 (by decide) (List.mem_of_getElem? (i := 0) rfl) fl_TT_48 d_TT_at_15 (.int (nI sz)) rfl ?_
      refine v_icmp_geR C d_TT_at_18 30 (by decide) (fun c3 => ?_) (fun c3 => False.elim (by exact c3 hv))
      exact t30 (fun t1 k1 i1 z1 z2 z3 z4 z5 z6 => nI_ge_ne hv z2 (by omega) z5)
    · refine v_if_ltR C d_TT_at_10 30 (by decide) (fun c2 => False.elim (by exact nI_pos (by omega) c2)) (fun c2 => ?_)
      refine v_iload_n C d_TT_at_13 rfl ?_
      refine v_aload_n C d_TT_at_14 rfl ?_
      refine v_getf C i_TT (ci := 2) rfl 2 (by decide) (List.mem_of_getElem? (i := 0) rfl) fl_TT_48 d_TT_at_15 (.int (nI sz)) rfl ?_
      refine v_icmp_ge C d_TT_at_18 30 (by decide) (by omega) (by omega) (fun c3 => False.elim (by omega)) (fun c3 => ?_)
      refine v_iload_n C d_TT_at_21 rfl ?_
      rcases pk_ix vi (n := 3) (by omega) with hv | hv | ⟨i9, hi9, rfl⟩
      · refine v_if_ltR C d_TT_at_22 30 (by decide) (fun c4 => ?_) (fun c4 => False.elim (by exact c4 hv))
        exact t30 (fun t1 k1 i1 z1 z2 z3 z4 z5 z6 => nI_ne_neg hv (by omega) z6)
      · refine v_if_ltR C d_TT_at_22 30 (by decide) (fun c4 => False.elim (by exact nI_ge_n0 hv (by decide) c4)) (fun c4 => ?_)
        refine v_iload_n C d_TT_at_25 rfl ?_
        refine v_iconst C d_TT_at_26 (nI 2) (by decide) ?_
        refine v_icmp_leR C d_TT_at_27 32 (by decide) (fun c5 => False.elim (by exact Int32.not_lt.mpr c5 (Int32.lt_of_lt_of_le (show nI 2 < nI 3 by decide) hv))) (fun c5 => ?_)
        exact t30 (fun t1 k1 i1 z1 z2 z3 z4 z5 z6 => nI_ge_ne hv z3 (by omega) z6)
      · refine v_if_ltR C d_TT_at_22 30 (by decide) (fun c4 => False.elim (by exact nI_pos (by omega) c4)) (fun c4 => ?_)
        refine v_iload_n C d_TT_at_25 rfl ?_
        refine v_iconst C d_TT_at_26 (nI 2) (by decide) ?_
        refine v_icmp_le C d_TT_at_27 32 (by decide) (by omega) (by omega) (fun c5 => ?_) (fun c5 => False.elim (by omega))
        refine v_aload_n C d_TT_at_32 rfl ?_
        refine v_getf C i_TT (ci := 2) rfl 0 (by decide) (List.mem_of_getElem? (i := 0) rfl) fl_TT_9 d_TT_at_33 (.ref (ad 0 1)) rfl ?_
        refine v_iload_n C d_TT_at_36 rfl ?_
        refine v_aald C (List.mem_of_getElem? (i := 1) rfl) (t0 := 2) rfl (by omega) (by decide) d_TT_at_37 (ad 1 t9) rfl ?_
        refine v_astore C d_TT_at_38 ⟨Nat.le_of_ble_eq_true rfl, Nat.le_of_ble_eq_true rfl⟩ [.ref (ad 0 0), .int (nI t9), .int (nI k9), .int (nI i9), .ref (ad 1 t9)] rfl ?_
        have hlt := (hLI.1 _ ht9).2.2
        refine v_ws (xw_ts t9) ?_
        refine v_aload C d_TT_at_40 rfl ?_
        refine v_iload_n C d_TT_at_42 rfl ?_
        refine v_tV C ht9 (x := ((T t9).1, scf ((T t9).2 0) ((T t9).2 1) ((T t9).2 2) ((T t9).2 3) ((T t9).2 4) ((T t9).2 5))) (As := [.int (nI k9)]) (st := []) (c_Tree_find l D kA (ad 1 t9) (ad (3 + t9)) ((T t9).1) ((T t9).2 0) ((T t9).2 1) ((T t9).2 2) ((T t9).2 3) ((T t9).2 4) ((T t9).2 5) k9 (dd t9) (LL t9) (hX _ ht9) (by omega) (by omega)) cv_Tree_find ml_TT_146 d_TT_at_43 ⟨by omega, by decide⟩ rfl ⟨rfl, rfl⟩ rfl ?_
        rintro _ ⟨n, p9, A, B, rfl, hl, hk0, hp⟩
        refine ⟨((T t9).1, scf ((T t9).2 0) ((T t9).2 1) ((T t9).2 2) ((T t9).2 3) n p9), rfl, ?_⟩
        obtain ⟨hn, hnc, -, -⟩ := (hX _ ht9).leaf (m := n) (by rw [hl]; exact List.mem_append_right _ List.mem_cons_self)
        have hlg := (ps_lg (hX _ ht9) hl hp).2
        rw [← hk0] at hlg
        refine v_aload C d_TT_at_46 rfl ?_
        refine v_aload C d_TT_at_48 rfl ?_
        refine v_getf C i_Tree (ci := 0) rfl 10 (by decide) (xm_T ht9 (List.mem_of_getElem? (i := 0) rfl)) fl_TT_150 d_TT_at_50 (.int (nI n)) rfl ?_
        refine v_aload C d_TT_at_53 rfl ?_
        refine v_getf C i_Tree (ci := 0) rfl 11 (by decide) (xm_T ht9 (List.mem_of_getElem? (i := 0) rfl)) fl_TT_153 d_TT_at_55 (.int (nI p9)) rfl ?_
        refine v_iload_n C d_TT_at_58 rfl ?_
        refine v_iconst C d_TT_at_59 (nI 3) (by decide) ?_
        refine v_iadd C d_TT_at_60 ?_
        refine v_iload_n C d_TT_at_61 rfl ?_
        refine v_isub C d_TT_at_62 (by omega) ?_
        refine v_iconst C d_TT_at_63 (nI 3) (by decide) ?_
        refine v_irem C d_TT_at_64 (by omega) (by omega) (by omega) ?_
        refine v_tI C ht9 (x := ((T t9).1, scf ((T t9).2 0) ((T t9).2 1) ((T t9).2 2) ((T t9).2 3) n p9)) (As := [.int (nI n), .int (nI p9), .int (nI (((i9 + 3) - t9) % 3))]) (st := []) (c_Tree_part l D kA (ad 1 t9) (ad (3 + t9)) ((T t9).1) ((T t9).2 0) ((T t9).2 1) ((T t9).2 2) ((T t9).2 3) n p9 n p9 ((i9 + 3 - t9) % 3) hn (by omega) (by omega)) cv_Tree_part ml_TT_110 d_TT_at_65 ⟨by omega, by decide⟩ rfl ⟨rfl, rfl⟩ rfl ?_
        rintro _ _ ⟨rfl, rfl⟩
        refine ⟨((T t9).1, scf ((T t9).2 0) ((T t9).2 1) ((T t9).2 2) ((T t9).2 3) n p9), rfl, ?_⟩
        exact v_iret C rfl d_TT_at_68 (⟨_, rfl, Or.inl ⟨t9, k9, i9, ht9, hk9, hi9, rfl, rfl, rfl, by rw [hlg]; rfl, _, Sm.up (x := ((T t9).1, scf ((T t9).2 0) ((T t9).2 1) ((T t9).2 2) ((T t9).2 3) n p9)) rfl rfl rfl, rfl⟩⟩)

set_option maxHeartbeats 800000 in
set_option maxRecDepth 20000 in
theorem c_TT_before (l : Launch) (D : va_G) (kA : Nat → ClassId) (ad : Nat → Nat → Nat) (sz ch mc : Nat) (T : Nat → TS) (Cu : Nat → Nat → Nat) (mt : Nat → Int32) (fa : Nat → Nat) (dd : Nat → Nat) (LL : Nat → List Nat) (v : Int32) (vs vp vo : Int32) (hX : XI T dd LL) : Ct l D kA 4 y_TT_before b_TT_before 5 (some .int) [.ref (ad 0 0), .int v, .int vs, .int vp, .int vo] (xw kA ad sz ch mc T Cu mt fa) (pI fun x w => (∃ t1, t1 < 3 ∧ v = nI t1 ∧ x = nI (blw (LL t1) (ec t1 vs vp vo)) ∧ ∃ T', Sm T T' ∧ w = (xw kA ad sz ch mc T' Cu mt fa)) ∨ ((∀ t2, t2 < 3 → v ≠ nI t2) ∧ x = -1 ∧ w = (xw kA ad sz ch mc T Cu mt fa))) := by
  refine ct_of (by decide) (Nat.le_of_ble_eq_true rfl) rfl ?_
  intro pg en s0 m0 args below meth cod C
  rcases pk_ix v (n := 3) (by omega) with hv | hv | ⟨t9, ht9, rfl⟩
  · refine v_iload_n C d_TT_before_0 rfl ?_
    refine v_if_ltR C d_TT_before_1 9 (by decide) (fun c0 => ?_) (fun c0 => False.elim (by exact c0 hv))
    refine v_iconst C d_TT_before_9 (-1) (by decide) ?_
    refine v_goto C d_TT_before_10 25 (by decide) ?_
    exact v_iret C rfl d_TT_before_25 (⟨_, rfl, Or.inr ⟨fun t2 z => nI_ne_neg hv (by omega), rfl, rfl⟩⟩)
  · refine v_iload_n C d_TT_before_0 rfl ?_
    refine v_if_ltR C d_TT_before_1 9 (by decide) (fun c0 => False.elim (by exact nI_ge_n0 hv (by decide) c0)) (fun c0 => ?_)
    refine v_iload_n C d_TT_before_4 rfl ?_
    refine v_iconst C d_TT_before_5 (nI 2) (by decide) ?_
    refine v_icmp_leR C d_TT_before_6 13 (by decide) (fun c1 => False.elim (by exact Int32.not_lt.mpr c1 (Int32.lt_of_lt_of_le (show nI 2 < nI 3 by decide) hv))) (fun c1 => ?_)
    refine v_iconst C d_TT_before_9 (-1) (by decide) ?_
    refine v_goto C d_TT_before_10 25 (by decide) ?_
    exact v_iret C rfl d_TT_before_25 (⟨_, rfl, Or.inr ⟨fun t2 z => nI_ge_ne hv z (by decide), rfl, rfl⟩⟩)
  · refine v_iload_n C d_TT_before_0 rfl ?_
    refine v_if_ltR C d_TT_before_1 9 (by decide) (fun c0 => False.elim (by exact nI_pos (by omega) c0)) (fun c0 => ?_)
    refine v_iload_n C d_TT_before_4 rfl ?_
    refine v_iconst C d_TT_before_5 (nI 2) (by decide) ?_
    refine v_icmp_le C d_TT_before_6 13 (by decide) (by omega) (by omega) (fun c1 => ?_) (fun c1 => False.elim (by omega))
    refine v_aload_n C d_TT_before_13 rfl ?_
    refine v_iload_n C d_TT_before_14 rfl ?_
    refine v_iload_n C d_TT_before_15 rfl ?_
    refine v_iload_n C d_TT_before_16 rfl ?_
    refine v_iload C d_TT_before_17 rfl ?_
    refine v_cR C (As := [.int (nI t9), .int vs, .int vp, .int vo]) (st := []) (c_TT_tell l D kA ad sz ch mc T Cu mt fa t9 vs vp vo ht9) cv_TT_tell ml_TT_41 d_TT_before_19 ⟨by omega, by decide⟩ xw_rcv ⟨rfl, rfl⟩ rfl ?_
    rintro _ _ ⟨rfl, rfl⟩
    refine v_tI C ht9 (x := ((T t9).1, scf ((T t9).2 0) ((T t9).2 1) (ec t9 vs vp vo) ((T t9).2 3) ((T t9).2 4) ((T t9).2 5))) (As := []) (st := []) (c_Tree_rank l D kA (ad 1 t9) (ad (3 + t9)) ((T t9).1) ((T t9).2 0) ((T t9).2 1) (ec t9 vs vp vo) ((T t9).2 3) ((T t9).2 4) ((T t9).2 5) (dd t9) (LL t9) (hX _ ht9) (ec_lt _ _ _ _)) cv_Tree_rank ml_TT_156 d_TT_before_22 ⟨by omega, by decide⟩ rfl ⟨rfl, rfl⟩ rfl ?_
    rintro _ _ ⟨P, S, rfl, hL9, hP, hS, rfl⟩
    refine ⟨((T t9).1, scf ((T t9).2 0) ((T t9).2 1) (ec t9 vs vp vo) ((T t9).2 3) ((T t9).2 4) ((T t9).2 5)), rfl, ?_⟩
    exact v_iret C rfl d_TT_before_25 (⟨_, rfl, Or.inl ⟨t9, ht9, rfl, by rw [blw_app hL9 hP hS], _, Sm.ks _ _ _, rfl⟩⟩)

theorem dfc_le (L : List Nat) : ∀ k, dfc L k ≤ k
  | 0 => Nat.le_refl _
  | k + 1 => by
    rw [dfc]
    have := dfc_le L k
    split <;> omega
theorem dfc_pos (L : List Nat) : ∀ k, 0 < k → 0 < dfc L k
  | 0, h => absurd h (Nat.lt_irrefl _)
  | k + 1, _ => by
    rw [dfc]
    by_cases hk : k = 0
    · rw [if_pos (Or.inl hk)]; omega
    · have := dfc_pos L k (by omega); omega
theorem MN0 : enc MN MN MN = 0 := by
  unfold enc
  have h := eI_MN
  simp only [h, Nat.zero_mul, Nat.add_zero]

set_option maxHeartbeats 800000 in
set_option maxRecDepth 20000 in
theorem c_TT_different (l : Launch) (D : va_G) (kA : Nat → ClassId) (ad : Nat → Nat → Nat) (sz ch mc : Nat) (T : Nat → TS) (Cu : Nat → Nat → Nat) (mt : Nat → Int32) (fa : Nat → Nat) (dd : Nat → Nat) (LL : Nat → List Nat) (v : Int32) (hX : XI T dd LL) (hLI : LI LL) (hL : (LL 0).length ≤ 520) : Ct l D kA 5 y_TT_different b_TT_different 4 (some .int) [.ref (ad 0 0), .int v] (xw kA ad sz ch mc T Cu mt fa) (pI fun x w => (∃ t1, t1 < 3 ∧ v = nI t1 ∧ x = nI (dfc (LL t1) (LL t1).length) ∧ ∃ (T' : Nat → TS) (X' : Nat → Nat), Sm T T' ∧ w = (xw kA ad sz ch mc T' (va_up Cu 8 X') mt fa)) ∨ ((∀ t2, t2 < 3 → v ≠ nI t2) ∧ x = -1 ∧ w = (xw kA ad sz ch mc T Cu mt fa))) := by
  refine ct_of (by decide) (Nat.le_of_ble_eq_true rfl) rfl ?_
  intro pg en s0 m0 args below meth cod C
  rcases pk_ix v (n := 3) (by omega) with hv | hv | ⟨t9, ht9, rfl⟩
  · refine v_iload_n C d_TT_different_0 rfl ?_
    refine v_if_ltR C d_TT_different_1 9 (by decide) (fun c0 => ?_) (fun c0 => False.elim (by exact c0 hv))
    refine v_iconst C d_TT_different_9 (-1) (by decide) ?_
    exact v_iret C rfl d_TT_different_10 (⟨_, rfl, Or.inr ⟨fun t2 z => nI_ne_neg hv (by omega), rfl, rfl⟩⟩)
  · refine v_iload_n C d_TT_different_0 rfl ?_
    refine v_if_ltR C d_TT_different_1 9 (by decide) (fun c0 => False.elim (by exact nI_ge_n0 hv (by decide) c0)) (fun c0 => ?_)
    refine v_iload_n C d_TT_different_4 rfl ?_
    refine v_iconst C d_TT_different_5 (nI 2) (by decide) ?_
    refine v_icmp_leR C d_TT_different_6 11 (by decide) (fun c1 => False.elim (by exact Int32.not_lt.mpr c1 (Int32.lt_of_lt_of_le (show nI 2 < nI 3 by decide) hv))) (fun c1 => ?_)
    refine v_iconst C d_TT_different_9 (-1) (by decide) ?_
    exact v_iret C rfl d_TT_different_10 (⟨_, rfl, Or.inr ⟨fun t2 z => nI_ge_ne hv z (by decide), rfl, rfl⟩⟩)
  · refine v_iload_n C d_TT_different_0 rfl ?_
    refine v_if_ltR C d_TT_different_1 9 (by decide) (fun c0 => False.elim (by exact nI_pos (by omega) c0)) (fun c0 => ?_)
    refine v_iload_n C d_TT_different_4 rfl ?_
    refine v_iconst C d_TT_different_5 (nI 2) (by decide) ?_
    refine v_icmp_le C d_TT_different_6 11 (by decide) (by omega) (by omega) (fun c1 => ?_) (fun c1 => False.elim (by omega))
    have hlt := (hLI.1 _ ht9).2.2
    refine v_iconst C d_TT_different_11 (nI 0) (by decide) ?_
    refine v_istore_n C d_TT_different_12 ⟨Nat.le_of_ble_eq_true rfl, Nat.le_of_ble_eq_true rfl⟩ [.ref (ad 0 0), .int (nI t9), .int (nI 0)] rfl ?_
    refine v_iconst C d_TT_different_13 (nI 0) (by decide) ?_
    refine v_istore_n C d_TT_different_14 ⟨Nat.le_of_ble_eq_true rfl, Nat.le_of_ble_eq_true rfl⟩ [.ref (ad 0 0), .int (nI t9), .int (nI 0), .int (nI 0)] rfl ?_
    refine v_ws (ws' := (xw kA ad sz ch mc T (va_up Cu 8 (Cu 8)) mt fa)) (by rw [up_eta]) ?_
    refine v_aload_n C d_TT_different_15 rfl ?_
    refine v_aload_n C d_TT_different_16 rfl ?_
    refine v_getf C i_TT (ci := 2) rfl 7 (by decide) (List.mem_of_getElem? (i := 0) rfl) fl_TT_29 d_TT_different_17 (.ref (ad 2 8)) rfl ?_
    refine v_iconst C d_TT_different_20 (nI 0) (by decide) ?_
    refine v_iconst C d_TT_different_21 (nI 0) (by decide) ?_
    refine v_iconst C d_TT_different_22 (nI 0) (by decide) ?_
    refine v_iconst C d_TT_different_23 (nI 0) (by decide) ?_
    refine v_cV C (As := [.ref (ad 2 8), .int (nI 0), .int (nI 0), .int (nI 0), .int (nI 0)]) (st := []) (c_TT_begin l D kA ad sz ch mc T Cu mt fa dd LL 8 0 (Cu 8) (nI 0) (nI 0) (nI 0) hX (by decide) (by decide)) cv_TT_begin ml_TT_121 d_TT_different_24 ⟨by omega, by decide⟩ xw_rcv ⟨rfl, rfl⟩ rfl ?_
    rintro _ ⟨T1, X1, sm1, rfl, b01, b11, b21, b31, b41, b71, hps1⟩
    have hX1 := sm1.XI hX
    refine v_ws (xw_cux 8 X1) ?_
    refine v_aload_n C d_TT_different_27 rfl ?_
    refine v_getf C i_TT (ci := 2) rfl 7 (by decide) (List.mem_of_getElem? (i := 0) rfl) fl_TT_29 d_TT_different_28 (.ref (ad 2 8)) rfl ?_
    refine v_iload_n C d_TT_different_31 rfl ?_
    refine v_putf C i_Cur (ci := 1) (ws' := (xw kA ad sz ch mc T1 (va_up Cu 8 (cu (X1 0) (X1 1) t9 (X1 3) (X1 4) (X1 5) (X1 6) (X1 7) (X1 8))) mt fa)) t_Cur_ok n_Cur rfl 2 (by decide) (xs_C (by decide) ⟨0, rfl, rfl⟩) fl_TT_72 d_TT_different_32 rfl (rfl) (rfl) (Nat.le_of_ble_eq_true rfl) rfl ?_
    refine v_aload_n C d_TT_different_35 rfl ?_
    refine v_getf C i_TT (ci := 2) rfl 0 (by decide) (List.mem_of_getElem? (i := 0) rfl) fl_TT_9 d_TT_different_36 (.ref (ad 0 1)) rfl ?_
    refine v_iload_n C d_TT_different_39 rfl ?_
    refine v_aald C (List.mem_of_getElem? (i := 1) rfl) (t0 := 2) rfl (by omega) (by decide) d_TT_different_40 (ad 1 t9) rfl ?_
    refine v_ws (xw_ts t9) ?_
    refine v_ldc C (v := MN) cn_TT_91 d_TT_different_41 ?_
    refine v_ldc C (v := MN) cn_TT_91 d_TT_different_43 ?_
    refine v_ldc C (v := MN) cn_TT_91 d_TT_different_45 ?_
    refine v_tV C ht9 (x := ((T1 t9).1, scf ((T1 t9).2 0) ((T1 t9).2 1) ((T1 t9).2 2) ((T1 t9).2 3) ((T1 t9).2 4) ((T1 t9).2 5))) (As := [.int MN, .int MN, .int MN]) (st := []) (c_Tree_tell l D kA (ad 1 t9) (ad (3 + t9)) ((T1 t9).1) ((T1 t9).2 0) ((T1 t9).2 1) ((T1 t9).2 2) ((T1 t9).2 3) ((T1 t9).2 4) ((T1 t9).2 5) MN MN MN) cv_Tree_tell ml_TT_37 d_TT_different_47 ⟨by omega, by decide⟩ rfl ⟨rfl, rfl⟩ rfl ?_
    rintro _ rfl
    refine ⟨((T1 t9).1, scf ((T1 t9).2 0) ((T1 t9).2 1) (enc MN MN MN) ((T1 t9).2 3) ((T1 t9).2 4) ((T1 t9).2 5)), rfl, ?_⟩
    refine v_aload_n C d_TT_different_50 rfl ?_
    refine v_getf C i_TT (ci := 2) rfl 7 (by decide) (List.mem_of_getElem? (i := 0) rfl) fl_TT_29 d_TT_different_51 (.ref (ad 2 8)) rfl ?_
    refine v_aload_n C d_TT_different_54 rfl ?_
    refine v_getf C i_TT (ci := 2) rfl 0 (by decide) (List.mem_of_getElem? (i := 0) rfl) fl_TT_9 d_TT_different_55 (.ref (ad 0 1)) rfl ?_
    refine v_iload_n C d_TT_different_58 rfl ?_
    refine v_aald C (List.mem_of_getElem? (i := 1) rfl) (t0 := 2) rfl (by omega) (by decide) d_TT_different_59 (ad 1 t9) rfl ?_
    refine v_tI C ht9 (x := ((T1 t9).1, scf ((T1 t9).2 0) ((T1 t9).2 1) (enc MN MN MN) ((T1 t9).2 3) ((T1 t9).2 4) ((T1 t9).2 5))) (As := []) (st := [.ref (ad 2 8)]) (c_Tree_leaf l D kA (ad 1 t9) (ad (3 + t9)) ((T1 t9).1) ((T1 t9).2 0) ((T1 t9).2 1) (enc MN MN MN) ((T1 t9).2 3) ((T1 t9).2 4) ((T1 t9).2 5) (dd t9) (LL t9) (hX1 _ ht9) (enc_lt _ _ _)) cv_Tree_leaf ml_TT_92 d_TT_different_60 ⟨by omega, by decide⟩ rfl ⟨rfl, rfl⟩ rfl ?_
    rintro _ _ ⟨n, A, B, rfl, hl, hA, hB, rfl⟩
    refine ⟨((T1 t9).1, scf ((T1 t9).2 0) ((T1 t9).2 1) (enc MN MN MN) ((T1 t9).2 3) ((T1 t9).2 4) ((T1 t9).2 5)), rfl, ?_⟩
    refine v_putf C i_Cur (ci := 1) (ws' := (xw kA ad sz ch mc (va_up T1 t9 ((T1 t9).1, scf ((T1 t9).2 0) ((T1 t9).2 1) (enc MN MN MN) ((T1 t9).2 3) ((T1 t9).2 4) ((T1 t9).2 5))) (va_up Cu 8 (cu (X1 0) (X1 1) t9 (X1 3) (X1 4) n (X1 6) (X1 7) (X1 8))) mt fa)) t_Cur_ok n_Cur rfl 5 (by decide) (xs_C (by decide) ⟨0, rfl, rfl⟩) fl_TT_96 d_TT_different_63 rfl (rfl) (rfl) (Nat.le_of_ble_eq_true rfl) rfl ?_
    refine v_aload_n C d_TT_different_66 rfl ?_
    refine v_getf C i_TT (ci := 2) rfl 7 (by decide) (List.mem_of_getElem? (i := 0) rfl) fl_TT_29 d_TT_different_67 (.ref (ad 2 8)) rfl ?_
    refine v_iconst C d_TT_different_70 (nI 0) (by decide) ?_
    refine v_putf C i_Cur (ci := 1) (ws' := (xw kA ad sz ch mc (va_up T1 t9 ((T1 t9).1, scf ((T1 t9).2 0) ((T1 t9).2 1) (enc MN MN MN) ((T1 t9).2 3) ((T1 t9).2 4) ((T1 t9).2 5))) (va_up Cu 8 (cu (X1 0) (X1 1) t9 (X1 3) (X1 4) n 0 (X1 7) (X1 8))) mt fa)) t_Cur_ok n_Cur rfl 6 (by decide) (xs_C (by decide) ⟨0, rfl, rfl⟩) fl_TT_101 d_TT_different_71 rfl (rfl) (rfl) (Nat.le_of_ble_eq_true rfl) rfl ?_
    obtain ⟨T2, hT2, sm2⟩ : ∃ T2, T2 = va_up T1 t9 ((T1 t9).1, scf ((T1 t9).2 0) ((T1 t9).2 1) (enc MN MN MN) ((T1 t9).2 3) ((T1 t9).2 4) ((T1 t9).2 5)) ∧ Sm T1 T2 := ⟨_, rfl, Sm.up (x := ((T1 t9).1, scf ((T1 t9).2 0) ((T1 t9).2 1) (enc MN MN MN) ((T1 t9).2 3) ((T1 t9).2 4) ((T1 t9).2 5))) rfl rfl rfl⟩
    rw [← hT2]
    have hX2 := sm2.XI hX1
    have hA0 : A.flatMap (ksO (T1 t9).1) = [] := List.eq_nil_iff_forall_not_mem.mpr (fun y hy => by have := hA y hy; rw [MN0] at this; omega)
    have hps : ps (T2 t9) (dd t9) (LL t9) n 0 0 := ps.sm (x := T1 t9) (Or.inr ⟨A, B, hl, Nat.zero_le _, by rw [hA0]; rfl⟩) (sm2 _).1 (sm2 _).2.2
    obtain ⟨X2, hX20, d2, d3, d5, d6⟩ : ∃ X2 : Nat → Nat, X2 = (cu (X1 0) (X1 1) t9 (X1 3) (X1 4) n 0 (X1 7) (X1 8)) ∧ X2 2 = t9 ∧ X2 3 = 0 ∧ X2 5 = n ∧ X2 6 = 0 := ⟨_, rfl, rfl, b31, rfl, rfl⟩
    rw [← hX20]
    have lp : ∀ (t8 : Nat) (j : Nat) (X3 : Nat → Nat) (la : Int32), (LL t9).length - j < t8 → j ≤ (LL t9).length → X3 2 = t9 → X3 3 = 0 → ps (T2 t9) (dd t9) (LL t9) (X3 5) (X3 6) j → (j ≠ 0 → la = dc (lg (LL t9) (j - 1)) 0) → V pg l en (rmk 5) s0 m0 args below meth cod D (qA (xw kA ad sz ch mc T Cu mt fa)) 4 0 0 (MQ below (QC D (xw kA ad sz ch mc T Cu mt fa) (pI fun x w => (∃ t1, t1 < 3 ∧ (nI t9) = nI t1 ∧ x = nI (dfc (LL t1) (LL t1).length) ∧ ∃ (T' : Nat → TS) (X' : Nat → Nat), Sm T T' ∧ w = (xw kA ad sz ch mc T' (va_up Cu 8 X') mt fa)) ∨ ((∀ t2, t2 < 3 → (nI t9) ≠ nI t2) ∧ x = -1 ∧ w = (xw kA ad sz ch mc T Cu mt fa)))) args s0 0 0 (qA (xw kA ad sz ch mc T Cu mt fa))) 74 [.ref (ad 0 0), .int (nI t9), .int (nI (dfc (LL t9) j)), .int la] [] (xw kA ad sz ch mc T2 (va_up Cu 8 X3) mt fa) := by
      intro t8
      induction t8 with
      | zero => intro j X3 la hj; omega
      | succ t8 ih =>
        intro j X3 la hj hjl a2 a3 hq hla
        refine v_aload_n C d_TT_different_74 rfl ?_
        refine v_aload_n C d_TT_different_75 rfl ?_
        refine v_getf C i_TT (ci := 2) rfl 7 (by decide) (List.mem_of_getElem? (i := 0) rfl) fl_TT_29 d_TT_different_76 (.ref (ad 2 8)) rfl ?_
        have hdl := dfc_le (LL t9) j
        refine v_cI C (As := [.ref (ad 2 8)]) (st := []) (c_TT_step l D kA ad sz ch mc T2 Cu mt fa dd LL 8 j X3 hX2 (by decide) (by rw [a2]; exact ht9) (by rw [a3]; exact (by decide)) (by rw [a2]; exact hq)) cv_TT_step ml_TT_125 d_TT_different_79 ⟨by omega, by decide⟩ xw_rcv ⟨rfl, rfl⟩ rfl ?_
        rintro x9 w9 hs9
        rcases stp_of hX2 a2 a3 rfl ht9 hs9 with ⟨hj4, hpm4, rfl, X4, rfl, sq4, x74, x84, hq4, hpl4⟩ | ⟨hno4, rfl, X4, rfl, sq4, x74, x84, hq4⟩
        · refine v_if_eqR C d_TT_different_82 123 (by decide) (fun c0 => False.elim (by exact absurd c0 (by decide))) (fun c0 => ?_)
          refine v_iload_n C d_TT_different_85 rfl ?_
          refine v_iload_n C d_TT_different_86 rfl ?_
          refine v_if_eq C d_TT_different_87 103 (by decide) (by omega) (fun cz => ?_) (fun cz => ?_)
          · have hj0 : j = 0 := by
              by_cases hz : j = 0
              · exact hz
              · have := dfc_pos (LL t9) j (by omega); omega
            refine v_iconst C d_TT_different_103 (nI 1) (by decide) ?_
            refine v_goto C d_TT_different_104 108 (by decide) ?_
            refine v_iadd C d_TT_different_108 ?_
            refine v_top (y := nI (dfc (LL t9) (j + 1))) (show nI ((dfc (LL t9) j) + 1) = nI (dfc (LL t9) (j + 1)) from by rw [dfc, if_pos (Or.inl hj0)]) ?_
            refine v_istore_n C d_TT_different_109 ⟨Nat.le_of_ble_eq_true rfl, Nat.le_of_ble_eq_true rfl⟩ [.ref (ad 0 0), .int (nI t9), .int (nI (dfc (LL t9) (j + 1))), .int la] rfl ?_
            refine v_aload_n C d_TT_different_110 rfl ?_
            refine v_getf C i_TT (ci := 2) rfl 7 (by decide) (List.mem_of_getElem? (i := 0) rfl) fl_TT_29 d_TT_different_111 (.ref (ad 2 8)) rfl ?_
            refine v_getf C i_Cur (ci := 1) rfl 8 (by decide) (xm_C (by decide) (List.mem_of_getElem? (i := 0) rfl)) fl_TT_114 d_TT_different_114 (.ref (ad (6 + 8) 1)) rfl ?_
            refine v_iconst C d_TT_different_117 (nI 0) (by decide) ?_
            refine v_iald C (xm_C (by decide) (List.mem_of_getElem? (i := 2) rfl)) (by omega) (by decide) d_TT_different_118 (dc (X4 8) 0) (rfl) ?_
            rw [x84]
            refine v_istore_n C d_TT_different_119 ⟨Nat.le_of_ble_eq_true rfl, Nat.le_of_ble_eq_true rfl⟩ [.ref (ad 0 0), .int (nI t9), .int (nI (dfc (LL t9) (j + 1))), .int (dc (lg (LL t9) j) 0)] rfl ?_
            refine v_goto C d_TT_different_120 74 (by decide) ?_
            exact ih (j + 1) X4 _ (by omega) (by omega) (sq4.2.2.1.trans a2) (sq4.2.2.2.1.trans a3) hq4 (fun _ => rfl)
          · have hj0 : j ≠ 0 := fun z => cz (by rw [z]; rfl)
            refine v_aload_n C d_TT_different_90 rfl ?_
            refine v_getf C i_TT (ci := 2) rfl 7 (by decide) (List.mem_of_getElem? (i := 0) rfl) fl_TT_29 d_TT_different_91 (.ref (ad 2 8)) rfl ?_
            refine v_getf C i_Cur (ci := 1) rfl 8 (by decide) (xm_C (by decide) (List.mem_of_getElem? (i := 0) rfl)) fl_TT_114 d_TT_different_94 (.ref (ad (6 + 8) 1)) rfl ?_
            refine v_iconst C d_TT_different_97 (nI 0) (by decide) ?_
            refine v_iald C (xm_C (by decide) (List.mem_of_getElem? (i := 2) rfl)) (by omega) (by decide) d_TT_different_98 (dc (X4 8) 0) (rfl) ?_
            refine v_iload_n C d_TT_different_99 rfl ?_
            refine v_icmp_eqR C d_TT_different_100 107 (by decide) (fun ce => ?_) (fun ce => ?_)
            · rw [x84, hla hj0] at ce
              refine v_iconst C d_TT_different_107 (nI 0) (by decide) ?_
              refine v_iadd C d_TT_different_108 ?_
              refine v_top (y := nI (dfc (LL t9) (j + 1))) (show nI ((dfc (LL t9) j) + 0) = nI (dfc (LL t9) (j + 1)) from by rw [dfc, if_neg (fun q => q.elim hj0 (fun y => y ce))]) ?_
              refine v_istore_n C d_TT_different_109 ⟨Nat.le_of_ble_eq_true rfl, Nat.le_of_ble_eq_true rfl⟩ [.ref (ad 0 0), .int (nI t9), .int (nI (dfc (LL t9) (j + 1))), .int la] rfl ?_
              refine v_aload_n C d_TT_different_110 rfl ?_
              refine v_getf C i_TT (ci := 2) rfl 7 (by decide) (List.mem_of_getElem? (i := 0) rfl) fl_TT_29 d_TT_different_111 (.ref (ad 2 8)) rfl ?_
              refine v_getf C i_Cur (ci := 1) rfl 8 (by decide) (xm_C (by decide) (List.mem_of_getElem? (i := 0) rfl)) fl_TT_114 d_TT_different_114 (.ref (ad (6 + 8) 1)) rfl ?_
              refine v_iconst C d_TT_different_117 (nI 0) (by decide) ?_
              refine v_iald C (xm_C (by decide) (List.mem_of_getElem? (i := 2) rfl)) (by omega) (by decide) d_TT_different_118 (dc (X4 8) 0) (rfl) ?_
              rw [x84]
              refine v_istore_n C d_TT_different_119 ⟨Nat.le_of_ble_eq_true rfl, Nat.le_of_ble_eq_true rfl⟩ [.ref (ad 0 0), .int (nI t9), .int (nI (dfc (LL t9) (j + 1))), .int (dc (lg (LL t9) j) 0)] rfl ?_
              refine v_goto C d_TT_different_120 74 (by decide) ?_
              exact ih (j + 1) X4 _ (by omega) (by omega) (sq4.2.2.1.trans a2) (sq4.2.2.2.1.trans a3) hq4 (fun _ => rfl)
            · rw [x84, hla hj0] at ce
              refine v_iconst C d_TT_different_103 (nI 1) (by decide) ?_
              refine v_goto C d_TT_different_104 108 (by decide) ?_
              refine v_iadd C d_TT_different_108 ?_
              refine v_top (y := nI (dfc (LL t9) (j + 1))) (show nI ((dfc (LL t9) j) + 1) = nI (dfc (LL t9) (j + 1)) from by rw [dfc, if_pos (Or.inr ce)]) ?_
              refine v_istore_n C d_TT_different_109 ⟨Nat.le_of_ble_eq_true rfl, Nat.le_of_ble_eq_true rfl⟩ [.ref (ad 0 0), .int (nI t9), .int (nI (dfc (LL t9) (j + 1))), .int la] rfl ?_
              refine v_aload_n C d_TT_different_110 rfl ?_
              refine v_getf C i_TT (ci := 2) rfl 7 (by decide) (List.mem_of_getElem? (i := 0) rfl) fl_TT_29 d_TT_different_111 (.ref (ad 2 8)) rfl ?_
              refine v_getf C i_Cur (ci := 1) rfl 8 (by decide) (xm_C (by decide) (List.mem_of_getElem? (i := 0) rfl)) fl_TT_114 d_TT_different_114 (.ref (ad (6 + 8) 1)) rfl ?_
              refine v_iconst C d_TT_different_117 (nI 0) (by decide) ?_
              refine v_iald C (xm_C (by decide) (List.mem_of_getElem? (i := 2) rfl)) (by omega) (by decide) d_TT_different_118 (dc (X4 8) 0) (rfl) ?_
              rw [x84]
              refine v_istore_n C d_TT_different_119 ⟨Nat.le_of_ble_eq_true rfl, Nat.le_of_ble_eq_true rfl⟩ [.ref (ad 0 0), .int (nI t9), .int (nI (dfc (LL t9) (j + 1))), .int (dc (lg (LL t9) j) 0)] rfl ?_
              refine v_goto C d_TT_different_120 74 (by decide) ?_
              exact ih (j + 1) X4 _ (by omega) (by omega) (sq4.2.2.1.trans a2) (sq4.2.2.2.1.trans a3) hq4 (fun _ => rfl)
        · refine v_if_eqR C d_TT_different_82 123 (by decide) (fun c0 => ?_) (fun c0 => False.elim (by exact c0 rfl))
          obtain rfl : j = (LL t9).length := by
            by_cases hz : j < (LL t9).length
            · exact absurd ⟨hz, (pm_0 _ _).mpr trivial⟩ hno4
            · omega
          refine v_iload_n C d_TT_different_123 rfl ?_
          exact v_iret C rfl d_TT_different_124 (⟨_, rfl, Or.inl ⟨t9, ht9, rfl, rfl, T2, X4, sm1.tr sm2, rfl⟩⟩)
    exact lp ((LL t9).length + 1) 0 X2 (nI 0) (by omega) (Nat.zero_le _) d2 d3 (by rw [d5, d6]; exact hps) (fun z => absurd rfl z)
