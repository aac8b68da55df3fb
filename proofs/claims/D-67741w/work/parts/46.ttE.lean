/-- what a step from the position j answers, and leaves -/
def Out (mk : (Nat → Nat) → va_W) (tx : TS) (d : Nat) (L : List Nat) (td K : Nat) (X : Nat → Nat) (j : Nat) (x : Int32) (w : va_W) : Prop :=
  (j < L.length ∧ pm td K (lg L j) ∧ x = 1 ∧ ∃ X' : Nat → Nat, w = mk X' ∧ Sq X X' ∧ X' 7 = 1 ∧ X' 8 = lg L j ∧ ps tx d L (X' 5) (X' 6) (j + 1)) ∨ (¬ (j < L.length ∧ pm td K (lg L j)) ∧ x = 0 ∧ ∃ X' : Nat → Nat, w = mk X' ∧ Sq X X' ∧ X' 7 = 0 ∧ ps tx d L (X' 5) (X' 6) j)
/-- the open cursors' numbers are small -/
def CO (Cu : Nat → Nat → Nat) (ch : Nat) : Prop := ∀ j, j < 8 → (Cu j 0 = 0 ∨ Cu j 0 = 1) ∧ (Cu j 7 = 0 ∨ Cu j 7 = 1) ∧ Cu j 1 ≤ ch
/-- where the fresh ones stand -/
def CP (T : Nat → TS) (dd : Nat → Nat) (LL : Nat → List Nat) (Cu : Nat → Nat → Nat) (ch : Nat) (jj : Nat → Nat) : Prop := ∀ c, c < 8 → Cu c 0 = 1 → Cu c 1 = ch → Cu c 2 < 3 ∧ Cu c 3 ≤ 3 ∧ ps (T (Cu c 2)) (dd (Cu c 2)) (LL (Cu c 2)) (Cu c 5) (Cu c 6) (jj c)

set_option maxHeartbeats 800000 in
set_option maxRecDepth 20000 in
theorem c_TT_isOpen (l : Launch) (D : va_G) (kA : Nat → ClassId) (ad : Nat → Nat → Nat) (sz ch mc : Nat) (T : Nat → TS) (Cu : Nat → Nat → Nat) (mt : Nat → Int32) (fa : Nat → Nat) (v : Int32) (hco : CO Cu ch) : Ct l D kA 0 y_TT_isOpen b_TT_isOpen 2 (some .boolean) [.ref (ad 0 0), .int v] (xw kA ad sz ch mc T Cu mt fa) (pI fun x w => ((∃ c1, c1 < 8 ∧ v = nI c1 ∧ Cu c1 0 = 1 ∧ x = 1) ∨ ((∀ c2, c2 < 8 → v = nI c2 → Cu c2 0 = 0) ∧ x = 0)) ∧ w = (xw kA ad sz ch mc T Cu mt fa)) := by
  refine ct_of (by decide) (Nat.le_of_ble_eq_true rfl) rfl ?_
  intro pg en s0 m0 args below meth cod C
  rcases pk_ix v (n := 8) (by omega) with hv | hv | ⟨k1, hk1, rfl⟩
  · refine v_iload_n C d_TT_isOpen_0 rfl ?_
    refine v_if_ltR C d_TT_isOpen_1 26 (by decide) (fun c0 => ?_) (fun c0 => False.elim (by exact c0 hv))
    refine v_iconst C d_TT_isOpen_26 (nI 0) (by decide) ?_
    exact v_zret C rfl (rfl) d_TT_isOpen_27 (⟨_, rfl, Or.inr ⟨fun c2 z e => absurd e (nI_ne_neg hv (by omega)), rfl⟩, rfl⟩)
  · refine v_iload_n C d_TT_isOpen_0 rfl ?_
    refine v_if_ltR C d_TT_isOpen_1 26 (by decide) (fun c0 => False.elim (by exact nI_ge_n0 hv (by decide) c0)) (fun c0 => ?_)
    refine v_iload_n C d_TT_isOpen_4 rfl ?_
    refine v_bipush C d_TT_isOpen_5 (nI 8) (by decide) ?_
    refine v_icmp_geR C d_TT_isOpen_7 26 (by decide) (fun c1 => ?_) (fun c1 => False.elim (by exact c1 hv))
    refine v_iconst C d_TT_isOpen_26 (nI 0) (by decide) ?_
    exact v_zret C rfl (rfl) d_TT_isOpen_27 (⟨_, rfl, Or.inr ⟨fun c2 z e => absurd e (nI_ge_ne hv z (by decide)), rfl⟩, rfl⟩)
  · have hb := (hco k1 hk1).1
    refine v_iload_n C d_TT_isOpen_0 rfl ?_
    refine v_if_ltR C d_TT_isOpen_1 26 (by decide) (fun c0 => False.elim (by exact nI_pos (by omega) c0)) (fun c0 => ?_)
    refine v_iload_n C d_TT_isOpen_4 rfl ?_
    refine v_bipush C d_TT_isOpen_5 (nI 8) (by decide) ?_
    refine v_icmp_ge C d_TT_isOpen_7 26 (by decide) (by omega) (by omega) (fun c1 => False.elim (by omega)) (fun c1 => ?_)
    refine v_aload_n C d_TT_isOpen_10 rfl ?_
    refine v_getf C i_TT (ci := 2) rfl 1 (by decide) (List.mem_of_getElem? (i := 0) rfl) fl_TT_17 d_TT_isOpen_11 (.ref (ad 0 2)) rfl ?_
    refine v_iload_n C d_TT_isOpen_14 rfl ?_
    refine v_aald C (List.mem_of_getElem? (i := 2) rfl) (t0 := 3) rfl (by omega) (by decide) d_TT_isOpen_15 (ad 2 k1) rfl ?_
    refine v_getf C i_Cur (ci := 1) rfl 0 (by decide) (xm_C0 (show k1 < 10 by omega) (List.mem_of_getElem? (i := 0) rfl)) fl_TT_61 d_TT_isOpen_16 (.int (nI (Cu k1 0))) rfl ?_
    refine v_if_eq C d_TT_isOpen_19 26 (by decide) (by omega) (fun c2 => ?_) (fun c2 => ?_)
    · refine v_iconst C d_TT_isOpen_26 (nI 0) (by decide) ?_
      have hz := c2
      exact v_zret C rfl (rfl) d_TT_isOpen_27 (⟨_, rfl, Or.inr ⟨fun c9 z e => by obtain rfl := (nI_eq (by omega) (by omega)).mp e; exact hz, rfl⟩, rfl⟩)
    · refine v_iconst C d_TT_isOpen_22 (nI 1) (by decide) ?_
      refine v_goto C d_TT_isOpen_23 27 (by decide) ?_
      exact v_zret C rfl (rfl) d_TT_isOpen_27 (⟨_, rfl, Or.inl ⟨k1, hk1, rfl, by omega, rfl⟩, rfl⟩)

set_option maxHeartbeats 800000 in
set_option maxRecDepth 20000 in
theorem c_TT_state (l : Launch) (D : va_G) (kA : Nat → ClassId) (ad : Nat → Nat → Nat) (sz ch mc : Nat) (T : Nat → TS) (Cu : Nat → Nat → Nat) (mt : Nat → Int32) (fa : Nat → Nat) (v : Int32) (hco : CO Cu ch) (hch : ch < 2 ^ 31) : Ct l D kA 1 y_TT_state b_TT_state 2 (some .int) [.ref (ad 0 0), .int v] (xw kA ad sz ch mc T Cu mt fa) (pI fun x w => ((∃ c1, c1 < 8 ∧ v = nI c1 ∧ Cu c1 0 = 1 ∧ Cu c1 1 = ch ∧ x = 0) ∨ (∃ c1, c1 < 8 ∧ v = nI c1 ∧ Cu c1 0 = 1 ∧ Cu c1 1 ≠ ch ∧ x = -3) ∨ ((∀ c2, c2 < 8 → v = nI c2 → Cu c2 0 = 0) ∧ x = -1)) ∧ w = (xw kA ad sz ch mc T Cu mt fa)) := by
  refine ct_of (by decide) (Nat.le_of_ble_eq_true rfl) rfl ?_
  intro pg en s0 m0 args below meth cod C
  refine v_aload_n C d_TT_state_0 rfl ?_
  refine v_iload_n C d_TT_state_1 rfl ?_
  refine v_cI C (As := [.int v]) (st := []) (c_TT_isOpen l D kA ad sz ch mc T Cu mt fa v hco) cv_TT_isOpen ml_TT_136 d_TT_state_2 ⟨by omega, by decide⟩ xw_rcv ⟨rfl, rfl⟩ rfl ?_
  rintro x9 w9 ⟨hx9, rfl⟩
  rcases hx9 with ⟨c1, hc1, rfl, ho, rfl⟩ | ⟨hno, rfl⟩
  · refine v_if_neR C d_TT_state_5 12 (by decide) (fun c0 => ?_) (fun c0 => False.elim (by exact absurd c0 (by decide)))
    have hb := (hco c1 hc1).2.2
    refine v_aload_n C d_TT_state_12 rfl ?_
    refine v_getf C i_TT (ci := 2) rfl 1 (by decide) (List.mem_of_getElem? (i := 0) rfl) fl_TT_17 d_TT_state_13 (.ref (ad 0 2)) rfl ?_
    refine v_iload_n C d_TT_state_16 rfl ?_
    refine v_aald C (List.mem_of_getElem? (i := 2) rfl) (t0 := 3) rfl (by omega) (by decide) d_TT_state_17 (ad 2 c1) rfl ?_
    refine v_getf C i_Cur (ci := 1) rfl 1 (by decide) (xm_C0 (show c1 < 10 by omega) (List.mem_of_getElem? (i := 0) rfl)) fl_TT_65 d_TT_state_18 (.int (nI (Cu c1 1))) rfl ?_
    refine v_aload_n C d_TT_state_21 rfl ?_
    refine v_getf C i_TT (ci := 2) rfl 3 (by decide) (List.mem_of_getElem? (i := 0) rfl) fl_TT_55 d_TT_state_22 (.int (nI ch)) rfl ?_
    refine v_icmp_eq C d_TT_state_25 33 (by decide) (by omega) (by omega) (fun cv => ?_) (fun cv => ?_)
    · refine v_iconst C d_TT_state_33 (nI 0) (by decide) ?_
      exact v_iret C rfl d_TT_state_34 (⟨_, rfl, Or.inl ⟨c1, hc1, rfl, ho, cv, rfl⟩, rfl⟩)
    · refine v_bipush C d_TT_state_28 (-3) (by decide) ?_
      refine v_goto C d_TT_state_30 34 (by decide) ?_
      exact v_iret C rfl d_TT_state_34 (⟨_, rfl, Or.inr (Or.inl ⟨c1, hc1, rfl, ho, cv, rfl⟩), rfl⟩)
  · refine v_if_neR C d_TT_state_5 12 (by decide) (fun c0 => False.elim (by exact c0 rfl)) (fun c0 => ?_)
    refine v_iconst C d_TT_state_8 (-1) (by decide) ?_
    refine v_goto C d_TT_state_9 34 (by decide) ?_
    exact v_iret C rfl d_TT_state_34 (⟨_, rfl, Or.inr (Or.inr ⟨hno, rfl⟩), rfl⟩)

set_option maxHeartbeats 800000 in
set_option maxRecDepth 20000 in
theorem c_TT_close (l : Launch) (D : va_G) (kA : Nat → ClassId) (ad : Nat → Nat → Nat) (sz ch mc : Nat) (T : Nat → TS) (Cu : Nat → Nat → Nat) (mt : Nat → Int32) (fa : Nat → Nat) (v : Int32) (hco : CO Cu ch) : Ct l D kA 1 y_TT_close b_TT_close 2 (some .boolean) [.ref (ad 0 0), .int v] (xw kA ad sz ch mc T Cu mt fa) (pI fun x w => (∃ c1, c1 < 8 ∧ v = nI c1 ∧ Cu c1 0 = 1 ∧ x = 1 ∧ w = (xw kA ad sz ch mc T (va_up Cu c1 (cu 0 (Cu c1 1) (Cu c1 2) (Cu c1 3) (Cu c1 4) (Cu c1 5) (Cu c1 6) (Cu c1 7) (Cu c1 8))) mt fa)) ∨ ((∀ c2, c2 < 8 → v = nI c2 → Cu c2 0 = 0) ∧ x = 0 ∧ w = (xw kA ad sz ch mc T Cu mt fa))) := by
  refine ct_of (by decide) (Nat.le_of_ble_eq_true rfl) rfl ?_
  intro pg en s0 m0 args below meth cod C
  refine v_aload_n C d_TT_close_0 rfl ?_
  refine v_iload_n C d_TT_close_1 rfl ?_
  refine v_cI C (As := [.int v]) (st := []) (c_TT_isOpen l D kA ad sz ch mc T Cu mt fa v hco) cv_TT_isOpen ml_TT_136 d_TT_close_2 ⟨by omega, by decide⟩ xw_rcv ⟨rfl, rfl⟩ rfl ?_
  rintro x9 w9 ⟨hx9, rfl⟩
  rcases hx9 with ⟨c1, hc1, rfl, ho, rfl⟩ | ⟨hno, rfl⟩
  · refine v_if_neR C d_TT_close_5 10 (by decide) (fun c0 => ?_) (fun c0 => False.elim (by exact absurd c0 (by decide)))
    refine v_aload_n C d_TT_close_10 rfl ?_
    refine v_getf C i_TT (ci := 2) rfl 1 (by decide) (List.mem_of_getElem? (i := 0) rfl) fl_TT_17 d_TT_close_11 (.ref (ad 0 2)) rfl ?_
    refine v_iload_n C d_TT_close_14 rfl ?_
    refine v_aald C (List.mem_of_getElem? (i := 2) rfl) (t0 := 3) rfl (by omega) (by decide) d_TT_close_15 (ad 2 c1) rfl ?_
    refine v_ws (xw_cu c1) ?_
    refine v_iconst C d_TT_close_16 (nI 0) (by decide) ?_
    refine v_putf C i_Cur (ci := 1) (ws' := (xw kA ad sz ch mc T (va_up Cu c1 (cu 0 (Cu c1 1) (Cu c1 2) (Cu c1 3) (Cu c1 4) (Cu c1 5) (Cu c1 6) (Cu c1 7) (Cu c1 8))) mt fa)) t_Cur_ok n_Cur rfl 0 (by decide) (xs_C (show c1 < 10 by omega) ⟨0, rfl, rfl⟩) fl_TT_61 d_TT_close_17 rfl (rfl) (rfl) (Nat.le_of_ble_eq_true rfl) rfl ?_
    refine v_iconst C d_TT_close_20 (nI 1) (by decide) ?_
    exact v_zret C rfl (rfl) d_TT_close_21 (⟨_, rfl, Or.inl ⟨c1, hc1, rfl, ho, rfl, rfl⟩⟩)
  · refine v_if_neR C d_TT_close_5 10 (by decide) (fun c0 => False.elim (by exact c0 rfl)) (fun c0 => ?_)
    refine v_iconst C d_TT_close_8 (nI 0) (by decide) ?_
    exact v_zret C rfl (rfl) d_TT_close_9 (⟨_, rfl, Or.inr ⟨hno, rfl, rfl⟩⟩)

set_option maxHeartbeats 800000 in
set_option maxRecDepth 20000 in
theorem c_TT_next (l : Launch) (D : va_G) (kA : Nat → ClassId) (ad : Nat → Nat → Nat) (sz ch mc : Nat) (T : Nat → TS) (Cu : Nat → Nat → Nat) (mt : Nat → Int32) (fa : Nat → Nat) (dd : Nat → Nat) (LL : Nat → List Nat) (v : Int32) (jj : Nat → Nat) (hX : XI T dd LL) (hco : CO Cu ch) (hch : ch < 2 ^ 31) (hcp : CP T dd LL Cu ch jj) : Ct l D kA 5 y_TT_next b_TT_next 3 (some .int) [.ref (ad 0 0), .int v] (xw kA ad sz ch mc T Cu mt fa) (pI fun x w => ((∀ c2, c2 < 8 → v = nI c2 → Cu c2 0 = 0) ∧ x = -1 ∧ w = (xw kA ad sz ch mc T Cu mt fa)) ∨ (∃ c1, c1 < 8 ∧ v = nI c1 ∧ Cu c1 0 = 1 ∧ Cu c1 1 ≠ ch ∧ x = -3 ∧ w = (xw kA ad sz ch mc T Cu mt fa)) ∨ (∃ c1, c1 < 8 ∧ v = nI c1 ∧ Cu c1 0 = 1 ∧ Cu c1 1 = ch ∧ Out (fun X' => (xw kA ad sz ch mc T (va_up Cu c1 X') mt fa)) (T (Cu c1 2)) (dd (Cu c1 2)) (LL (Cu c1 2)) (Cu c1 3) (Cu c1 4) (Cu c1) (jj c1) x w)) := by
  refine ct_of (by decide) (Nat.le_of_ble_eq_true rfl) rfl ?_
  intro pg en s0 m0 args below meth cod C
  refine v_aload_n C d_TT_next_0 rfl ?_
  refine v_iload_n C d_TT_next_1 rfl ?_
  refine v_cI C (As := [.int v]) (st := []) (c_TT_state l D kA ad sz ch mc T Cu mt fa v hco hch) cv_TT_state ml_TT_139 d_TT_next_2 ⟨by omega, by decide⟩ xw_rcv ⟨rfl, rfl⟩ rfl ?_
  rintro x9 w9 ⟨hx9, rfl⟩
  rcases hx9 with ⟨c1, hc1, rfl, ho, hv, rfl⟩ | ⟨c1, hc1, rfl, ho, hv, rfl⟩ | ⟨hno, rfl⟩
  · refine v_istore_n C d_TT_next_5 ⟨Nat.le_of_ble_eq_true rfl, Nat.le_of_ble_eq_true rfl⟩ [.ref (ad 0 0), .int (nI c1), .int 0] rfl ?_
    refine v_iload_n C d_TT_next_6 rfl ?_
    refine v_if_eqR C d_TT_next_7 14 (by decide) (fun c0 => ?_) (fun c0 => False.elim (by exact c0 rfl))
    obtain ⟨ht, htd, hp⟩ := hcp c1 hc1 ho hv
    refine v_aload_n C d_TT_next_14 rfl ?_
    refine v_aload_n C d_TT_next_15 rfl ?_
    refine v_getf C i_TT (ci := 2) rfl 1 (by decide) (List.mem_of_getElem? (i := 0) rfl) fl_TT_17 d_TT_next_16 (.ref (ad 0 2)) rfl ?_
    refine v_iload_n C d_TT_next_19 rfl ?_
    refine v_aald C (List.mem_of_getElem? (i := 2) rfl) (t0 := 3) rfl (by omega) (by decide) d_TT_next_20 (ad 2 c1) rfl ?_
    refine v_ws (ws' := (xw kA ad sz ch mc T (va_up Cu c1 (Cu c1)) mt fa)) (by rw [up_eta]) ?_
    refine v_cI C (As := [.ref (ad 2 c1)]) (st := []) (c_TT_step l D kA ad sz ch mc T Cu mt fa dd LL c1 (jj c1) (Cu c1) hX (show c1 < 10 by omega) ht htd hp) cv_TT_step ml_TT_125 d_TT_next_21 ⟨by omega, by decide⟩ xw_rcv ⟨rfl, rfl⟩ rfl ?_
    rintro x9 w9 hs9
    rcases stp_of hX rfl rfl rfl ht hs9 with ⟨hj3, hpm3, rfl, X3, rfl, sq3, x73, x83, hq3, hpl3⟩ | ⟨hno3, rfl, X3, rfl, sq3, x73, x83, hq3⟩
    · refine v_if_eqR C d_TT_next_24 31 (by decide) (fun c0 => False.elim (by exact absurd c0 (by decide))) (fun c0 => ?_)
      refine v_iconst C d_TT_next_27 (nI 1) (by decide) ?_
      refine v_goto C d_TT_next_28 32 (by decide) ?_
      exact v_iret C rfl d_TT_next_32 (⟨_, rfl, Or.inr (Or.inr ⟨c1, hc1, rfl, ho, hv, Or.inl ⟨hj3, hpm3, rfl, X3, rfl, sq3, x73, x83, hq3⟩⟩)⟩)
    · refine v_if_eqR C d_TT_next_24 31 (by decide) (fun c0 => ?_) (fun c0 => False.elim (by exact c0 rfl))
      refine v_iconst C d_TT_next_31 (nI 0) (by decide) ?_
      exact v_iret C rfl d_TT_next_32 (⟨_, rfl, Or.inr (Or.inr ⟨c1, hc1, rfl, ho, hv, Or.inr ⟨hno3, rfl, X3, rfl, sq3, x73, hq3⟩⟩)⟩)
  · refine v_istore_n C d_TT_next_5 ⟨Nat.le_of_ble_eq_true rfl, Nat.le_of_ble_eq_true rfl⟩ [.ref (ad 0 0), .int (nI c1), .int (-3)] rfl ?_
    refine v_iload_n C d_TT_next_6 rfl ?_
    refine v_if_eqR C d_TT_next_7 14 (by decide) (fun c0 => False.elim (by exact absurd c0 (by decide))) (fun c0 => ?_)
    refine v_iload_n C d_TT_next_10 rfl ?_
    refine v_goto C d_TT_next_11 32 (by decide) ?_
    exact v_iret C rfl d_TT_next_32 (⟨_, rfl, Or.inr (Or.inl ⟨c1, hc1, rfl, ho, hv, rfl, rfl⟩)⟩)
  · refine v_istore_n C d_TT_next_5 ⟨Nat.le_of_ble_eq_true rfl, Nat.le_of_ble_eq_true rfl⟩ [.ref (ad 0 0), .int v, .int (-1)] rfl ?_
    refine v_iload_n C d_TT_next_6 rfl ?_
    refine v_if_eqR C d_TT_next_7 14 (by decide) (fun c0 => False.elim (by exact absurd c0 (by decide))) (fun c0 => ?_)
    refine v_iload_n C d_TT_next_10 rfl ?_
    refine v_goto C d_TT_next_11 32 (by decide) ?_
    exact v_iret C rfl d_TT_next_32 (⟨_, rfl, Or.inl ⟨hno, rfl, rfl⟩⟩)

set_option maxHeartbeats 800000 in
set_option maxRecDepth 20000 in
theorem c_TT_seek (l : Launch) (D : va_G) (kA : Nat → ClassId) (ad : Nat → Nat → Nat) (sz ch mc : Nat) (T : Nat → TS) (Cu : Nat → Nat → Nat) (mt : Nat → Int32) (fa : Nat → Nat) (dd : Nat → Nat) (LL : Nat → List Nat) (v va vb vc : Int32) (jj : Nat → Nat) (hX : XI T dd LL) (hco : CO Cu ch) (hch : ch < 2 ^ 31) (hcp : CP T dd LL Cu ch jj) : Ct l D kA 5 y_TT_seek b_TT_seek 9 (some .int) [.ref (ad 0 0), .int v, .int va, .int vb, .int vc] (xw kA ad sz ch mc T Cu mt fa) (pI fun x w => ((∀ c2, c2 < 8 → v = nI c2 → Cu c2 0 = 0) ∧ x = -1 ∧ w = (xw kA ad sz ch mc T Cu mt fa)) ∨ (∃ c1, c1 < 8 ∧ v = nI c1 ∧ Cu c1 0 = 1 ∧ Cu c1 1 ≠ ch ∧ x = -3 ∧ w = (xw kA ad sz ch mc T Cu mt fa)) ∨ (∃ c1, c1 < 8 ∧ v = nI c1 ∧ Cu c1 0 = 1 ∧ Cu c1 1 = ch ∧ ∃ T', Sm T T' ∧ ∃ j', Out (fun X' => (xw kA ad sz ch mc T' (va_up Cu c1 X') mt fa)) (T (Cu c1 2)) (dd (Cu c1 2)) (LL (Cu c1 2)) (Cu c1 3) (Cu c1 4) (Cu c1) j' x w ∧ ((j' = jj c1 ∧ (¬ (jj c1 < (LL (Cu c1 2)).length ∧ pm (Cu c1 3) (Cu c1 4) (lg (LL (Cu c1 2)) (jj c1))) ∨ enc va vb vc ≤ lg (LL (Cu c1 2)) (jj c1))) ∨ (jj c1 < (LL (Cu c1 2)).length ∧ pm (Cu c1 3) (Cu c1 4) (lg (LL (Cu c1 2)) (jj c1)) ∧ lg (LL (Cu c1 2)) (jj c1) < enc va vb vc ∧ j' = blw (LL (Cu c1 2)) (enc va vb vc))))) := by
  refine ct_of (by decide) (Nat.le_of_ble_eq_true rfl) rfl ?_
  intro pg en s0 m0 args below meth cod C
  refine v_aload_n C d_TT_seek_0 rfl ?_
  refine v_iload_n C d_TT_seek_1 rfl ?_
  refine v_cI C (As := [.int v]) (st := []) (c_TT_state l D kA ad sz ch mc T Cu mt fa v hco hch) cv_TT_state ml_TT_139 d_TT_seek_2 ⟨by omega, by decide⟩ xw_rcv ⟨rfl, rfl⟩ rfl ?_
  rintro x9 w9 ⟨hx9, rfl⟩
  rcases hx9 with ⟨c1, hc1, rfl, ho, hv, rfl⟩ | ⟨c1, hc1, rfl, ho, hv, rfl⟩ | ⟨hno, rfl⟩
  · refine v_istore C d_TT_seek_5 ⟨Nat.le_of_ble_eq_true rfl, Nat.le_of_ble_eq_true rfl⟩ [.ref (ad 0 0), .int (nI c1), .int va, .int vb, .int vc, .int 0] rfl ?_
    refine v_iload C d_TT_seek_7 rfl ?_
    refine v_if_eqR C d_TT_seek_9 15 (by decide) (fun c0 => ?_) (fun c0 => False.elim (by exact c0 rfl))
    obtain ⟨ht, htd, hp⟩ := hcp c1 hc1 ho hv
    have hky := enc_lt va vb vc
    have hc10 : c1 < 10 := by omega
    refine v_aload_n C d_TT_seek_15 rfl ?_
    refine v_getf C i_TT (ci := 2) rfl 1 (by decide) (List.mem_of_getElem? (i := 0) rfl) fl_TT_17 d_TT_seek_16 (.ref (ad 0 2)) rfl ?_
    refine v_iload_n C d_TT_seek_19 rfl ?_
    refine v_aald C (List.mem_of_getElem? (i := 2) rfl) (t0 := 3) rfl (by omega) (by decide) d_TT_seek_20 (ad 2 c1) rfl ?_
    refine v_astore C d_TT_seek_21 ⟨Nat.le_of_ble_eq_true rfl, Nat.le_of_ble_eq_true rfl⟩ [.ref (ad 0 0), .int (nI c1), .int va, .int vb, .int vc, .int 0, .ref (ad 2 c1)] rfl ?_
    refine v_aload_n C d_TT_seek_23 rfl ?_
    refine v_getf C i_TT (ci := 2) rfl 0 (by decide) (List.mem_of_getElem? (i := 0) rfl) fl_TT_9 d_TT_seek_24 (.ref (ad 0 1)) rfl ?_
    refine v_aload C d_TT_seek_27 rfl ?_
    refine v_getf C i_Cur (ci := 1) rfl 2 (by decide) (xm_C0 (show c1 < 10 by omega) (List.mem_of_getElem? (i := 0) rfl)) fl_TT_72 d_TT_seek_29 (.int (nI (Cu c1 2))) rfl ?_
    refine v_aald C (List.mem_of_getElem? (i := 1) rfl) (t0 := 2) rfl (by omega) (by decide) d_TT_seek_32 (ad 1 (Cu c1 2)) rfl ?_
    refine v_astore C d_TT_seek_33 ⟨Nat.le_of_ble_eq_true rfl, Nat.le_of_ble_eq_true rfl⟩ [.ref (ad 0 0), .int (nI c1), .int va, .int vb, .int vc, .int 0, .ref (ad 2 c1), .ref (ad 1 (Cu c1 2))] rfl ?_
    refine v_aload C d_TT_seek_35 rfl ?_
    refine v_iload_n C d_TT_seek_37 rfl ?_
    refine v_iload_n C d_TT_seek_38 rfl ?_
    refine v_iload C d_TT_seek_39 rfl ?_
    refine v_ws (xw_ts (Cu c1 2)) ?_
    refine v_tV C ht (x := ((T (Cu c1 2)).1, scf ((T (Cu c1 2)).2 0) ((T (Cu c1 2)).2 1) ((T (Cu c1 2)).2 2) ((T (Cu c1 2)).2 3) ((T (Cu c1 2)).2 4) ((T (Cu c1 2)).2 5))) (As := [.int va, .int vb, .int vc]) (st := []) (c_Tree_tell l D kA (ad 1 (Cu c1 2)) (ad (3 + (Cu c1 2))) ((T (Cu c1 2)).1) ((T (Cu c1 2)).2 0) ((T (Cu c1 2)).2 1) ((T (Cu c1 2)).2 2) ((T (Cu c1 2)).2 3) ((T (Cu c1 2)).2 4) ((T (Cu c1 2)).2 5) va vb vc) cv_Tree_tell ml_TT_37 d_TT_seek_41 ⟨by omega, by decide⟩ rfl ⟨rfl, rfl⟩ rfl ?_
    rintro _ rfl
    refine ⟨((T (Cu c1 2)).1, scf ((T (Cu c1 2)).2 0) ((T (Cu c1 2)).2 1) (enc va vb vc) ((T (Cu c1 2)).2 3) ((T (Cu c1 2)).2 4) ((T (Cu c1 2)).2 5)), rfl, ?_⟩
    obtain ⟨T2, hT2, sm2, k2⟩ : ∃ T2, T2 = va_up T (Cu c1 2) ((T (Cu c1 2)).1, scf ((T (Cu c1 2)).2 0) ((T (Cu c1 2)).2 1) (enc va vb vc) ((T (Cu c1 2)).2 3) ((T (Cu c1 2)).2 4) ((T (Cu c1 2)).2 5)) ∧ Sm T T2 ∧ (T2 (Cu c1 2)).2 2 = enc va vb vc := ⟨_, rfl, Sm.up (x := ((T (Cu c1 2)).1, scf ((T (Cu c1 2)).2 0) ((T (Cu c1 2)).2 1) (enc va vb vc) ((T (Cu c1 2)).2 3) ((T (Cu c1 2)).2 4) ((T (Cu c1 2)).2 5))) rfl rfl rfl, by rw [va_up_self]; rfl⟩
    rw [← hT2]
    have hX2 := sm2.XI hX
    replace hp := hp.sm (sm2 _).1 (sm2 _).2.2
    have bk : ∀ {d : Nat} {L : List Nat} {lf pl j : Nat}, ps (T2 (Cu c1 2)) d L lf pl j → ps (T (Cu c1 2)) d L lf pl j := fun h => h.sm (sm2 _).1.symm (sm2 _).2.2.symm
    refine v_aload_n C d_TT_seek_44 rfl ?_
    refine v_aload C d_TT_seek_45 rfl ?_
    refine v_ws (ws' := (xw kA ad sz ch mc T2 (va_up Cu c1 (Cu c1)) mt fa)) (by rw [up_eta]) ?_
    refine v_cI C (As := [.ref (ad 2 c1)]) (st := []) (c_TT_step l D kA ad sz ch mc T2 Cu mt fa dd LL c1 (jj c1) (Cu c1) hX2 hc10 ht htd hp) cv_TT_step ml_TT_125 d_TT_seek_47 ⟨by omega, by decide⟩ xw_rcv ⟨rfl, rfl⟩ rfl ?_
    rintro x9 w9 hs9
    rcases stp_of hX2 rfl rfl rfl ht hs9 with ⟨hj3, hpm3, rfl, X3, rfl, sq3, x73, x83, hq3, hpl3⟩ | ⟨hno3, rfl, X3, rfl, sq3, x73, x83, hq3⟩
    · refine v_istore C d_TT_seek_50 ⟨Nat.le_of_ble_eq_true rfl, Nat.le_of_ble_eq_true rfl⟩ [.ref (ad 0 0), .int (nI c1), .int va, .int vb, .int vc, .int 0, .ref (ad 2 c1), .ref (ad 1 (Cu c1 2)), .int 1] rfl ?_
      refine v_iload C d_TT_seek_52 rfl ?_
      refine v_if_eqR C d_TT_seek_54 110 (by decide) (fun c0 => False.elim (by exact absurd c0 (by decide))) (fun c0 => ?_)
      obtain ⟨pl, h6, h5, h9, hk⟩ := hpl3
      have hYT := (hX2 _ ht).srt.2 _ (lg_mem hj3)
      refine v_aload C d_TT_seek_57 rfl ?_
      refine v_aload C d_TT_seek_59 rfl ?_
      refine v_getf C i_Cur (ci := 1) rfl 5 (by decide) (xm_C hc10 (List.mem_of_getElem? (i := 0) rfl)) fl_TT_96 d_TT_seek_61 (.int (nI (X3 5))) rfl ?_
      refine v_aload C d_TT_seek_64 rfl ?_
      refine v_getf C i_Cur (ci := 1) rfl 6 (by decide) (xm_C hc10 (List.mem_of_getElem? (i := 0) rfl)) fl_TT_101 d_TT_seek_66 (.int (nI (X3 6))) rfl ?_
      refine v_iconst C d_TT_seek_69 (nI 1) (by decide) ?_
      refine v_isub C d_TT_seek_70 (by omega) ?_
      refine v_top (y := nI pl) (show nI ((X3 6) - 1) = nI pl from by rw [h6, Nat.add_sub_cancel]) ?_
      refine v_ws (xw_ts (Cu c1 2)) ?_
      refine v_tIN C ht (x := ((T2 (Cu c1 2)).1, scf ((T2 (Cu c1 2)).2 0) ((T2 (Cu c1 2)).2 1) ((T2 (Cu c1 2)).2 2) ((T2 (Cu c1 2)).2 3) ((T2 (Cu c1 2)).2 4) ((T2 (Cu c1 2)).2 5))) (As := [.int (nI (X3 5)), .int (nI pl)]) (st := []) (c_Tree_compare l D kA (ad 1 (Cu c1 2)) (ad (3 + (Cu c1 2))) ((T2 (Cu c1 2)).1) ((T2 (Cu c1 2)).2 0) ((T2 (Cu c1 2)).2 1) ((T2 (Cu c1 2)).2 2) ((T2 (Cu c1 2)).2 3) ((T2 (Cu c1 2)).2 4) ((T2 (Cu c1 2)).2 5) (X3 5) pl h5 h9 (by rw [hk]; exact hYT) (by rw [k2]; exact hky)) cv_Tree_compare C.2.2.2.2.2.2.2.2.2.1 d_TT_seek_71 ⟨by omega, by decide⟩ rfl ⟨rfl, rfl⟩ rfl ?_
      rintro _ _ ⟨rfl, rfl⟩
      refine ⟨((T2 (Cu c1 2)).1, scf ((T2 (Cu c1 2)).2 0) ((T2 (Cu c1 2)).2 1) ((T2 (Cu c1 2)).2 2) ((T2 (Cu c1 2)).2 3) ((T2 (Cu c1 2)).2 4) ((T2 (Cu c1 2)).2 5)), rfl, ?_⟩
      refine v_top (y := cmpI (lg (LL (Cu c1 2)) (jj c1)) (enc va vb vc)) (by rw [hk, k2]) ?_
      refine v_ws (xw_ts (Cu c1 2)).symm ?_
      refine v_if_geR C d_TT_seek_74 110 (by decide) (fun cg => ?_) (fun cg => ?_)
      · have hge : (enc va vb vc) ≤ lg (LL (Cu c1 2)) (jj c1) := Nat.le_of_not_lt fun z => Int32.not_lt.mpr cg (cmpI_lt.mpr z)
        refine v_iload C d_TT_seek_110 rfl ?_
        refine v_if_eqR C d_TT_seek_112 119 (by decide) (fun c0 => False.elim (by exact absurd c0 (by decide))) (fun c0 => ?_)
        refine v_iconst C d_TT_seek_115 (nI 1) (by decide) ?_
        refine v_goto C d_TT_seek_116 120 (by decide) ?_
        exact v_iret C rfl d_TT_seek_120 (⟨_, rfl, Or.inr (Or.inr ⟨c1, hc1, rfl, ho, hv, T2, sm2, jj c1, Or.inl ⟨hj3, hpm3, rfl, X3, rfl, sq3, x73, x83, bk hq3⟩, Or.inl ⟨rfl, Or.inr hge⟩⟩)⟩)
      · have hlt : lg (LL (Cu c1 2)) (jj c1) < (enc va vb vc) := cmpI_lt.mp (Int32.not_le.mp cg)
        refine v_ws (xw_cux c1 X3) ?_
        refine v_aload C d_TT_seek_77 rfl ?_
        refine v_aload C d_TT_seek_79 rfl ?_
        refine v_ws (xw_ts (Cu c1 2)) ?_
        refine v_tI C ht (x := ((T2 (Cu c1 2)).1, scf ((T2 (Cu c1 2)).2 0) ((T2 (Cu c1 2)).2 1) ((T2 (Cu c1 2)).2 2) ((T2 (Cu c1 2)).2 3) ((T2 (Cu c1 2)).2 4) ((T2 (Cu c1 2)).2 5))) (As := []) (st := [.ref (ad 2 c1)]) (c_Tree_leaf l D kA (ad 1 (Cu c1 2)) (ad (3 + (Cu c1 2))) ((T2 (Cu c1 2)).1) ((T2 (Cu c1 2)).2 0) ((T2 (Cu c1 2)).2 1) ((T2 (Cu c1 2)).2 2) ((T2 (Cu c1 2)).2 3) ((T2 (Cu c1 2)).2 4) ((T2 (Cu c1 2)).2 5) (dd (Cu c1 2)) (LL (Cu c1 2)) (hX2 _ ht) (by rw [k2]; exact hky)) cv_Tree_leaf ml_TT_92 d_TT_seek_81 ⟨by omega, by decide⟩ rfl ⟨rfl, rfl⟩ rfl ?_
        rintro _ _ ⟨n, A, B, rfl, hl, hA, hB, rfl⟩
        refine ⟨((T2 (Cu c1 2)).1, scf ((T2 (Cu c1 2)).2 0) ((T2 (Cu c1 2)).2 1) ((T2 (Cu c1 2)).2 2) ((T2 (Cu c1 2)).2 3) ((T2 (Cu c1 2)).2 4) ((T2 (Cu c1 2)).2 5)), rfl, ?_⟩
        obtain ⟨hn, hnc, hnk, -⟩ := (hX2 _ ht).leaf (m := n) (by rw [hl]; exact List.mem_append_right _ List.mem_cons_self)
        refine v_putf C i_Cur (ci := 1) (ws' := (xw kA ad sz ch mc (va_up T2 (Cu c1 2) ((T2 (Cu c1 2)).1, scf ((T2 (Cu c1 2)).2 0) ((T2 (Cu c1 2)).2 1) ((T2 (Cu c1 2)).2 2) ((T2 (Cu c1 2)).2 3) ((T2 (Cu c1 2)).2 4) ((T2 (Cu c1 2)).2 5))) (va_up Cu c1 (cu (X3 0) (X3 1) (X3 2) (X3 3) (X3 4) n (X3 6) (X3 7) (X3 8))) mt fa)) t_Cur_ok n_Cur rfl 5 (by decide) (xs_C hc10 ⟨0, rfl, rfl⟩) fl_TT_96 d_TT_seek_84 rfl (rfl) (rfl) (Nat.le_of_ble_eq_true rfl) rfl ?_
        refine v_aload C d_TT_seek_87 rfl ?_
        refine v_aload C d_TT_seek_89 rfl ?_
        refine v_aload C d_TT_seek_91 rfl ?_
        refine v_getf C i_Cur (ci := 1) rfl 5 (by decide) (xm_C hc10 (List.mem_of_getElem? (i := 0) rfl)) fl_TT_96 d_TT_seek_93 (.int (nI n)) rfl ?_
        refine v_tI C ht (x := ((T2 (Cu c1 2)).1, scf ((T2 (Cu c1 2)).2 0) ((T2 (Cu c1 2)).2 1) ((T2 (Cu c1 2)).2 2) ((T2 (Cu c1 2)).2 3) ((T2 (Cu c1 2)).2 4) ((T2 (Cu c1 2)).2 5))) (As := [.int (nI n)]) (st := [.ref (ad 2 c1)]) (c_Tree_below l D kA (ad 1 (Cu c1 2)) (ad (3 + (Cu c1 2))) ((T2 (Cu c1 2)).1) ((T2 (Cu c1 2)).2 0) ((T2 (Cu c1 2)).2 1) ((T2 (Cu c1 2)).2 2) ((T2 (Cu c1 2)).2 3) ((T2 (Cu c1 2)).2 4) ((T2 (Cu c1 2)).2 5) n hn (by omega) hnk (by rw [k2]; exact hky)) cv_Tree_below ml_TT_98 d_TT_seek_96 ⟨by omega, by decide⟩ rfl ⟨rfl, rfl⟩ rfl ?_
        rintro _ _ ⟨b, rfl, hb, hb1, hb2, rfl⟩
        refine ⟨((T2 (Cu c1 2)).1, scf ((T2 (Cu c1 2)).2 0) ((T2 (Cu c1 2)).2 1) ((T2 (Cu c1 2)).2 2) ((T2 (Cu c1 2)).2 3) ((T2 (Cu c1 2)).2 4) ((T2 (Cu c1 2)).2 5)), rfl, ?_⟩
        refine v_putf C i_Cur (ci := 1) (ws' := (xw kA ad sz ch mc (va_up T2 (Cu c1 2) ((T2 (Cu c1 2)).1, scf ((T2 (Cu c1 2)).2 0) ((T2 (Cu c1 2)).2 1) ((T2 (Cu c1 2)).2 2) ((T2 (Cu c1 2)).2 3) ((T2 (Cu c1 2)).2 4) ((T2 (Cu c1 2)).2 5))) (va_up Cu c1 (cu (X3 0) (X3 1) (X3 2) (X3 3) (X3 4) n b (X3 7) (X3 8))) mt fa)) t_Cur_ok n_Cur rfl 6 (by decide) (xs_C hc10 ⟨0, rfl, rfl⟩) fl_TT_101 d_TT_seek_99 rfl (rfl) (rfl) (Nat.le_of_ble_eq_true rfl) rfl ?_
        have hps := ps_blw (hX2 _ ht) hl hA hB hb hb1 hb2
        rw [k2] at hps
        refine v_ws (xw_ts (Cu c1 2)).symm ?_
        obtain ⟨X4, hx4, s4, s5, s6⟩ : ∃ X4 : Nat → Nat, X4 = (cu (X3 0) (X3 1) (X3 2) (X3 3) (X3 4) n b (X3 7) (X3 8)) ∧ Sq (Cu c1) X4 ∧ X4 5 = n ∧ X4 6 = b := ⟨_, rfl, sq3, rfl, rfl⟩
        rw [← hx4]
        refine v_aload_n C d_TT_seek_102 rfl ?_
        refine v_aload C d_TT_seek_103 rfl ?_
        refine v_cI C (As := [.ref (ad 2 c1)]) (st := []) (c_TT_step l D kA ad sz ch mc T2 Cu mt fa dd LL c1 (blw (LL (Cu c1 2)) (enc va vb vc)) X4 hX2 hc10 (by rw [s4.2.2.1]; exact ht) (by rw [s4.2.2.2.1]; exact htd) (by rw [s4.2.2.1]; exact (by rw [s5, s6]; exact hps))) cv_TT_step ml_TT_125 d_TT_seek_105 ⟨by omega, by decide⟩ xw_rcv ⟨rfl, rfl⟩ rfl ?_
        rintro x9 w9 hs9
        rcases stp_of hX2 s4.2.2.1 s4.2.2.2.1 s4.2.2.2.2 ht hs9 with ⟨hj6, hpm6, rfl, X6, rfl, sq6, x76, x86, hq6, hpl6⟩ | ⟨hno6, rfl, X6, rfl, sq6, x76, x86, hq6⟩
        · refine v_istore C d_TT_seek_108 ⟨Nat.le_of_ble_eq_true rfl, Nat.le_of_ble_eq_true rfl⟩ [.ref (ad 0 0), .int (nI c1), .int va, .int vb, .int vc, .int 0, .ref (ad 2 c1), .ref (ad 1 (Cu c1 2)), .int 1] rfl ?_
          refine v_iload C d_TT_seek_110 rfl ?_
          refine v_if_eqR C d_TT_seek_112 119 (by decide) (fun c0 => False.elim (by exact absurd c0 (by decide))) (fun c0 => ?_)
          refine v_iconst C d_TT_seek_115 (nI 1) (by decide) ?_
          refine v_goto C d_TT_seek_116 120 (by decide) ?_
          exact v_iret C rfl d_TT_seek_120 (⟨_, rfl, Or.inr (Or.inr ⟨c1, hc1, rfl, ho, hv, T2, sm2, _, Or.inl ⟨hj6, hpm6, rfl, X6, rfl, ⟨sq6.1.trans s4.1, sq6.2.1.trans s4.2.1, sq6.2.2.1.trans s4.2.2.1, sq6.2.2.2.1.trans s4.2.2.2.1, sq6.2.2.2.2.trans s4.2.2.2.2⟩, x76, x86, bk hq6⟩, Or.inr ⟨hj3, hpm3, hlt, rfl⟩⟩)⟩)
        · refine v_istore C d_TT_seek_108 ⟨Nat.le_of_ble_eq_true rfl, Nat.le_of_ble_eq_true rfl⟩ [.ref (ad 0 0), .int (nI c1), .int va, .int vb, .int vc, .int 0, .ref (ad 2 c1), .ref (ad 1 (Cu c1 2)), .int 0] rfl ?_
          refine v_iload C d_TT_seek_110 rfl ?_
          refine v_if_eqR C d_TT_seek_112 119 (by decide) (fun c0 => ?_) (fun c0 => False.elim (by exact c0 rfl))
          refine v_iconst C d_TT_seek_119 (nI 0) (by decide) ?_
          exact v_iret C rfl d_TT_seek_120 (⟨_, rfl, Or.inr (Or.inr ⟨c1, hc1, rfl, ho, hv, T2, sm2, _, Or.inr ⟨hno6, rfl, X6, rfl, ⟨sq6.1.trans s4.1, sq6.2.1.trans s4.2.1, sq6.2.2.1.trans s4.2.2.1, sq6.2.2.2.1.trans s4.2.2.2.1, sq6.2.2.2.2.trans s4.2.2.2.2⟩, x76, bk hq6⟩, Or.inr ⟨hj3, hpm3, hlt, rfl⟩⟩)⟩)
    · refine v_istore C d_TT_seek_50 ⟨Nat.le_of_ble_eq_true rfl, Nat.le_of_ble_eq_true rfl⟩ [.ref (ad 0 0), .int (nI c1), .int va, .int vb, .int vc, .int 0, .ref (ad 2 c1), .ref (ad 1 (Cu c1 2)), .int 0] rfl ?_
      refine v_iload C d_TT_seek_52 rfl ?_
      refine v_if_eqR C d_TT_seek_54 110 (by decide) (fun c0 => ?_) (fun c0 => False.elim (by exact c0 rfl))
      refine v_iload C d_TT_seek_110 rfl ?_
      refine v_if_eqR C d_TT_seek_112 119 (by decide) (fun c0 => ?_) (fun c0 => False.elim (by exact c0 rfl))
      refine v_iconst C d_TT_seek_119 (nI 0) (by decide) ?_
      exact v_iret C rfl d_TT_seek_120 (⟨_, rfl, Or.inr (Or.inr ⟨c1, hc1, rfl, ho, hv, T2, sm2, jj c1, Or.inr ⟨hno3, rfl, X3, rfl, sq3, x73, bk hq3⟩, Or.inl ⟨rfl, Or.inl hno3⟩⟩)⟩)
  · refine v_istore C d_TT_seek_5 ⟨Nat.le_of_ble_eq_true rfl, Nat.le_of_ble_eq_true rfl⟩ [.ref (ad 0 0), .int (nI c1), .int va, .int vb, .int vc, .int (-3)] rfl ?_
    refine v_iload C d_TT_seek_7 rfl ?_
    refine v_if_eqR C d_TT_seek_9 15 (by decide) (fun c0 => False.elim (by exact absurd c0 (by decide))) (fun c0 => ?_)
    refine v_iload C d_TT_seek_12 rfl ?_
    exact v_iret C rfl d_TT_seek_14 (⟨_, rfl, Or.inr (Or.inl ⟨c1, hc1, rfl, ho, hv, rfl, rfl⟩)⟩)
  · refine v_istore C d_TT_seek_5 ⟨Nat.le_of_ble_eq_true rfl, Nat.le_of_ble_eq_true rfl⟩ [.ref (ad 0 0), .int v, .int va, .int vb, .int vc, .int (-1)] rfl ?_
    refine v_iload C d_TT_seek_7 rfl ?_
    refine v_if_eqR C d_TT_seek_9 15 (by decide) (fun c0 => False.elim (by exact absurd c0 (by decide))) (fun c0 => ?_)
    refine v_iload C d_TT_seek_12 rfl ?_
    exact v_iret C rfl d_TT_seek_14 (⟨_, rfl, Or.inl ⟨hno, rfl, rfl⟩⟩)
