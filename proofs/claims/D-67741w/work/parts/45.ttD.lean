/-- the cursor's head stays -/
def Sq (X X' : Nat → Nat) : Prop := X' 0 = X 0 ∧ X' 1 = X 1 ∧ X' 2 = X 2 ∧ X' 3 = X 3 ∧ X' 4 = X 4
theorem stp_of {kA : Nat → ClassId} {ad : Nat → Nat → Nat} {sz ch mc : Nat} {T : Nat → TS} {Cu : Nat → Nat → Nat} {mt : Nat → Int32} {fa : Nat → Nat} {dd : Nat → Nat} {LL : Nat → List Nat} {c j t td K : Nat} {X : Nat → Nat} {x : Int32} {w : va_W} (hX : XI T dd LL) (e2 : X 2 = t) (e3 : X 3 = td) (e4 : X 4 = K) (ht : t < 3) (h : (j < (LL (X 2)).length ∧ pm (X 3) (X 4) (lg (LL (X 2)) j) ∧ x = 1 ∧ ∃ (lf pl : Nat) (A B : List Nat), w = (xw kA ad sz ch mc T (va_up Cu c (cu (X 0) (X 1) (X 2) (X 3) (X 4) lf (pl + 1) 1 (lg (LL (X 2)) j))) mt fa) ∧ lvO (T (X 2)).1 (dd (X 2)) ((T (X 2)).2 1) = A ++ lf :: B ∧ pl < nc ((T (X 2)).1 lf) ∧ j = (A.flatMap (ksO (T (X 2)).1)).length + pl) ∨ (¬ (j < (LL (X 2)).length ∧ pm (X 3) (X 4) (lg (LL (X 2)) j)) ∧ x = 0 ∧ ∃ lf pl, w = (xw kA ad sz ch mc T (va_up Cu c (cu (X 0) (X 1) (X 2) (X 3) (X 4) lf pl 0 (X 8))) mt fa) ∧ ps (T (X 2)) (dd (X 2)) (LL (X 2)) lf pl j)) :
    (j < (LL t).length ∧ pm td K (lg (LL t) j) ∧ x = 1 ∧ ∃ X' : Nat → Nat, w = (xw kA ad sz ch mc T (va_up Cu c X') mt fa) ∧ Sq X X' ∧ X' 7 = 1 ∧ X' 8 = lg (LL t) j ∧ ps (T t) (dd t) (LL t) (X' 5) (X' 6) (j + 1) ∧ ∃ pl, X' 6 = pl + 1 ∧ X' 5 < 500 ∧ pl < 9 ∧ nK ((T t).1 (X' 5)) pl = lg (LL t) j) ∨ (¬ (j < (LL t).length ∧ pm td K (lg (LL t) j)) ∧ x = 0 ∧ ∃ X' : Nat → Nat, w = (xw kA ad sz ch mc T (va_up Cu c X') mt fa) ∧ Sq X X' ∧ X' 7 = 0 ∧ X' 8 = X 8 ∧ ps (T t) (dd t) (LL t) (X' 5) (X' 6) j) := by
  subst e2 e3 e4
  rcases h with ⟨h1, h2, h3, lf, pl, A, B, h4, hl, hpl, hj⟩ | ⟨h1, h2, lf, pl, h3, h4⟩
  · obtain ⟨hn, hnc, hnk, -⟩ := (hX _ ht).leaf (m := lf) (by rw [hl]; exact List.mem_append_right _ List.mem_cons_self)
    refine Or.inl ⟨h1, h2, h3, _, h4, ⟨rfl, rfl, rfl, rfl, rfl⟩, rfl, rfl, Or.inr ⟨A, B, hl, hpl, ?_⟩, pl, rfl, hn, ?_, ?_⟩
    · show j + 1 = _ + (pl + 1)
      omega
    · omega
    · show nK _ pl = _
      rw [hj]; exact (ps_lg (hX _ ht) hl hpl).2.symm
  · exact Or.inr ⟨h1, h2, _, h3, ⟨rfl, rfl, rfl, rfl, rfl⟩, rfl, rfl, h4⟩
theorem fl_take0 {L : List Nat} {q : Nat → Bool} {j : Nat} (h : ∀ i, i < j → i < L.length → q (lg L i) = false) : (L.take j).filter q = [] :=
  filt_none _ (fun x hx => by
    obtain ⟨i, hi, e⟩ := List.getElem_of_mem hx
    rw [List.length_take] at hi
    rw [List.getElem_take] at e
    have e1 := lg_get (show i < L.length by omega)
    rw [List.getElem?_eq_getElem (by omega)] at e1
    rw [← e, Option.some.inj e1]; exact h i (by omega) (by omega))
theorem fl_takeE {L : List Nat} {q : Nat → Bool} {j : Nat} (h : ∀ i, j ≤ i → i < L.length → q (lg L i) = false) : (L.take j).filter q = L.filter q := by
  have e : (L.drop j).filter q = [] := filt_none _ (fun x hx => by
    obtain ⟨i, hi, e⟩ := List.getElem_of_mem hx
    rw [List.length_drop] at hi
    rw [List.getElem_drop] at e
    have e1 := lg_get (show j + i < L.length by omega)
    rw [List.getElem?_eq_getElem (by omega)] at e1
    rw [← e, Option.some.inj e1]; exact h (j + i) (by omega) (by omega))
  have := congrArg (List.filter q) (List.take_append_drop j L)
  rw [List.filter_append, e, List.append_nil] at this
  exact this
theorem nm_after {L : List Nat} {td K j : Nat} (hs : Srt L) (hT : ∀ x ∈ L, x < TOP) (ht : td ≤ 3) (hK : K < TOP) (hj : blw L (lowk td K) ≤ j) (hno : ¬ (j < L.length ∧ pm td K (lg L j))) : ∀ i, j ≤ i → i < L.length → ¬ pm td K (lg L i) :=
  fun i h1 h2 h => hno ⟨by omega, pm_from hs hT ht hK hj h1 h2 h⟩
theorem mT_no {m : Nat} (hm : m < 8) {s p o : Int32} {x : Nat} (h : ¬ pm (bcn m) (ec (oo m) s p o) x) : mT (oo m) m s p o x = false := by
  cases e : mT (oo m) m s p o x
  · rfl
  · exact absurd ((mT_pm hm s p o x).mp e) h
theorem ec_po {t Y : Nat} (ht : t < 3) (hY : Y < TOP) : ec t (dc Y (po t 0)) (dc Y (po t 1)) (dc Y (po t 2)) = Y := by
  rcases (show t = 0 ∨ t = 1 ∨ t = 2 by omega) with rfl | rfl | rfl <;> simp [ec, po, enc_dc hY]
theorem cn0_fl {LL : Nat → List Nat} (h : LI LL) {m : Nat} {s p o : Int32} (h0 : cnM LL 0 m s p o = 0) {t : Nat} (ht : t < 3) : flM LL m s p o t = LL t := by
  rw [← cnM_rot h ht] at h0
  unfold cnM at h0
  have h1 := List.length_eq_zero_iff.mp h0
  unfold flM
  refine filt_all _ (fun x hx => ?_)
  have := List.filter_eq_nil_iff.mp h1 x hx
  cases e : mT t m s p o x
  · rfl
  · exact absurd e this

set_option maxHeartbeats 800000 in
set_option maxRecDepth 20000 in
theorem c_TT_many (l : Launch) (D : va_G) (kA : Nat → ClassId) (ad : Nat → Nat → Nat) (sz ch mc : Nat) (T : Nat → TS) (Cu : Nat → Nat → Nat) (mt : Nat → Int32) (fa : Nat → Nat) (dd : Nat → Nat) (LL : Nat → List Nat) (v : Int32) (vs vp vo : Int32) (hX : XI T dd LL) (hLI : LI LL) (hL : (LL 0).length ≤ 520) : Ct l D kA 5 y_TT_many b_TT_many 6 (some .int) [.ref (ad 0 0), .int v, .int vs, .int vp, .int vo] (xw kA ad sz ch mc T Cu mt fa) (pI fun x w => (∃ m1, m1 < 8 ∧ v = nI m1 ∧ x = nI (cnM LL 0 m1 vs vp vo) ∧ ∃ (T' : Nat → TS) (X' : Nat → Nat), Sm T T' ∧ w = (xw kA ad sz ch mc T' (va_up Cu 8 X') mt fa)) ∨ ((∀ m2, m2 < 8 → v ≠ nI m2) ∧ x = -1 ∧ w = (xw kA ad sz ch mc T Cu mt fa))) := by
  refine ct_of (by decide) (Nat.le_of_ble_eq_true rfl) rfl ?_
  intro pg en s0 m0 args below meth cod C
  refine v_iload_n C d_TT_many_0 rfl ?_
  refine v_cS C (As := [.int v]) (st := []) (c_TT_isMask l D kA v) cv_TT_isMask ml_TT_117 d_TT_many_1 ⟨by omega, by decide⟩ ⟨rfl, rfl⟩ rfl ?_
  rintro x9 hx9
  rcases hx9 with ⟨m, hm, rfl, rfl⟩ | ⟨hno, rfl⟩
  · refine v_if_neR C d_TT_many_4 9 (by decide) (fun c0 => ?_) (fun c0 => False.elim (by exact absurd c0 (by decide)))
    have hot := oo_lt m
    have htd := bcn_le m
    have hK := ec_lt (oo m) vs vp vo
    have hs := (hLI.1 _ hot).1
    have hTT := (hLI.1 _ hot).2.1
    have hle := (hLI.1 _ hot).2.2
    have hbl := blw_le (LL (oo m)) (lowk (bcn m) (ec (oo m) vs vp vo))
    refine v_iconst C d_TT_many_9 (nI 0) (by decide) ?_
    refine v_istore C d_TT_many_10 ⟨Nat.le_of_ble_eq_true rfl, Nat.le_of_ble_eq_true rfl⟩ [.ref (ad 0 0), .int (nI m), .int vs, .int vp, .int vo, .int (nI 0)] rfl ?_
    refine v_ws (ws' := (xw kA ad sz ch mc T (va_up Cu 8 (Cu 8)) mt fa)) (by rw [up_eta]) ?_
    refine v_aload_n C d_TT_many_12 rfl ?_
    refine v_aload_n C d_TT_many_13 rfl ?_
    refine v_getf C i_TT (ci := 2) rfl 7 (by decide) (List.mem_of_getElem? (i := 0) rfl) fl_TT_29 d_TT_many_14 (.ref (ad 2 8)) rfl ?_
    refine v_iload_n C d_TT_many_17 rfl ?_
    refine v_iload_n C d_TT_many_18 rfl ?_
    refine v_iload_n C d_TT_many_19 rfl ?_
    refine v_iload C d_TT_many_20 rfl ?_
    refine v_cV C (As := [.ref (ad 2 8), .int (nI m), .int vs, .int vp, .int vo]) (st := []) (c_TT_begin l D kA ad sz ch mc T Cu mt fa dd LL 8 m (Cu 8) vs vp vo hX (by decide) hm) cv_TT_begin ml_TT_121 d_TT_many_22 ⟨by omega, by decide⟩ xw_rcv ⟨rfl, rfl⟩ rfl ?_
    rintro _ ⟨T1, X1, sm1, rfl, b01, b11, b21, b31, b41, b71, hps1⟩
    have hX1 := sm1.XI hX
    replace hps1 := hps1.sm (sm1 _).1 (sm1 _).2.2
    have lp : ∀ (t9 : Nat) (j : Nat) (X2 : Nat → Nat), (LL (oo m)).length - j < t9 → j ≤ (LL (oo m)).length → blw (LL (oo m)) (lowk (bcn m) (ec (oo m) vs vp vo)) ≤ j → X2 2 = oo m → X2 3 = bcn m → X2 4 = (ec (oo m) vs vp vo) → ps (T1 (oo m)) (dd (oo m)) (LL (oo m)) (X2 5) (X2 6) j → V pg l en (rmk 5) s0 m0 args below meth cod D (qA (xw kA ad sz ch mc T Cu mt fa)) 6 0 0 (MQ below (QC D (xw kA ad sz ch mc T Cu mt fa) (pI fun x w => (∃ m1, m1 < 8 ∧ (nI m) = nI m1 ∧ x = nI (cnM LL 0 m1 vs vp vo) ∧ ∃ (T' : Nat → TS) (X' : Nat → Nat), Sm T T' ∧ w = (xw kA ad sz ch mc T' (va_up Cu 8 X') mt fa)) ∨ ((∀ m2, m2 < 8 → (nI m) ≠ nI m2) ∧ x = -1 ∧ w = (xw kA ad sz ch mc T Cu mt fa)))) args s0 0 0 (qA (xw kA ad sz ch mc T Cu mt fa))) 25 [.ref (ad 0 0), .int (nI m), .int vs, .int vp, .int vo, .int (nI ((((LL (oo m)).take j).filter (mT (oo m) m vs vp vo)).length))] [] (xw kA ad sz ch mc T1 (va_up Cu 8 X2) mt fa) := by
      intro t9
      induction t9 with
      | zero => intro j X2 hj; omega
      | succ t9 ih =>
        intro j X2 hj hjl hj0 a2 a3 a4 hq
        refine v_aload_n C d_TT_many_25 rfl ?_
        refine v_aload_n C d_TT_many_26 rfl ?_
        refine v_getf C i_TT (ci := 2) rfl 7 (by decide) (List.mem_of_getElem? (i := 0) rfl) fl_TT_29 d_TT_many_27 (.ref (ad 2 8)) rfl ?_
        refine v_cI C (As := [.ref (ad 2 8)]) (st := []) (c_TT_step l D kA ad sz ch mc T1 Cu mt fa dd LL 8 j X2 hX1 (by decide) (by rw [a2]; exact hot) (by rw [a3]; exact htd) (by rw [a2]; exact hq)) cv_TT_step ml_TT_125 d_TT_many_30 ⟨by omega, by decide⟩ xw_rcv ⟨rfl, rfl⟩ rfl ?_
        rintro x9 w9 hs9
        rcases stp_of hX1 a2 a3 a4 hot hs9 with ⟨hj3, hpm3, rfl, X3, rfl, sq3, x73, x83, hq3, hpl3⟩ | ⟨hno3, rfl, X3, rfl, sq3, x73, x83, hq3⟩
        · refine v_if_eqR C d_TT_many_33 42 (by decide) (fun c0 => False.elim (by exact absurd c0 (by decide))) (fun c0 => ?_)
          refine v_iinc C d_TT_many_36 rfl ⟨Nat.le_of_ble_eq_true rfl, Nat.le_of_ble_eq_true rfl⟩ (nI (((((LL (oo m)).take j).filter (mT (oo m) m vs vp vo)).length) + 1)) (inc1 _) [.ref (ad 0 0), .int (nI m), .int vs, .int vp, .int vo, .int (nI (((((LL (oo m)).take j).filter (mT (oo m) m vs vp vo)).length) + 1))] rfl ?_
          have hst := fl_step (L := (LL (oo m))) (k := j) (q := mT (oo m) m vs vp vo) hj3
          rw [if_pos ((mT_pm hm vs vp vo _).mpr hpm3)] at hst
          rw [← hst]
          refine v_goto C d_TT_many_39 25 (by decide) ?_
          exact ih (j + 1) X3 (by omega) (by omega) (by omega) (sq3.2.2.1.trans a2) (sq3.2.2.2.1.trans a3) (sq3.2.2.2.2.trans a4) hq3
        · refine v_if_eqR C d_TT_many_33 42 (by decide) (fun c0 => ?_) (fun c0 => False.elim (by exact c0 rfl))
          refine v_iload C d_TT_many_42 rfl ?_
          have hnm := nm_after hs hTT htd hK hj0 hno3
          exact v_iret C rfl d_TT_many_44 (⟨_, rfl, Or.inl ⟨m, hm, rfl, by rw [fl_takeE (fun i h1 h2 => mT_no hm (hnm i h1 h2)), ← cnM_rot hLI hot]; rfl, T1, X3, sm1, rfl⟩⟩)
    have e0 : (((LL (oo m)).take (blw (LL (oo m)) (lowk (bcn m) (ec (oo m) vs vp vo)))).filter (mT (oo m) m vs vp vo)).length = 0 := by rw [fl_take0 (fun i h1 h2 => mT_no hm (pm_bef hs hTT htd hK h1))]; rfl
    have hgo := lp ((LL (oo m)).length + 1) _ X1 (by omega) hbl (Nat.le_refl _) b21 b31 b41 hps1
    rw [e0] at hgo
    exact hgo
  · refine v_if_neR C d_TT_many_4 9 (by decide) (fun c0 => False.elim (by exact c0 rfl)) (fun c0 => ?_)
    refine v_iconst C d_TT_many_7 (-1) (by decide) ?_
    exact v_iret C rfl d_TT_many_8 (⟨_, rfl, Or.inr ⟨hno, rfl, rfl⟩⟩)

set_option maxHeartbeats 800000 in
set_option maxRecDepth 20000 in
theorem c_TT_removeAll (l : Launch) (D : va_G) (kA : Nat → ClassId) (ad : Nat → Nat → Nat) (sz ch mc : Nat) (T : Nat → TS) (Cu : Nat → Nat → Nat) (mt : Nat → Int32) (fa : Nat → Nat) (dd : Nat → Nat) (LL : Nat → List Nat) (v : Int32) (vs vp vo : Int32) (hX : XI T dd LL) (hLI : LI LL) (hsz : sz = (LL 0).length) (hL : (LL 0).length ≤ 520) : Ct l D kA 142 y_TT_removeAll b_TT_removeAll 7 (some .int) [.ref (ad 0 0), .int v, .int vs, .int vp, .int vo] (xw kA ad sz ch mc T Cu mt fa) (pI fun x w => (∃ m1, m1 < 8 ∧ v = nI m1 ∧ x = nI (cnM LL 0 m1 vs vp vo) ∧ ∃ (T' : Nat → TS) (dd' X' : Nat → Nat), w = (xw kA ad (sz - cnM LL 0 m1 vs vp vo) (ch + cnM LL 0 m1 vs vp vo) mc T' (va_up Cu 8 X') mt fa) ∧ XI T' dd' (flM LL m1 vs vp vo)) ∨ ((∀ m2, m2 < 8 → v ≠ nI m2) ∧ x = -1 ∧ w = (xw kA ad sz ch mc T Cu mt fa))) := by
  refine ct_of (by decide) (Nat.le_of_ble_eq_true rfl) rfl ?_
  intro pg en s0 m0 args below meth cod C
  refine v_iload_n C d_TT_removeAll_0 rfl ?_
  refine v_cS C (As := [.int v]) (st := []) (c_TT_isMask l D kA v) cv_TT_isMask ml_TT_117 d_TT_removeAll_1 ⟨by omega, by decide⟩ ⟨rfl, rfl⟩ rfl ?_
  rintro x9 hx9
  rcases hx9 with ⟨m, hm, rfl, rfl⟩ | ⟨hno, rfl⟩
  · refine v_if_neR C d_TT_removeAll_4 9 (by decide) (fun c0 => ?_) (fun c0 => False.elim (by exact absurd c0 (by decide)))
    have hot := oo_lt m
    have htd := bcn_le m
    have hK := ec_lt (oo m) vs vp vo
    refine v_iconst C d_TT_removeAll_9 (nI 0) (by decide) ?_
    refine v_istore C d_TT_removeAll_10 ⟨Nat.le_of_ble_eq_true rfl, Nat.le_of_ble_eq_true rfl⟩ [.ref (ad 0 0), .int (nI m), .int vs, .int vp, .int vo, .int (nI 0)] rfl ?_
    refine v_ws (ws' := (xw kA ad sz ch mc T (va_up Cu 8 (Cu 8)) mt fa)) (by rw [up_eta]) ?_
    refine v_aload_n C d_TT_removeAll_12 rfl ?_
    refine v_aload_n C d_TT_removeAll_13 rfl ?_
    refine v_getf C i_TT (ci := 2) rfl 7 (by decide) (List.mem_of_getElem? (i := 0) rfl) fl_TT_29 d_TT_removeAll_14 (.ref (ad 2 8)) rfl ?_
    refine v_iload_n C d_TT_removeAll_17 rfl ?_
    refine v_iload_n C d_TT_removeAll_18 rfl ?_
    refine v_iload_n C d_TT_removeAll_19 rfl ?_
    refine v_iload C d_TT_removeAll_20 rfl ?_
    refine v_cV C (As := [.ref (ad 2 8), .int (nI m), .int vs, .int vp, .int vo]) (st := []) (c_TT_begin l D kA ad sz ch mc T Cu mt fa dd LL 8 m (Cu 8) vs vp vo hX (by decide) hm) cv_TT_begin ml_TT_121 d_TT_removeAll_22 ⟨by omega, by decide⟩ xw_rcv ⟨rfl, rfl⟩ rfl ?_
    rintro _ ⟨T1, X1, sm1, rfl, b01, b11, b21, b31, b41, b71, hps1⟩
    have hX1 := sm1.XI hX
    replace hps1 := hps1.sm (sm1 _).1 (sm1 _).2.2
    have lp : ∀ (t9 : Nat) (n : Nat) (T2 : Nat → TS) (dd2 : Nat → Nat) (LL2 : Nat → List Nat) (X2 : Nat → Nat), (LL2 0).length < t9 → XI T2 dd2 LL2 → LI LL2 → (∀ t, t < 3 → flM LL2 m vs vp vo t = flM LL m vs vp vo t) → cnM LL 0 m vs vp vo = cnM LL2 0 m vs vp vo + n → (LL2 0).length + n = (LL 0).length → X2 2 = oo m → X2 3 = bcn m → X2 4 = (ec (oo m) vs vp vo) → ps (T2 (oo m)) (dd2 (oo m)) (LL2 (oo m)) (X2 5) (X2 6) (blw (LL2 (oo m)) (lowk (bcn m) (ec (oo m) vs vp vo))) → V pg l en (rmk 142) s0 m0 args below meth cod D (qA (xw kA ad sz ch mc T Cu mt fa)) 7 0 0 (MQ below (QC D (xw kA ad sz ch mc T Cu mt fa) (pI fun x w => (∃ m1, m1 < 8 ∧ (nI m) = nI m1 ∧ x = nI (cnM LL 0 m1 vs vp vo) ∧ ∃ (T' : Nat → TS) (dd' X' : Nat → Nat), w = (xw kA ad (sz - cnM LL 0 m1 vs vp vo) (ch + cnM LL 0 m1 vs vp vo) mc T' (va_up Cu 8 X') mt fa) ∧ XI T' dd' (flM LL m1 vs vp vo)) ∨ ((∀ m2, m2 < 8 → (nI m) ≠ nI m2) ∧ x = -1 ∧ w = (xw kA ad sz ch mc T Cu mt fa)))) args s0 0 0 (qA (xw kA ad sz ch mc T Cu mt fa))) 25 [.ref (ad 0 0), .int (nI m), .int vs, .int vp, .int vo, .int (nI n)] [] (xw kA ad (sz - n) (ch + n) mc T2 (va_up Cu 8 X2) mt fa) := by
      intro t9
      induction t9 with
      | zero => intro n T2 dd2 LL2 X2 hn; omega
      | succ t9 ih =>
        intro n T2 dd2 LL2 X2 hn hX2 hLI2 hfl hcn hln a2 a3 a4 hq
        refine v_aload_n C d_TT_removeAll_25 rfl ?_
        refine v_aload_n C d_TT_removeAll_26 rfl ?_
        refine v_getf C i_TT (ci := 2) rfl 7 (by decide) (List.mem_of_getElem? (i := 0) rfl) fl_TT_29 d_TT_removeAll_27 (.ref (ad 2 8)) rfl ?_
        have hs := (hLI2.1 _ hot).1
        have hTT := (hLI2.1 _ hot).2.1
        have hL0 : (LL2 (oo m)).length = (LL2 0).length := (hLI2.1 _ hot).2.2
        refine v_cI C (As := [.ref (ad 2 8)]) (st := []) (c_TT_step l D kA ad (sz - n) (ch + n) mc T2 Cu mt fa dd2 LL2 8 (blw (LL2 (oo m)) (lowk (bcn m) (ec (oo m) vs vp vo))) X2 hX2 (by decide) (by rw [a2]; exact hot) (by rw [a3]; exact htd) (by rw [a2]; exact hq)) cv_TT_step ml_TT_125 d_TT_removeAll_30 ⟨by omega, by decide⟩ xw_rcv ⟨rfl, rfl⟩ rfl ?_
        rintro x9 w9 hs9
        rcases stp_of hX2 a2 a3 a4 hot hs9 with ⟨hj3, hpm3, rfl, X3, rfl, sq3, x73, x83, hq3, hpl3⟩ | ⟨hno3, rfl, X3, rfl, sq3, x73, x83, hq3⟩
        · refine v_if_eqR C d_TT_removeAll_33 85 (by decide) (fun c0 => False.elim (by exact absurd c0 (by decide))) (fun c0 => ?_)
          have hY := hTT _ (lg_mem hj3)
          have hYe := ec_po hot hY
          have e2 : X3 2 = oo m := sq3.2.2.1.trans a2
          refine v_aload_n C d_TT_removeAll_36 rfl ?_
          refine v_aload_n C d_TT_removeAll_37 rfl ?_
          refine v_getf C i_TT (ci := 2) rfl 7 (by decide) (List.mem_of_getElem? (i := 0) rfl) fl_TT_29 d_TT_removeAll_38 (.ref (ad 2 8)) rfl ?_
          refine v_iconst C d_TT_removeAll_41 (nI 0) (by decide) ?_
          refine v_cSw C (As := [.ref (ad 2 8), .int (nI 0)]) (st := [.ref (ad 0 0)]) (c_TT_partOf l D kA ad (sz - n) (ch + n) mc T2 Cu mt fa 8 0 X3 (by decide) (by rw [e2]; exact hot) (by decide)) cv_TT_partOf ml_TT_129 d_TT_removeAll_42 ⟨by omega, by decide⟩ ⟨rfl, rfl⟩ rfl ?_
          rintro _ _ ⟨rfl, rfl⟩
          refine v_aload_n C d_TT_removeAll_45 rfl ?_
          refine v_getf C i_TT (ci := 2) rfl 7 (by decide) (List.mem_of_getElem? (i := 0) rfl) fl_TT_29 d_TT_removeAll_46 (.ref (ad 2 8)) rfl ?_
          refine v_iconst C d_TT_removeAll_49 (nI 1) (by decide) ?_
          refine v_cSw C (As := [.ref (ad 2 8), .int (nI 1)]) (st := [.int (dc (X3 8) (po (X3 2) 0)), .ref (ad 0 0)]) (c_TT_partOf l D kA ad (sz - n) (ch + n) mc T2 Cu mt fa 8 1 X3 (by decide) (by rw [e2]; exact hot) (by decide)) cv_TT_partOf ml_TT_129 d_TT_removeAll_50 ⟨by omega, by decide⟩ ⟨rfl, rfl⟩ rfl ?_
          rintro _ _ ⟨rfl, rfl⟩
          refine v_aload_n C d_TT_removeAll_53 rfl ?_
          refine v_getf C i_TT (ci := 2) rfl 7 (by decide) (List.mem_of_getElem? (i := 0) rfl) fl_TT_29 d_TT_removeAll_54 (.ref (ad 2 8)) rfl ?_
          refine v_iconst C d_TT_removeAll_57 (nI 2) (by decide) ?_
          refine v_cSw C (As := [.ref (ad 2 8), .int (nI 2)]) (st := [.int (dc (X3 8) (po (X3 2) 1)), .int (dc (X3 8) (po (X3 2) 0)), .ref (ad 0 0)]) (c_TT_partOf l D kA ad (sz - n) (ch + n) mc T2 Cu mt fa 8 2 X3 (by decide) (by rw [e2]; exact hot) (by decide)) cv_TT_partOf ml_TT_129 d_TT_removeAll_58 ⟨by omega, by decide⟩ ⟨rfl, rfl⟩ rfl ?_
          rintro _ _ ⟨rfl, rfl⟩
          rw [e2, x83]
          generalize hya : (dc (lg (LL2 (oo m)) (blw (LL2 (oo m)) (lowk (bcn m) (ec (oo m) vs vp vo)))) (po (oo m) 0)) = ya at *
          generalize hyb : (dc (lg (LL2 (oo m)) (blw (LL2 (oo m)) (lowk (bcn m) (ec (oo m) vs vp vo)))) (po (oo m) 1)) = yb at *
          generalize hyc : (dc (lg (LL2 (oo m)) (blw (LL2 (oo m)) (lowk (bcn m) (ec (oo m) vs vp vo)))) (po (oo m) 2)) = yc at *
          have hin : ec (oo m) ya yb yc ∈ LL2 (oo m) := by rw [hYe]; exact lg_mem hj3
          have hin0 := (hLI2.2 _ _ _ _ hot).mp hin
          have hmt : mT 0 m vs vp vo (ec 0 ya yb yc) = true := by rw [← mT_rot hot, hYe]; exact (mT_pm hm _ _ _ _).mpr hpm3
          refine v_cI C (As := [.int ya, .int yb, .int yc]) (st := []) (c_TT_remove l D kA ad (sz - n) (ch + n) mc T2 (va_up Cu 8 X3) mt fa dd2 LL2 ya yb yc hX2 hLI2 (by omega) (by omega)) cv_TT_remove ml_TT_133 d_TT_removeAll_61 ⟨by omega, by decide⟩ xw_rcv ⟨rfl, rfl⟩ rfl ?_
          rintro x8 w8 hr
          rcases hr with ⟨hr0, -⟩ | ⟨-, rfl, T4, dd4, LL4, rfl, hX4, hd4⟩
          · exact absurd hin0 hr0
          obtain ⟨hf1, hf2⟩ := flM_del (mk := m) (s := vs) (p := vp) (o := vo) hd4 hmt
          have hLI4 := LI.del hLI2 hin0 hd4
          have hlen4 := (hd4 0 (by decide)).len
          refine v_istore C d_TT_removeAll_64 ⟨Nat.le_of_ble_eq_true rfl, Nat.le_of_ble_eq_true rfl⟩ [.ref (ad 0 0), .int (nI m), .int vs, .int vp, .int vo, .int (nI n), .int 1] rfl ?_
          refine v_iinc C d_TT_removeAll_66 rfl ⟨Nat.le_of_ble_eq_true rfl, Nat.le_of_ble_eq_true rfl⟩ (nI (n + 1)) (inc1 _) [.ref (ad 0 0), .int (nI m), .int vs, .int vp, .int vo, .int (nI (n + 1)), .int 1] rfl ?_
          refine v_aload_n C d_TT_removeAll_69 rfl ?_
          refine v_aload_n C d_TT_removeAll_70 rfl ?_
          refine v_getf C i_TT (ci := 2) rfl 7 (by decide) (List.mem_of_getElem? (i := 0) rfl) fl_TT_29 d_TT_removeAll_71 (.ref (ad 2 8)) rfl ?_
          refine v_iload_n C d_TT_removeAll_74 rfl ?_
          refine v_iload_n C d_TT_removeAll_75 rfl ?_
          refine v_iload_n C d_TT_removeAll_76 rfl ?_
          refine v_iload C d_TT_removeAll_77 rfl ?_
          refine v_cV C (As := [.ref (ad 2 8), .int (nI m), .int vs, .int vp, .int vo]) (st := []) (c_TT_begin l D kA ad (sz - n - 1) (ch + n + 1) mc T4 Cu mt fa dd4 LL4 8 m X3 vs vp vo hX4 (by decide) hm) cv_TT_begin ml_TT_121 d_TT_removeAll_79 ⟨by omega, by decide⟩ xw_rcv ⟨rfl, rfl⟩ rfl ?_
          rintro _ ⟨T5, X5, sm5, rfl, b05, b15, b25, b35, b45, b75, hps5⟩
          refine v_goto C d_TT_removeAll_82 25 (by decide) ?_
          refine v_less 6 rfl ?_
          rw [Nat.sub_sub, Nat.add_assoc]
          exact ih (n + 1) T5 dd4 LL4 X5 (by omega) (sm5.XI hX4) hLI4 (fun t ht => (hf1 t ht).trans (hfl t ht)) (by omega) (by omega) b25 b35 b45 (hps5.sm (sm5 _).1 (sm5 _).2.2)
        · refine v_if_eqR C d_TT_removeAll_33 85 (by decide) (fun c0 => ?_) (fun c0 => False.elim (by exact c0 rfl))
          have hnm := nm_after hs hTT htd hK (Nat.le_refl _) hno3
          have hz : cnM LL2 0 m vs vp vo = 0 := by
            rw [← cnM_rot hLI2 hot]
            unfold cnM
            rw [← fl_takeE (fun i h1 h2 => mT_no hm (hnm i h1 h2)), fl_take0 (fun i h1 h2 => mT_no hm (pm_bef hs hTT htd hK h1))]; rfl
          obtain rfl : n = cnM LL 0 m vs vp vo := by omega
          refine v_iload C d_TT_removeAll_85 rfl ?_
          exact v_iret C rfl d_TT_removeAll_87 (⟨_, rfl, Or.inl ⟨m, hm, rfl, rfl, T2, dd2, X3, rfl, fun t ht => by rw [← hfl t ht, cn0_fl hLI2 hz ht]; exact hX2 t ht⟩⟩)
    exact lp ((LL 0).length + 1) 0 T1 dd LL X1 (by omega) hX1 hLI (fun _ _ => rfl) rfl rfl b21 b31 b41 hps1
  · refine v_if_neR C d_TT_removeAll_4 9 (by decide) (fun c0 => False.elim (by exact c0 rfl)) (fun c0 => ?_)
    refine v_iconst C d_TT_removeAll_7 (-1) (by decide) ?_
    exact v_iret C rfl d_TT_removeAll_8 (⟨_, rfl, Or.inr ⟨hno, rfl, rfl⟩⟩)
