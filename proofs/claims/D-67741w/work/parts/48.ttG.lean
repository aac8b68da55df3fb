theorem up_comm {β : Type} (F : Nat → β) {a b : Nat} (h : a ≠ b) (x y : β) : va_up (va_up F a x) b y = va_up (va_up F b y) a x := by
  funext j
  by_cases h1 : j = b
  · subst h1; rw [va_up_self, va_up_ne _ _ (fun e => h e.symm), va_up_self]
  · rw [va_up_ne _ _ h1]
    by_cases h2 : j = a
    · subst h2; rw [va_up_self, va_up_self]
    · rw [va_up_ne _ _ h2, va_up_ne _ _ h2, va_up_ne _ _ h1]
theorem mem_tk {L : List Nat} {j x : Nat} (hx : x ∈ L.take j) : ∃ i, i < j ∧ i < L.length ∧ lg L i = x := by
  obtain ⟨i, hi, e⟩ := List.getElem_of_mem hx
  rw [List.length_take] at hi
  rw [List.getElem_take] at e
  have e1 := lg_get (show i < L.length by omega)
  rw [List.getElem?_eq_getElem (by omega)] at e1
  exact ⟨i, by omega, by omega, by rw [← e]; exact (Option.some.inj e1).symm⟩
theorem mem_dr {L : List Nat} {j x : Nat} (hx : x ∈ L.drop j) : ∃ i, j ≤ i ∧ i < L.length ∧ lg L i = x := by
  obtain ⟨i, hi, e⟩ := List.getElem_of_mem hx
  rw [List.length_drop] at hi
  rw [List.getElem_drop] at e
  have e1 := lg_get (show j + i < L.length by omega)
  rw [List.getElem?_eq_getElem (by omega)] at e1
  exact ⟨j + i, by omega, by omega, by rw [← e]; exact (Option.some.inj e1).symm⟩
/-- the sum that chains makes, up to the place j -/
def chS (LL : Nat → List Nat) (vp vq : Int32) (l : List Nat) : Nat := ((l.filter (mT (oo 2) 2 (nI 0) vp (nI 0))).map (fun y => cnM LL 0 3 (dc y (po (oo 2) 2)) vq (nI 0))).sum
theorem chS_app (LL : Nat → List Nat) (vp vq : Int32) (l l' : List Nat) : chS LL vp vq (l ++ l') = chS LL vp vq l + chS LL vp vq l' := by
  unfold chS
  rw [List.filter_append, List.map_append, List.sum_append]
theorem chS_no (LL : Nat → List Nat) (vp vq : Int32) {l : List Nat} (h : ∀ x ∈ l, mT (oo 2) 2 (nI 0) vp (nI 0) x = false) : chS LL vp vq l = 0 := by
  unfold chS
  rw [filt_none l h]; rfl
theorem chS_one (LL : Nat → List Nat) (vp vq : Int32) {x : Nat} (h : mT (oo 2) 2 (nI 0) vp (nI 0) x = true) : chS LL vp vq [x] = cnM LL 0 3 (dc x (po (oo 2) 2)) vq (nI 0) := by
  unfold chS
  rw [List.filter_cons_of_pos h]
  simp
theorem chc_sum (L : List Nat) (p q : Int32) : ∀ k, k ≤ L.length → chc L p q k = (((L.take k).filter (fun x => decide (dc x 1 = p))).map (fun x => (L.filter (cq q x)).length)).sum
  | 0, _ => rfl
  | k + 1, h => by
    rw [chc, chc_sum L p q k (by omega), take_s (by omega), List.filter_append, List.map_append, List.sum_append]
    by_cases hp : dc (lg L k) 1 = p
    · rw [if_pos hp, List.filter_cons_of_pos (by simpa using hp)]; simp
    · rw [if_neg hp, List.filter_cons_of_neg (by simpa using hp)]; simp
theorem ch_e1 {x : Nat} (hx : x < TOP) (vp : Int32) : mT 1 2 (nI 0) vp (nI 0) (rtc 1 x) = decide (dc x 1 = vp) := by
  rw [mT_rt (by decide) hx, Bool.eq_iff_iff, mT_iff, decide_eq_true_iff, po0.2.1]
  exact ⟨fun z => z.2.1.elim (fun q => absurd q (by decide)) id, fun z => ⟨Or.inl rfl, Or.inr z, Or.inl rfl⟩⟩
theorem ch_e2 (x : Nat) : dc (rtc 1 x) (po 1 2) = dc x 2 := by
  unfold rtc
  rw [po_sel (by decide) (by decide)]
  unfold sel
  rw [if_neg (by decide), if_neg (by decide)]
theorem ch_e3 (x y : Nat) (vq : Int32) : mT 0 3 (dc x 2) vq (nI 0) y = cq vq x y := by
  rw [Bool.eq_iff_iff, mT_iff, po0.1, po0.2.1]
  unfold cq
  rw [Bool.and_eq_true, decide_eq_true_iff, decide_eq_true_iff]
  exact ⟨fun z => ⟨z.2.1.elim (fun q => absurd q (by decide)) id, (z.1.elim (fun q => absurd q (by decide)) id).symm⟩, fun z => ⟨Or.inr z.2.symm, Or.inr z.1, Or.inl rfl⟩⟩
theorem ch_e4 (LL : Nat → List Nat) (vp vq : Int32) : chS LL vp vq (LL (oo 2)) = (((LL 1).filter (mT 1 2 (nI 0) vp (nI 0))).map (fun y => cnM LL 0 3 (dc y (po 1 2)) vq (nI 0))).sum := by
  have ho : oo 2 = 1 := by decide
  unfold chS
  rw [ho]
theorem ch_e5 (LL : Nat → List Nat) (x : Nat) (vq : Int32) : cnM LL 0 3 (dc (rtc 1 x) (po 1 2)) vq (nI 0) = ((LL 0).filter (cq vq x)).length := by
  rw [ch_e2]
  unfold cnM
  rw [List.filter_congr (fun y _ => ch_e3 x y vq)]
theorem chS_all {LL : Nat → List Nat} (h : LI LL) (vp vq : Int32) : chS LL vp vq (LL (oo 2)) = chc (LL 0) vp vq (LL 0).length := by
  rw [chc_sum _ _ _ _ (Nat.le_refl _), List.take_length, ch_e4]
  rw [(((h.perm (t := 1) (by decide)).filter _).map _).sum_nat, List.filter_map, List.map_map]
  rw [List.filter_congr (p := mT 1 2 (nI 0) vp (nI 0) ∘ rtc 1) (q := fun x => decide (dc x 1 = vp)) (fun x hx => by rw [Function.comp_apply]; exact ch_e1 ((h.1 0 (by decide)).2.1 x hx) vp)]
  rw [List.map_congr_left (f := (fun y => cnM LL 0 3 (dc y (po 1 2)) vq (nI 0)) ∘ rtc 1) (g := fun x => ((LL 0).filter (cq vq x)).length) (fun x _ => by rw [Function.comp_apply]; exact ch_e5 LL x vq)]

set_option maxHeartbeats 800000 in
set_option maxRecDepth 20000 in
theorem c_TT_chains (l : Launch) (D : va_G) (kA : Nat → ClassId) (ad : Nat → Nat → Nat) (sz ch mc : Nat) (T : Nat → TS) (Cu : Nat → Nat → Nat) (mt : Nat → Int32) (fa : Nat → Nat) (dd : Nat → Nat) (LL : Nat → List Nat) (vp vq : Int32) (hX : XI T dd LL) (hLI : LI LL) (hL : (LL 0).length ≤ 520) : Ct l D kA 5 y_TT_chains b_TT_chains 4 (some .int) [.ref (ad 0 0), .int vp, .int vq] (xw kA ad sz ch mc T Cu mt fa) (pI fun x w => x = nI (chc (LL 0) vp vq (LL 0).length) ∧ ∃ (T' : Nat → TS) (Cu' : Nat → Nat → Nat), Sm T T' ∧ (∀ c, c < 8 → Cu' c = Cu c) ∧ w = (xw kA ad sz ch mc T' Cu' mt fa)) := by
  refine ct_of (by decide) (Nat.le_of_ble_eq_true rfl) rfl ?_
  intro pg en s0 m0 args below meth cod C
  have hot : oo 2 < 3 := by decide
  have htd : bcn 2 ≤ 3 := by decide
  have hK := ec_lt (oo 2) (nI 0) vp (nI 0)
  have hs := (hLI.1 _ hot).1
  have hTT := (hLI.1 _ hot).2.1
  have hbl := blw_le (LL (oo 2)) (lowk (bcn 2) (ec (oo 2) (nI 0) vp (nI 0)))
  have hm2 : (2 : Nat) < 8 := by decide
  have hot3 : oo 3 < 3 := by decide
  have htd3 : bcn 3 ≤ 3 := by decide
  have hm3 : (3 : Nat) < 8 := by decide
  have hs3 := (hLI.1 _ hot3).1
  have hTT3 := (hLI.1 _ hot3).2.1
  refine v_ws (ws' := (xw kA ad sz ch mc T (va_up (va_up Cu 9 (Cu 9)) 8 (Cu 8)) mt fa)) (by rw [up_eta, up_eta]) ?_
  refine v_iconst C d_TT_chains_0 (nI 0) (by decide) ?_
  refine v_istore_n C d_TT_chains_1 ⟨Nat.le_of_ble_eq_true rfl, Nat.le_of_ble_eq_true rfl⟩ [.ref (ad 0 0), .int vp, .int vq, .int (nI 0)] rfl ?_
  refine v_aload_n C d_TT_chains_2 rfl ?_
  refine v_aload_n C d_TT_chains_3 rfl ?_
  refine v_getf C i_TT (ci := 2) rfl 7 (by decide) (List.mem_of_getElem? (i := 0) rfl) fl_TT_29 d_TT_chains_4 (.ref (ad 2 8)) rfl ?_
  refine v_iconst C d_TT_chains_7 (nI 2) (by decide) ?_
  refine v_iconst C d_TT_chains_8 (nI 0) (by decide) ?_
  refine v_iload_n C d_TT_chains_9 rfl ?_
  refine v_iconst C d_TT_chains_10 (nI 0) (by decide) ?_
  refine v_cV C (As := [.ref (ad 2 8), .int (nI 2), .int (nI 0), .int vp, .int (nI 0)]) (st := []) (c_TT_begin l D kA ad sz ch mc T (va_up Cu 9 (Cu 9)) mt fa dd LL 8 2 (Cu 8) (nI 0) vp (nI 0) hX (by decide) hm2) cv_TT_begin ml_TT_121 d_TT_chains_11 ⟨by omega, by decide⟩ xw_rcv ⟨rfl, rfl⟩ rfl ?_
  rintro _ ⟨T1, X1, sm1, rfl, b01, b11, b21, b31, b41, b71, hps1⟩
  have hX1 := sm1.XI hX
  replace hps1 := hps1.sm (sm1 _).1 (sm1 _).2.2
  have lp : ∀ (t9 : Nat) (j : Nat) (X2 Z : Nat → Nat) (T2 : Nat → TS), (LL (oo 2)).length - j < t9 → j ≤ (LL (oo 2)).length → blw (LL (oo 2)) (lowk (bcn 2) (ec (oo 2) (nI 0) vp (nI 0))) ≤ j → Sm T T2 → XI T2 dd LL → X2 2 = oo 2 → X2 3 = bcn 2 → X2 4 = (ec (oo 2) (nI 0) vp (nI 0)) → ps (T2 (oo 2)) (dd (oo 2)) (LL (oo 2)) (X2 5) (X2 6) j → V pg l en (rmk 5) s0 m0 args below meth cod D (qA (xw kA ad sz ch mc T Cu mt fa)) 4 0 0 (MQ below (QC D (xw kA ad sz ch mc T Cu mt fa) (pI fun x w => x = nI (chc (LL 0) vp vq (LL 0).length) ∧ ∃ (T' : Nat → TS) (Cu' : Nat → Nat → Nat), Sm T T' ∧ (∀ c, c < 8 → Cu' c = Cu c) ∧ w = (xw kA ad sz ch mc T' Cu' mt fa))) args s0 0 0 (qA (xw kA ad sz ch mc T Cu mt fa))) 14 [.ref (ad 0 0), .int vp, .int vq, .int (nI (chS LL vp vq ((LL (oo 2)).take j)))] [] (xw kA ad sz ch mc T2 (va_up (va_up Cu 9 Z) 8 X2) mt fa) := by
    intro t9
    induction t9 with
    | zero => intro j X2 Z T2 hj; omega
    | succ t9 ih =>
      intro j X2 Z T2 hj hjl hj0 sm2 hX2 a2 a3 a4 hq
      refine v_aload_n C d_TT_chains_14 rfl ?_
      refine v_aload_n C d_TT_chains_15 rfl ?_
      refine v_getf C i_TT (ci := 2) rfl 7 (by decide) (List.mem_of_getElem? (i := 0) rfl) fl_TT_29 d_TT_chains_16 (.ref (ad 2 8)) rfl ?_
      refine v_cI C (As := [.ref (ad 2 8)]) (st := []) (c_TT_step l D kA ad sz ch mc T2 (va_up Cu 9 Z) mt fa dd LL 8 j X2 hX2 (by decide) (by rw [a2]; exact hot) (by rw [a3]; exact htd) (by rw [a2]; exact hq)) cv_TT_step ml_TT_125 d_TT_chains_19 ⟨by omega, by decide⟩ xw_rcv ⟨rfl, rfl⟩ rfl ?_
      rintro x9 w9 hs9
      rcases stp_of hX2 a2 a3 a4 hot hs9 with ⟨hj3, hpm3, rfl, X3, rfl, sq3, x73, x83, hq3, hpl3⟩ | ⟨hno3, rfl, X3, rfl, sq3, x73, x83, hq3⟩
      · refine v_if_eqR C d_TT_chains_22 61 (by decide) (fun c0 => False.elim (by exact absurd c0 (by decide))) (fun c0 => ?_)
        refine v_aload_n C d_TT_chains_25 rfl ?_
        refine v_aload_n C d_TT_chains_26 rfl ?_
        refine v_getf C i_TT (ci := 2) rfl 8 (by decide) (List.mem_of_getElem? (i := 0) rfl) fl_TT_33 d_TT_chains_27 (.ref (ad 2 9)) rfl ?_
        refine v_iconst C d_TT_chains_30 (nI 3) (by decide) ?_
        refine v_aload_n C d_TT_chains_31 rfl ?_
        refine v_getf C i_TT (ci := 2) rfl 7 (by decide) (List.mem_of_getElem? (i := 0) rfl) fl_TT_29 d_TT_chains_32 (.ref (ad 2 8)) rfl ?_
        refine v_iconst C d_TT_chains_35 (nI 2) (by decide) ?_
        have q1 : (LL (oo 2)).length - (j + 1) < t9 := by omega
        have q2 : blw (LL (oo 2)) (lowk (bcn 2) (ec (oo 2) (nI 0) vp (nI 0))) ≤ j + 1 := by omega
        clear hpl3
        have e2 : X3 2 = oo 2 := sq3.2.2.1.trans a2
        have hst : chS LL vp vq ((LL (oo 2)).take (j + 1)) = chS LL vp vq ((LL (oo 2)).take j) + cnM LL 0 3 (dc (lg (LL (oo 2)) j) (po (oo 2) 2)) vq (nI 0) := by rw [take_s hj3, chS_app, chS_one LL vp vq ((mT_pm hm2 _ _ _ _).mpr hpm3)]
        refine v_cSw C (As := [.ref (ad 2 8), .int (nI 2)]) (st := [.int (nI 3), .ref (ad 2 9), .ref (ad 0 0)]) (c_TT_partOf l D kA ad sz ch mc T2 (va_up Cu 9 Z) mt fa 8 2 X3 (by decide) (by rw [e2]; exact hot) (by decide)) cv_TT_partOf ml_TT_129 d_TT_chains_36 ⟨by omega, by decide⟩ ⟨rfl, rfl⟩ rfl ?_
        rintro _ _ ⟨rfl, rfl⟩
        rw [e2, x83]
        obtain ⟨vo, hvo⟩ : ∃ z, z = dc (lg (LL (oo 2)) j) (po (oo 2) 2) := ⟨_, rfl⟩
        rw [← hvo]
        rw [← hvo] at hst
        refine v_ws (ws' := (xw kA ad sz ch mc T2 (va_up (va_up Cu 8 X3) 9 Z) mt fa)) (by rw [up_comm Cu (by decide) Z X3]) ?_
        refine v_iload_n C d_TT_chains_39 rfl ?_
        refine v_iconst C d_TT_chains_40 (nI 0) (by decide) ?_
        refine v_cV C (As := [.ref (ad 2 9), .int (nI 3), .int vo, .int vq, .int (nI 0)]) (st := []) (c_TT_begin l D kA ad sz ch mc T2 (va_up Cu 8 X3) mt fa dd LL 9 3 Z vo vq (nI 0) hX2 (by decide) hm3) cv_TT_begin ml_TT_121 d_TT_chains_41 ⟨by omega, by decide⟩ xw_rcv ⟨rfl, rfl⟩ rfl ?_
        rintro _ ⟨T4, X4, sm4, rfl, b04, b14, b24, b34, b44, b74, hps4⟩
        have hX4 := sm4.XI hX2
        replace hps4 := hps4.sm (sm4 _).1 (sm4 _).2.2
        replace hq3 := hq3.sm (sm4 _).1 (sm4 _).2.2
        have hK3 := ec_lt (oo 3) vo vq (nI 0)
        have hbl3 := blw_le (LL (oo 3)) (lowk (bcn 3) (ec (oo 3) vo vq (nI 0)))
        have lp2 : ∀ (t8 : Nat) (k : Nat) (X5 : Nat → Nat), (LL (oo 3)).length - k < t8 → k ≤ (LL (oo 3)).length → blw (LL (oo 3)) (lowk (bcn 3) (ec (oo 3) vo vq (nI 0))) ≤ k → X5 2 = oo 3 → X5 3 = bcn 3 → X5 4 = (ec (oo 3) vo vq (nI 0)) → ps (T4 (oo 3)) (dd (oo 3)) (LL (oo 3)) (X5 5) (X5 6) k → V pg l en (rmk 5) s0 m0 args below meth cod D (qA (xw kA ad sz ch mc T Cu mt fa)) 4 0 0 (MQ below (QC D (xw kA ad sz ch mc T Cu mt fa) (pI fun x w => x = nI (chc (LL 0) vp vq (LL 0).length) ∧ ∃ (T' : Nat → TS) (Cu' : Nat → Nat → Nat), Sm T T' ∧ (∀ c, c < 8 → Cu' c = Cu c) ∧ w = (xw kA ad sz ch mc T' Cu' mt fa))) args s0 0 0 (qA (xw kA ad sz ch mc T Cu mt fa))) 44 [.ref (ad 0 0), .int vp, .int vq, .int (nI (chS LL vp vq ((LL (oo 2)).take j) + (((LL (oo 3)).take k).filter (mT (oo 3) 3 vo vq (nI 0))).length))] [] (xw kA ad sz ch mc T4 (va_up (va_up Cu 8 X3) 9 X5) mt fa) := by
          intro t8
          induction t8 with
          | zero => intro k X5 hk; omega
          | succ t8 ih2 =>
            intro k X5 hk hkl hk0 g2 g3 g4 hq
            refine v_aload_n C d_TT_chains_44 rfl ?_
            refine v_aload_n C d_TT_chains_45 rfl ?_
            refine v_getf C i_TT (ci := 2) rfl 8 (by decide) (List.mem_of_getElem? (i := 0) rfl) fl_TT_33 d_TT_chains_46 (.ref (ad 2 9)) rfl ?_
            refine v_cI C (As := [.ref (ad 2 9)]) (st := []) (c_TT_step l D kA ad sz ch mc T4 (va_up Cu 8 X3) mt fa dd LL 9 k X5 hX4 (by decide) (by rw [g2]; exact hot3) (by rw [g3]; exact htd3) (by rw [g2]; exact hq)) cv_TT_step ml_TT_125 d_TT_chains_49 ⟨by omega, by decide⟩ xw_rcv ⟨rfl, rfl⟩ rfl ?_
            rintro x9 w9 hs9
            rcases stp_of hX4 g2 g3 g4 hot3 hs9 with ⟨hj6, hpm6, rfl, X6, rfl, sq6, x76, x86, hq6, hpl6⟩ | ⟨hno6, rfl, X6, rfl, sq6, x76, x86, hq6⟩
            · refine v_if_eqR C d_TT_chains_52 14 (by decide) (fun c0 => False.elim (by exact absurd c0 (by decide))) (fun c0 => ?_)
              refine v_iinc C d_TT_chains_55 rfl ⟨Nat.le_of_ble_eq_true rfl, Nat.le_of_ble_eq_true rfl⟩ (nI ((chS LL vp vq ((LL (oo 2)).take j) + (((LL (oo 3)).take k).filter (mT (oo 3) 3 vo vq (nI 0))).length) + 1)) (inc1 _) [.ref (ad 0 0), .int vp, .int vq, .int (nI ((chS LL vp vq ((LL (oo 2)).take j) + (((LL (oo 3)).take k).filter (mT (oo 3) 3 vo vq (nI 0))).length) + 1))] rfl ?_
              have hst6 := fl_step (L := (LL (oo 3))) (k := k) (q := mT (oo 3) 3 vo vq (nI 0)) hj6
              rw [if_pos ((mT_pm hm3 vo vq (nI 0) _).mpr hpm6)] at hst6
              clear hpl6
              rw [show chS LL vp vq ((LL (oo 2)).take j) + (((LL (oo 3)).take k).filter (mT (oo 3) 3 vo vq (nI 0))).length + 1 = chS LL vp vq ((LL (oo 2)).take j) + (((LL (oo 3)).take (k + 1)).filter (mT (oo 3) 3 vo vq (nI 0))).length from by rw [hst6, Nat.add_assoc]]
              refine v_goto C d_TT_chains_58 44 (by decide) ?_
              exact ih2 (k + 1) X6 (by omega) (by omega) (by omega) (sq6.2.2.1.trans g2) (sq6.2.2.2.1.trans g3) (sq6.2.2.2.2.trans g4) hq6
            · refine v_if_eqR C d_TT_chains_52 14 (by decide) (fun c0 => ?_) (fun c0 => False.elim (by exact c0 rfl))
              have hnm := nm_after hs3 hTT3 htd3 hK3 hk0 hno6
              have e9 : (((LL (oo 3)).take k).filter (mT (oo 3) 3 vo vq (nI 0))).length = cnM LL 0 3 vo vq (nI 0) := by rw [fl_takeE (fun i h1 h2 => mT_no hm3 (hnm i h1 h2))]; rfl
              rw [e9, ← hst]
              refine v_ws (ws' := (xw kA ad sz ch mc T4 (va_up (va_up Cu 9 X6) 8 X3) mt fa)) (by rw [up_comm Cu (by decide) X6 X3]) ?_
              exact ih (j + 1) X3 X6 T4 q1 hj3 q2 (sm2.tr sm4) hX4 (sq3.2.2.1.trans a2) (sq3.2.2.2.1.trans a3) (sq3.2.2.2.2.trans a4) hq3
        have e0 : (((LL (oo 3)).take (blw (LL (oo 3)) (lowk (bcn 3) (ec (oo 3) vo vq (nI 0))))).filter (mT (oo 3) 3 vo vq (nI 0))).length = 0 := by rw [fl_take0 (fun i h1 h2 => mT_no hm3 (pm_bef hs3 hTT3 htd3 hK3 h1))]; rfl
        have hgo := lp2 ((LL (oo 3)).length + 1) _ X4 (by omega) hbl3 (Nat.le_refl _) b24 b34 b44 hps4
        rw [e0, Nat.add_zero] at hgo
        exact hgo
      · refine v_if_eqR C d_TT_chains_22 61 (by decide) (fun c0 => ?_) (fun c0 => False.elim (by exact c0 rfl))
        refine v_iload_n C d_TT_chains_61 rfl ?_
        have hnm := nm_after hs hTT htd hK hj0 hno3
        have e9 : chS LL vp vq ((LL (oo 2)).take j) = chc (LL 0) vp vq (LL 0).length := by
          rw [← chS_all hLI]
          have := chS_app LL vp vq ((LL (oo 2)).take j) ((LL (oo 2)).drop j)
          rw [List.take_append_drop, chS_no LL vp vq (l := (LL (oo 2)).drop j) (fun x hx => by
            obtain ⟨i, h1, h2, rfl⟩ := mem_dr hx
            exact mT_no hm2 (hnm i h1 h2))] at this
          omega
        exact v_iret C rfl d_TT_chains_62 (⟨_, rfl, by rw [e9], T2, va_up (va_up Cu 9 Z) 8 X3, sm2, fun c hc => by rw [va_up_ne _ _ (by omega), va_up_ne _ _ (by omega)], rfl⟩)
  have e0 : chS LL vp vq ((LL (oo 2)).take (blw (LL (oo 2)) (lowk (bcn 2) (ec (oo 2) (nI 0) vp (nI 0))))) = 0 := chS_no LL vp vq (fun x hx => by
    obtain ⟨i, h1, h2, rfl⟩ := mem_tk hx
    exact mT_no hm2 (pm_bef hs hTT htd hK h1))
  have hgo := lp ((LL (oo 2)).length + 1) _ X1 (Cu 9) T1 (by omega) hbl (Nat.le_refl _) sm1 hX1 b21 b31 b41 hps1
  rw [e0] at hgo
  exact hgo
