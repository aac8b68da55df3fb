theorem fold_id {p a : Int32} {d : Nat} : ∀ (l : List Nat) (M : Bf), (∀ x ∈ l, ¬ (dc x 1 = p ∧ dc x 0 = a)) → l.foldl (bSt p a d) M = M
  | [], _, _ => rfl
  | x :: r, M, h => by
    rw [List.foldl_cons]
    have e : bSt p a d M x = M := by unfold bSt; rw [if_neg (h x List.mem_cons_self)]
    rw [e]
    exact fold_id r M (fun y hy => h y (List.mem_cons_of_mem _ hy))
theorem pm3 (a p z : Int32) (x : Nat) : pm 2 (ec 0 a p z) x ↔ dc x 0 = a ∧ dc x 1 = p := by
  rw [pm_2, ec_dc (t := 0) (by decide) (by decide), ec_dc (t := 0) (by decide) (by decide)]
  simp [sel]
theorem o3 : oo 3 = 0 := by decide
theorem c3 : bcn 3 = 2 := by decide
theorem po02 : po 0 2 = 2 := by decide

set_option maxHeartbeats 800000 in
set_option maxRecDepth 20000 in
theorem c_TT_meet (l : Launch) (D : va_G) (kA : Nat → ClassId) (ad : Nat → Nat → Nat) (sz ch mc : Nat) (T : Nat → TS) (Cu : Nat → Nat → Nat) (mt : Nat → Int32) (fa : Nat → Nat) (M : Bf) (v : Int32) (d : Nat) (hb : bR mt fa M) (hM : M.length ≤ 1400) : Ct l D kA 0 y_TT_meet b_TT_meet 4 none [.ref (ad 0 0), .int v, .int (nI d)] (xw kA ad sz ch M.length T Cu mt fa) (pV fun w => ∃ (mt' : Nat → Int32) (fa' : Nat → Nat), bR mt' fa' (bAdd M v d) ∧ w = (xw kA ad sz ch ((bAdd M v d).length) T Cu mt' fa')) := by
  refine ct_of (by decide) (Nat.le_of_ble_eq_true rfl) rfl ?_
  intro pg en s0 m0 args below meth cod C
  refine v_iconst C d_TT_meet_0 (nI 0) (by decide) ?_
  refine v_istore_n C d_TT_meet_1 ⟨Nat.le_of_ble_eq_true rfl, Nat.le_of_ble_eq_true rfl⟩ [.ref (ad 0 0), .int v, .int (nI d), .int (nI 0)] rfl ?_
  have lp : ∀ (t9 : Nat) (k : Nat), M.length - k < t9 → k ≤ M.length → (∀ j, j < k → ¬ mt j = v) → V pg l en (rmk 0) s0 m0 args below meth cod D (qA (xw kA ad sz ch M.length T Cu mt fa)) 4 0 0 (MQ below (QC D (xw kA ad sz ch M.length T Cu mt fa) (pV fun w => ∃ (mt' : Nat → Int32) (fa' : Nat → Nat), bR mt' fa' (bAdd M v d) ∧ w = (xw kA ad sz ch ((bAdd M v d).length) T Cu mt' fa'))) args s0 0 0 (qA (xw kA ad sz ch M.length T Cu mt fa))) 2 [.ref (ad 0 0), .int v, .int (nI d), .int (nI k)] [] (xw kA ad sz ch M.length T Cu mt fa) := by
    intro t9
    induction t9 with
    | zero => intro k hk; omega
    | succ t9 ih =>
      intro k hk hk2 hk3
      refine v_iload_n C d_TT_meet_2 rfl ?_
      refine v_aload_n C d_TT_meet_3 rfl ?_
      refine v_getf C i_TT (ci := 2) rfl 6 (by decide) (List.mem_of_getElem? (i := 0) rfl) fl_TT_159 d_TT_meet_4 (.int (nI M.length)) rfl ?_
      refine v_icmp_ge C d_TT_meet_7 26 (by decide) (by omega) (by omega) (fun ck => ?_) (fun ck => ?_)
      · obtain rfl : k = M.length := by omega
        have hnm : v ∉ M.map Prod.fst := fun q => by
          obtain ⟨k9, q1, q2⟩ := bg_mem.mp q
          exact hk3 k9 q1 (by rw [(hb k9 q1).1]; exact q2)
        have e8 : bAdd M v d = M ++ [(v, d)] := by unfold bAdd; rw [if_neg hnm]
        have hlen : (M ++ [(v, d)]).length = M.length + 1 := by simp
        refine v_iload_n C d_TT_meet_26 rfl ?_
        refine v_aload_n C d_TT_meet_27 rfl ?_
        refine v_getf C i_TT (ci := 2) rfl 6 (by decide) (List.mem_of_getElem? (i := 0) rfl) fl_TT_159 d_TT_meet_28 (.int (nI M.length)) rfl ?_
        refine v_icmp_ne C d_TT_meet_31 58 (by decide) (by omega) (by omega) (fun c2 => False.elim (by exact c2 rfl)) (fun c2 => ?_)
        refine v_aload_n C d_TT_meet_34 rfl ?_
        refine v_getf C i_TT (ci := 2) rfl 4 (by decide) (List.mem_of_getElem? (i := 0) rfl) fl_TT_21 d_TT_meet_35 (.ref (ad 0 3)) rfl ?_
        refine v_iload_n C d_TT_meet_38 rfl ?_
        refine v_iload_n C d_TT_meet_39 rfl ?_
        refine v_iast C (ws' := (xw kA ad sz ch M.length T Cu (upd mt M.length v) fa)) ⟨3, rfl, rfl⟩ (by omega) (by decide) d_TT_meet_40 (fun _ _ => rfl) ?_
        refine v_aload_n C d_TT_meet_41 rfl ?_
        refine v_getf C i_TT (ci := 2) rfl 5 (by decide) (List.mem_of_getElem? (i := 0) rfl) fl_TT_25 d_TT_meet_42 (.ref (ad 0 4)) rfl ?_
        refine v_iload_n C d_TT_meet_45 rfl ?_
        refine v_iload_n C d_TT_meet_46 rfl ?_
        refine v_iast C (ws' := (xw kA ad sz ch M.length T Cu (upd mt M.length v) (va_up fa M.length d))) ⟨4, rfl, rfl⟩ (by omega) (by decide) d_TT_meet_47 (fun j _ => by simp only [va_up]; split <;> rfl) ?_
        refine v_aload_n C d_TT_meet_48 rfl ?_
        refine v_dup C d_TT_meet_49 rfl ?_
        refine v_getf C i_TT (ci := 2) rfl 6 (by decide) (List.mem_of_getElem? (i := 0) rfl) fl_TT_159 d_TT_meet_50 (.int (nI M.length)) rfl ?_
        refine v_iconst C d_TT_meet_53 (nI 1) (by decide) ?_
        refine v_iadd C d_TT_meet_54 ?_
        refine v_putf C i_TT (ci := 2) (ws' := (xw kA ad sz ch (M.length + 1) T Cu (upd mt M.length v) (va_up fa M.length d))) t_TT_ok n_TT rfl 6 (by decide) ⟨0, rfl, rfl⟩ fl_TT_159 d_TT_meet_55 rfl (rfl) (rfl) (Nat.le_of_ble_eq_true rfl) rfl ?_
        exact v_vret C rfl d_TT_meet_58 (⟨rfl, upd mt M.length v, va_up fa M.length d, by
            rw [e8]
            intro i hi
            rw [hlen] at hi
            by_cases hz : i = M.length
            · subst hz
              rw [bg_last]
              exact ⟨pk_us, va_up_self _ _ _⟩
            · rw [bg_app (by omega), pk_un hz, va_up_ne _ _ hz]
              exact hb i (by omega), by rw [e8, hlen]⟩)
      · refine v_aload_n C d_TT_meet_10 rfl ?_
        refine v_getf C i_TT (ci := 2) rfl 4 (by decide) (List.mem_of_getElem? (i := 0) rfl) fl_TT_21 d_TT_meet_11 (.ref (ad 0 3)) rfl ?_
        refine v_iload_n C d_TT_meet_14 rfl ?_
        refine v_iald C (List.mem_of_getElem? (i := 3) rfl) (by omega) (by decide) d_TT_meet_15 (mt k) (rfl) ?_
        refine v_iload_n C d_TT_meet_16 rfl ?_
        refine v_icmp_eqR C d_TT_meet_17 26 (by decide) (fun ce => ?_) (fun ce => ?_)
        · refine v_iload_n C d_TT_meet_26 rfl ?_
          refine v_aload_n C d_TT_meet_27 rfl ?_
          refine v_getf C i_TT (ci := 2) rfl 6 (by decide) (List.mem_of_getElem? (i := 0) rfl) fl_TT_159 d_TT_meet_28 (.int (nI M.length)) rfl ?_
          refine v_icmp_ne C d_TT_meet_31 58 (by decide) (by omega) (by omega) (fun c2 => ?_) (fun c2 => False.elim (by omega))
          have e8 : bAdd M v d = M := by unfold bAdd; rw [if_pos (bg_mem.mpr ⟨k, ck, by rw [← (hb k ck).1]; exact ce⟩)]
          exact v_vret C rfl d_TT_meet_58 (⟨rfl, mt, fa, by rw [e8]; exact hb, by rw [e8]⟩)
        · refine v_iinc C d_TT_meet_20 rfl ⟨Nat.le_of_ble_eq_true rfl, Nat.le_of_ble_eq_true rfl⟩ (nI (k + 1)) (inc1 _) [.ref (ad 0 0), .int v, .int (nI d), .int (nI (k + 1))] rfl ?_
          refine v_goto C d_TT_meet_23 2 (by decide) ?_
          exact ih (k + 1) (by omega) (by omega) (lt_s hk3 ce)
  exact lp (M.length + 1) 0 (by omega) (by omega) lt_0

set_option maxHeartbeats 800000 in
set_option maxRecDepth 20000 in
theorem c_TT_walk (l : Launch) (D : va_G) (kA : Nat → ClassId) (ad : Nat → Nat → Nat) (sz ch mc : Nat) (T : Nat → TS) (Cu : Nat → Nat → Nat) (mt : Nat → Int32) (fa : Nat → Nat) (dd : Nat → Nat) (LL : Nat → List Nat) (vp vf : Int32) (hX : XI T dd LL) (hLI : LI LL) (hL : (LL 0).length ≤ 520) : Ct l D kA 5 y_TT_walk b_TT_walk 4 none [.ref (ad 0 0), .int vp, .int vf] (xw kA ad sz ch mc T Cu mt fa) (pV fun w => ∃ (T' : Nat → TS) (X' : Nat → Nat) (mt' : Nat → Int32) (fa' : Nat → Nat), Sm T T' ∧ bR mt' fa' (bAll (LL 0) vp vf) ∧ w = (xw kA ad sz ch ((bAll (LL 0) vp vf).length) T' (va_up Cu 8 X') mt' fa')) := by
  refine ct_of (by decide) (Nat.le_of_ble_eq_true rfl) rfl ?_
  intro pg en s0 m0 args below meth cod C
  have hl0 := hLI.1 0 (by decide)
  have hs := hl0.1
  have hTT := hl0.2.1
  refine v_ws (ws' := (xw kA ad sz ch mc T (va_up Cu 8 (Cu 8)) mt fa)) (by rw [up_eta]) ?_
  refine v_aload_n C d_TT_walk_0 rfl ?_
  refine v_getf C i_TT (ci := 2) rfl 4 (by decide) (List.mem_of_getElem? (i := 0) rfl) fl_TT_21 d_TT_walk_1 (.ref (ad 0 3)) rfl ?_
  refine v_iconst C d_TT_walk_4 (nI 0) (by decide) ?_
  refine v_iload_n C d_TT_walk_5 rfl ?_
  refine v_iast C (ws' := (xw kA ad sz ch mc T (va_up Cu 8 (Cu 8)) (upd mt 0 vf) fa)) ⟨3, rfl, rfl⟩ (by omega) (by decide) d_TT_walk_6 (fun _ _ => rfl) ?_
  refine v_aload_n C d_TT_walk_7 rfl ?_
  refine v_getf C i_TT (ci := 2) rfl 5 (by decide) (List.mem_of_getElem? (i := 0) rfl) fl_TT_25 d_TT_walk_8 (.ref (ad 0 4)) rfl ?_
  refine v_iconst C d_TT_walk_11 (nI 0) (by decide) ?_
  refine v_iconst C d_TT_walk_12 (nI 0) (by decide) ?_
  refine v_iast C (ws' := (xw kA ad sz ch mc T (va_up Cu 8 (Cu 8)) (upd mt 0 vf) (va_up fa 0 0))) ⟨4, rfl, rfl⟩ (by omega) (by decide) d_TT_walk_13 (fun j _ => by simp only [va_up]; split <;> rfl) ?_
  refine v_aload_n C d_TT_walk_14 rfl ?_
  refine v_iconst C d_TT_walk_15 (nI 1) (by decide) ?_
  refine v_putf C i_TT (ci := 2) (ws' := (xw kA ad sz ch 1 T (va_up Cu 8 (Cu 8)) (upd mt 0 vf) (va_up fa 0 0))) t_TT_ok n_TT rfl 6 (by decide) ⟨0, rfl, rfl⟩ fl_TT_159 d_TT_walk_16 rfl (rfl) (rfl) (Nat.le_of_ble_eq_true rfl) rfl ?_
  refine v_iconst C d_TT_walk_19 (nI 0) (by decide) ?_
  refine v_istore_n C d_TT_walk_20 ⟨Nat.le_of_ble_eq_true rfl, Nat.le_of_ble_eq_true rfl⟩ [.ref (ad 0 0), .int vp, .int vf, .int (nI 0)] rfl ?_
  have lp : ∀ (t9 : Nat) (k : Nat) (T2 : Nat → TS) (X2 : Nat → Nat) (f : Nat → Int32) (g : Nat → Nat) (M : Bf), 700 - k < t9 → Sm T T2 → XI T2 dd LL → bR f g M → bOK (LL 0) vf M → k ≤ M.length → bW (LL 0) vp (1000 - k) k M = bAll (LL 0) vp vf → V pg l en (rmk 5) s0 m0 args below meth cod D (qA (xw kA ad sz ch mc T Cu mt fa)) 4 0 0 (MQ below (QC D (xw kA ad sz ch mc T Cu mt fa) (pV fun w => ∃ (T' : Nat → TS) (X' : Nat → Nat) (mt' : Nat → Int32) (fa' : Nat → Nat), Sm T T' ∧ bR mt' fa' (bAll (LL 0) vp vf) ∧ w = (xw kA ad sz ch ((bAll (LL 0) vp vf).length) T' (va_up Cu 8 X') mt' fa'))) args s0 0 0 (qA (xw kA ad sz ch mc T Cu mt fa))) 21 [.ref (ad 0 0), .int vp, .int vf, .int (nI k)] [] (xw kA ad sz ch M.length T2 (va_up Cu 8 X2) f g) := by
    intro t9
    induction t9 with
    | zero => intro k T2 X2 f g M hk sm2 hX2 hb hok hk2; omega
    | succ t9 ih =>
      intro k T2 X2 f g M hk sm2 hX2 hb hok hk2 hF
      have hbl := hok.len
      refine v_iload_n C d_TT_walk_21 rfl ?_
      refine v_aload_n C d_TT_walk_22 rfl ?_
      refine v_getf C i_TT (ci := 2) rfl 6 (by decide) (List.mem_of_getElem? (i := 0) rfl) fl_TT_159 d_TT_walk_23 (.int (nI M.length)) rfl ?_
      refine v_icmp_ge C d_TT_walk_26 86 (by decide) (by omega) (by omega) (fun ck => ?_) (fun ck => ?_)
      · have e9 : bAll (LL 0) vp vf = M := by
          rw [← hF]
          obtain ⟨z, hz⟩ : ∃ z, 1000 - k = z + 1 := ⟨1000 - k - 1, by omega⟩
          rw [hz, bW, if_neg (by omega)]
        exact v_vret C rfl d_TT_walk_86 (⟨rfl, T2, X2, f, g, sm2, by rw [e9]; exact hb, by rw [e9]⟩)
      · obtain ⟨va, hva⟩ : ∃ z, z = (bg M k).1 := ⟨_, rfl⟩
        obtain ⟨vd, hvd⟩ : ∃ z, z = (bg M k).2 + 1 := ⟨_, rfl⟩
        refine v_aload_n C d_TT_walk_29 rfl ?_
        refine v_aload_n C d_TT_walk_30 rfl ?_
        refine v_getf C i_TT (ci := 2) rfl 7 (by decide) (List.mem_of_getElem? (i := 0) rfl) fl_TT_29 d_TT_walk_31 (.ref (ad 2 8)) rfl ?_
        refine v_iconst C d_TT_walk_34 (nI 3) (by decide) ?_
        refine v_aload_n C d_TT_walk_35 rfl ?_
        refine v_getf C i_TT (ci := 2) rfl 4 (by decide) (List.mem_of_getElem? (i := 0) rfl) fl_TT_21 d_TT_walk_36 (.ref (ad 0 3)) rfl ?_
        refine v_iload_n C d_TT_walk_39 rfl ?_
        refine v_iald C (List.mem_of_getElem? (i := 3) rfl) (by omega) (by decide) d_TT_walk_40 va (by rw [(hb k ck).1, hva]) ?_
        refine v_iload_n C d_TT_walk_41 rfl ?_
        refine v_iconst C d_TT_walk_42 (nI 0) (by decide) ?_
        refine v_cV C (As := [.ref (ad 2 8), .int (nI 3), .int va, .int vp, .int (nI 0)]) (st := []) (c_TT_begin l D kA ad sz ch M.length T2 Cu f g dd LL 8 3 X2 va vp (nI 0) hX2 (by decide) (by decide)) cv_TT_begin ml_TT_121 d_TT_walk_43 ⟨by omega, by decide⟩ xw_rcv ⟨rfl, rfl⟩ rfl ?_
        rintro _ ⟨T3, X3, sm3, rfl, b03, b13, b23, b33, b43, b73, hps3⟩
        rw [o3] at b23 b43 hps3
        rw [c3] at b33 hps3
        have hX3 := sm3.XI hX2
        replace hps3 := hps3.sm (sm3 _).1 (sm3 _).2.2
        have hK := ec_lt 0 va vp (nI 0)
        have hbl0 := blw_le (LL 0) (lowk 2 (ec 0 va vp (nI 0)))
        have lp2 : ∀ (t8 : Nat) (j : Nat) (X4 : Nat → Nat) (f2 : Nat → Int32) (g2 : Nat → Nat) (M2 : Bf), (LL 0).length - j < t8 → j ≤ (LL 0).length → blw (LL 0) (lowk 2 (ec 0 va vp (nI 0))) ≤ j → X4 2 = 0 → X4 3 = 2 → X4 4 = (ec 0 va vp (nI 0)) → ps (T3 0) (dd 0) (LL 0) (X4 5) (X4 6) j → M2 = ((LL 0).take j).foldl (bSt vp va vd) M → bR f2 g2 M2 → bOK (LL 0) vf M2 → (∀ i, i < M.length → bg M2 i = bg M i) → M.length ≤ M2.length → V pg l en (rmk 5) s0 m0 args below meth cod D (qA (xw kA ad sz ch mc T Cu mt fa)) 4 0 0 (MQ below (QC D (xw kA ad sz ch mc T Cu mt fa) (pV fun w => ∃ (T' : Nat → TS) (X' : Nat → Nat) (mt' : Nat → Int32) (fa' : Nat → Nat), Sm T T' ∧ bR mt' fa' (bAll (LL 0) vp vf) ∧ w = (xw kA ad sz ch ((bAll (LL 0) vp vf).length) T' (va_up Cu 8 X') mt' fa'))) args s0 0 0 (qA (xw kA ad sz ch mc T Cu mt fa))) 46 [.ref (ad 0 0), .int vp, .int vf, .int (nI k)] [] (xw kA ad sz ch M2.length T3 (va_up Cu 8 X4) f2 g2) := by
          intro t8
          induction t8 with
          | zero => intro j X4 f2 g2 M2 hj; omega
          | succ t8 ih2 =>
            intro j X4 f2 g2 M2 hj hjl hj0 a2 a3 a4 hq hM2 hb2 hok2 hgk hk9
            have hbl2 := hok2.len
            obtain ⟨b1, b2⟩ := hb2 k (by omega)
            rw [hgk k ck] at b1 b2
            refine v_aload_n C d_TT_walk_46 rfl ?_
            refine v_aload_n C d_TT_walk_47 rfl ?_
            refine v_getf C i_TT (ci := 2) rfl 7 (by decide) (List.mem_of_getElem? (i := 0) rfl) fl_TT_29 d_TT_walk_48 (.ref (ad 2 8)) rfl ?_
            refine v_cI C (As := [.ref (ad 2 8)]) (st := []) (c_TT_step l D kA ad sz ch M2.length T3 Cu f2 g2 dd LL 8 j X4 hX3 (by decide) (by rw [a2]; exact (by decide)) (by rw [a3]; exact (by decide)) (by rw [a2]; exact hq)) cv_TT_step ml_TT_125 d_TT_walk_51 ⟨by omega, by decide⟩ xw_rcv ⟨rfl, rfl⟩ rfl ?_
            rintro x9 w9 hs9
            rcases stp_of hX3 a2 a3 a4 (by decide) hs9 with ⟨hj5, hpm5, rfl, X5, rfl, sq5, x75, x85, hq5, hpl5⟩ | ⟨hno5, rfl, X5, rfl, sq5, x75, x85, hq5⟩
            · refine v_if_eqR C d_TT_walk_54 80 (by decide) (fun c0 => False.elim (by exact absurd c0 (by decide))) (fun c0 => ?_)
              refine v_aload_n C d_TT_walk_57 rfl ?_
              refine v_aload_n C d_TT_walk_58 rfl ?_
              refine v_getf C i_TT (ci := 2) rfl 7 (by decide) (List.mem_of_getElem? (i := 0) rfl) fl_TT_29 d_TT_walk_59 (.ref (ad 2 8)) rfl ?_
              refine v_iconst C d_TT_walk_62 (nI 2) (by decide) ?_
              clear hpl5
              have e2 : X5 2 = 0 := sq5.2.2.1.trans a2
              obtain ⟨p1, p2⟩ := (pm3 _ _ _ _).mp hpm5
              have hft := fold_take (L := LL 0) (k := j) hj5 vp va vd M
              rw [← hM2] at hft
              have hok3 := hok2.st (p := vp) (a := va) (lg_mem hj5) vd
              have e8 : bSt vp va vd M2 (lg (LL 0) j) = bAdd M2 (dc (lg (LL 0) j) 2) vd := by unfold bSt; rw [if_pos ⟨p2, p1⟩]
              have hgr := bSt_len (p := vp) (a := va) (d := vd) (M := M2) (x := lg (LL 0) j)
              rw [e8] at hft hok3 hgr
              refine v_cSw C (As := [.ref (ad 2 8), .int (nI 2)]) (st := [.ref (ad 0 0)]) (c_TT_partOf l D kA ad sz ch M2.length T3 Cu f2 g2 8 2 X5 (by decide) (by rw [e2]; decide) (by decide)) cv_TT_partOf ml_TT_129 d_TT_walk_63 ⟨by omega, by decide⟩ ⟨rfl, rfl⟩ rfl ?_
              rintro _ _ ⟨rfl, rfl⟩
              rw [e2, x85, po02]
              refine v_aload_n C d_TT_walk_66 rfl ?_
              refine v_getf C i_TT (ci := 2) rfl 5 (by decide) (List.mem_of_getElem? (i := 0) rfl) fl_TT_25 d_TT_walk_67 (.ref (ad 0 4)) rfl ?_
              refine v_iload_n C d_TT_walk_70 rfl ?_
              refine v_iald C (List.mem_of_getElem? (i := 4) rfl) (by omega) (by decide) d_TT_walk_71 (nI (g2 k)) (rfl) ?_
              refine v_iconst C d_TT_walk_72 (nI 1) (by decide) ?_
              refine v_iadd C d_TT_walk_73 ?_
              refine v_top (y := nI vd) (show nI ((g2 k) + 1) = nI vd from by rw [b2, hvd]) ?_
              refine v_cV C (As := [.int (dc (lg (LL 0) j) 2), .int (nI vd)]) (st := []) (c_TT_meet l D kA ad sz ch M2.length T3 (va_up Cu 8 X5) f2 g2 M2 (dc (lg (LL 0) j) 2) vd hb2 (by omega)) cv_TT_meet ml_TT_162 d_TT_walk_74 ⟨by omega, by decide⟩ xw_rcv ⟨rfl, rfl⟩ rfl ?_
              rintro _ ⟨f3, g3, hb3, rfl⟩
              refine v_goto C d_TT_walk_77 46 (by decide) ?_
              exact ih2 (j + 1) X5 f3 g3 _ (by omega) hj5 (by omega) e2 (sq5.2.2.2.1.trans a3) (sq5.2.2.2.2.trans a4) hq5 hft.symm hb3 hok3 (fun i hi => (hgr.2 i (by omega)).trans (hgk i hi)) (by omega)
            · refine v_if_eqR C d_TT_walk_54 80 (by decide) (fun c0 => ?_) (fun c0 => False.elim (by exact c0 rfl))
              refine v_iinc C d_TT_walk_80 rfl ⟨Nat.le_of_ble_eq_true rfl, Nat.le_of_ble_eq_true rfl⟩ (nI (k + 1)) (inc1 _) [.ref (ad 0 0), .int vp, .int vf, .int (nI (k + 1))] rfl ?_
              refine v_goto C d_TT_walk_83 21 (by decide) ?_
              have hnm := nm_after hs hTT (by decide) hK hj0 hno5
              have hall : M2 = (LL 0).foldl (bSt vp va vd) M := by
                have := congrArg (List.foldl (bSt vp va vd) M) (List.take_append_drop j (LL 0))
                rw [List.foldl_append, ← hM2, fold_id ((LL 0).drop j) M2 (fun x hx q => by
                  obtain ⟨i, h1, h2, rfl⟩ := mem_dr hx
                  exact hnm i h1 h2 ((pm3 _ _ _ _).mpr ⟨q.2, q.1⟩))] at this
                exact this
              refine ih (k + 1) T3 X5 f2 g2 M2 (by omega) (sm2.tr sm3) hX3 hb2 hok2 (by omega) ?_
              rw [← hF]
              obtain ⟨z, hz⟩ : ∃ z, 1000 - k = z + 1 := ⟨1000 - k - 1, by omega⟩
              rw [hz, bW, if_pos ck, hall, show 1000 - (k + 1) = z by omega, hva, hvd]
              rfl
        refine lp2 ((LL 0).length + 1) _ X3 f g M (by omega) hbl0 (Nat.le_refl _) b23 b33 b43 hps3 ?_ hb hok (fun _ _ => rfl) (Nat.le_refl _)
        exact (fold_id _ M (fun x hx q => by
          obtain ⟨i, h1, h2, rfl⟩ := mem_tk hx
          exact pm_bef hs hTT (by decide) hK h1 ((pm3 _ _ _ _).mpr ⟨q.2, q.1⟩))).symm
  have hb0 : bR (upd mt 0 vf) (va_up fa 0 0) [(vf, 0)] := fun j hj => by
    obtain rfl : j = 0 := by simpa using hj
    exact ⟨rfl, rfl⟩
  exact lp 701 0 T (Cu 8) _ _ [(vf, 0)] (by omega) (Sm.rf T) hX hb0 ⟨List.pairwise_singleton _ _, fun v hv => Or.inl (by simpa using hv)⟩ (by simp) rfl

set_option maxHeartbeats 800000 in
set_option maxRecDepth 20000 in
theorem c_TT_far (l : Launch) (D : va_G) (kA : Nat → ClassId) (ad : Nat → Nat → Nat) (sz ch mc : Nat) (T : Nat → TS) (Cu : Nat → Nat → Nat) (mt : Nat → Int32) (fa : Nat → Nat) (dd : Nat → Nat) (LL : Nat → List Nat) (vp vf vt : Int32) (hX : XI T dd LL) (hLI : LI LL) (hL : (LL 0).length ≤ 520) : Ct l D kA 6 y_TT_far b_TT_far 5 (some .int) [.ref (ad 0 0), .int vp, .int vf, .int vt] (xw kA ad sz ch mc T Cu mt fa) (pI fun x w => ((∃ k, k < (bAll (LL 0) vp vf).length ∧ (bg (bAll (LL 0) vp vf) k).1 = vt ∧ (∀ j, j < k → ¬ (bg (bAll (LL 0) vp vf) j).1 = vt) ∧ x = nI (bg (bAll (LL 0) vp vf) k).2) ∨ ((∀ j, j < (bAll (LL 0) vp vf).length → ¬ (bg (bAll (LL 0) vp vf) j).1 = vt) ∧ x = -1)) ∧ ∃ (T' : Nat → TS) (X' : Nat → Nat) (mt' : Nat → Int32) (fa' : Nat → Nat) (mc' : Nat), Sm T T' ∧ w = (xw kA ad sz ch mc' T' (va_up Cu 8 X') mt' fa')) := by
  refine ct_of (by decide) (Nat.le_of_ble_eq_true rfl) rfl ?_
  intro pg en s0 m0 args below meth cod C
  refine v_aload_n C d_TT_far_0 rfl ?_
  refine v_iload_n C d_TT_far_1 rfl ?_
  refine v_iload_n C d_TT_far_2 rfl ?_
  refine v_cV C (As := [.int vp, .int vf]) (st := []) (c_TT_walk l D kA ad sz ch mc T Cu mt fa dd LL vp vf hX hLI hL) cv_TT_walk ml_TT_166 d_TT_far_3 ⟨by omega, by decide⟩ xw_rcv ⟨rfl, rfl⟩ rfl ?_
  rintro _ ⟨T1, X1, f, g, sm1, hb, rfl⟩
  have hbl := bAll_len (LL 0) vp vf
  refine v_iconst C d_TT_far_6 (nI 0) (by decide) ?_
  refine v_istore C d_TT_far_7 ⟨Nat.le_of_ble_eq_true rfl, Nat.le_of_ble_eq_true rfl⟩ [.ref (ad 0 0), .int vp, .int vf, .int vt, .int (nI 0)] rfl ?_
  have lp : ∀ (t9 : Nat) (k : Nat), (bAll (LL 0) vp vf).length - k < t9 → k ≤ (bAll (LL 0) vp vf).length → (∀ j, j < k → ¬ f j = vt) → V pg l en (rmk 6) s0 m0 args below meth cod D (qA (xw kA ad sz ch mc T Cu mt fa)) 5 0 0 (MQ below (QC D (xw kA ad sz ch mc T Cu mt fa) (pI fun x w => ((∃ k, k < (bAll (LL 0) vp vf).length ∧ (bg (bAll (LL 0) vp vf) k).1 = vt ∧ (∀ j, j < k → ¬ (bg (bAll (LL 0) vp vf) j).1 = vt) ∧ x = nI (bg (bAll (LL 0) vp vf) k).2) ∨ ((∀ j, j < (bAll (LL 0) vp vf).length → ¬ (bg (bAll (LL 0) vp vf) j).1 = vt) ∧ x = -1)) ∧ ∃ (T' : Nat → TS) (X' : Nat → Nat) (mt' : Nat → Int32) (fa' : Nat → Nat) (mc' : Nat), Sm T T' ∧ w = (xw kA ad sz ch mc' T' (va_up Cu 8 X') mt' fa'))) args s0 0 0 (qA (xw kA ad sz ch mc T Cu mt fa))) 9 [.ref (ad 0 0), .int vp, .int vf, .int vt, .int (nI k)] [] (xw kA ad sz ch ((bAll (LL 0) vp vf).length) T1 (va_up Cu 8 X1) f g) := by
    intro t9
    induction t9 with
    | zero => intro k hk; omega
    | succ t9 ih =>
      intro k hk hk2 hk3
      refine v_iload C d_TT_far_9 rfl ?_
      refine v_aload_n C d_TT_far_11 rfl ?_
      refine v_getf C i_TT (ci := 2) rfl 6 (by decide) (List.mem_of_getElem? (i := 0) rfl) fl_TT_159 d_TT_far_12 (.int (nI ((bAll (LL 0) vp vf).length))) rfl ?_
      refine v_icmp_ge C d_TT_far_15 35 (by decide) (by omega) (by omega) (fun ck => ?_) (fun ck => ?_)
      · refine v_iload C d_TT_far_35 rfl ?_
        refine v_aload_n C d_TT_far_37 rfl ?_
        refine v_getf C i_TT (ci := 2) rfl 6 (by decide) (List.mem_of_getElem? (i := 0) rfl) fl_TT_159 d_TT_far_38 (.int (nI ((bAll (LL 0) vp vf).length))) rfl ?_
        refine v_icmp_ge C d_TT_far_41 54 (by decide) (by omega) (by omega) (fun c2 => ?_) (fun c2 => False.elim (by omega))
        refine v_iconst C d_TT_far_54 (-1) (by decide) ?_
        exact v_iret C rfl d_TT_far_55 (⟨_, rfl, Or.inr ⟨fun j hj => by rw [← (hb j hj).1]; exact hk3 j (by omega), rfl⟩, T1, X1, f, g, _, sm1, rfl⟩)
      · refine v_aload_n C d_TT_far_18 rfl ?_
        refine v_getf C i_TT (ci := 2) rfl 4 (by decide) (List.mem_of_getElem? (i := 0) rfl) fl_TT_21 d_TT_far_19 (.ref (ad 0 3)) rfl ?_
        refine v_iload C d_TT_far_22 rfl ?_
        refine v_iald C (List.mem_of_getElem? (i := 3) rfl) (by omega) (by decide) d_TT_far_24 (f k) (rfl) ?_
        refine v_iload_n C d_TT_far_25 rfl ?_
        refine v_icmp_eqR C d_TT_far_26 35 (by decide) (fun ce => ?_) (fun ce => ?_)
        · refine v_iload C d_TT_far_35 rfl ?_
          refine v_aload_n C d_TT_far_37 rfl ?_
          refine v_getf C i_TT (ci := 2) rfl 6 (by decide) (List.mem_of_getElem? (i := 0) rfl) fl_TT_159 d_TT_far_38 (.int (nI ((bAll (LL 0) vp vf).length))) rfl ?_
          refine v_icmp_ge C d_TT_far_41 54 (by decide) (by omega) (by omega) (fun c2 => False.elim (by omega)) (fun c2 => ?_)
          refine v_aload_n C d_TT_far_44 rfl ?_
          refine v_getf C i_TT (ci := 2) rfl 5 (by decide) (List.mem_of_getElem? (i := 0) rfl) fl_TT_25 d_TT_far_45 (.ref (ad 0 4)) rfl ?_
          refine v_iload C d_TT_far_48 rfl ?_
          refine v_iald C (List.mem_of_getElem? (i := 4) rfl) (by omega) (by decide) d_TT_far_50 (nI ((bg (bAll (LL 0) vp vf) k).2)) (by rw [(hb k ck).2]) ?_
          refine v_goto C d_TT_far_51 55 (by decide) ?_
          exact v_iret C rfl d_TT_far_55 (⟨_, rfl, Or.inl ⟨k, ck, by rw [← (hb k ck).1]; exact ce, fun j hj => by rw [← (hb j (by omega)).1]; exact hk3 j hj, rfl⟩, T1, X1, f, g, _, sm1, rfl⟩)
        · refine v_iinc C d_TT_far_29 rfl ⟨Nat.le_of_ble_eq_true rfl, Nat.le_of_ble_eq_true rfl⟩ (nI (k + 1)) (inc1 _) [.ref (ad 0 0), .int vp, .int vf, .int vt, .int (nI (k + 1))] rfl ?_
          refine v_goto C d_TT_far_32 9 (by decide) ?_
          exact ih (k + 1) (by omega) (by omega) (lt_s hk3 ce)
  exact lp ((bAll (LL 0) vp vf).length + 1) 0 (by omega) (by omega) lt_0

set_option maxHeartbeats 800000 in
set_option maxRecDepth 20000 in
theorem c_TT_reached (l : Launch) (D : va_G) (kA : Nat → ClassId) (ad : Nat → Nat → Nat) (sz ch mc : Nat) (T : Nat → TS) (Cu : Nat → Nat → Nat) (mt : Nat → Int32) (fa : Nat → Nat) (dd : Nat → Nat) (LL : Nat → List Nat) (vp vf : Int32) (hX : XI T dd LL) (hLI : LI LL) (hL : (LL 0).length ≤ 520) : Ct l D kA 6 y_TT_reached b_TT_reached 3 (some .int) [.ref (ad 0 0), .int vp, .int vf] (xw kA ad sz ch mc T Cu mt fa) (pI fun x w => x = nI (bAll (LL 0) vp vf).length ∧ ∃ (T' : Nat → TS) (X' : Nat → Nat) (mt' : Nat → Int32) (fa' : Nat → Nat) (mc' : Nat), Sm T T' ∧ w = (xw kA ad sz ch mc' T' (va_up Cu 8 X') mt' fa')) := by
  refine ct_of (by decide) (Nat.le_of_ble_eq_true rfl) rfl ?_
  intro pg en s0 m0 args below meth cod C
  refine v_aload_n C d_TT_reached_0 rfl ?_
  refine v_iload_n C d_TT_reached_1 rfl ?_
  refine v_iload_n C d_TT_reached_2 rfl ?_
  refine v_cV C (As := [.int vp, .int vf]) (st := []) (c_TT_walk l D kA ad sz ch mc T Cu mt fa dd LL vp vf hX hLI hL) cv_TT_walk ml_TT_166 d_TT_reached_3 ⟨by omega, by decide⟩ xw_rcv ⟨rfl, rfl⟩ rfl ?_
  rintro _ ⟨T1, X1, f, g, sm1, hb, rfl⟩
  have hbl := bAll_len (LL 0) vp vf
  refine v_aload_n C d_TT_reached_6 rfl ?_
  refine v_getf C i_TT (ci := 2) rfl 6 (by decide) (List.mem_of_getElem? (i := 0) rfl) fl_TT_159 d_TT_reached_7 (.int (nI ((bAll (LL 0) vp vf).length))) rfl ?_
  exact v_iret C rfl d_TT_reached_10 (⟨_, rfl, rfl, T1, X1, f, g, _, sm1, rfl⟩)
