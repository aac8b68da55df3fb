set_option maxHeartbeats 800000 in
set_option maxRecDepth 20000 in
theorem c_Mod_isCursor (l : Launch) (D : va_G) (kA : Nat → ClassId) (h : Nat) (a : Nat → Nat) (R : Nat → Int32) (sz ch : Nat) (op sl mk : Nat → Nat) (pt : Nat → Int32) (pp : Nat → Nat) (mt : Nat → Int32) (sp : Nat → Nat) (me : Nat) (v : Int32) (hop : ∀ j, j < 8 → op j = 0 ∨ op j = 1) : Ct l D kA 0 y_Mod_isCursor b_Mod_isCursor 2 (some .boolean) [.ref h, .int v] (mw kA h a R sz ch op sl mk pt pp mt sp me) (pI fun x w => ((∃ c1, c1 < 8 ∧ v = nI c1 ∧ op c1 = 1 ∧ x = 1) ∨ ((∀ c2, c2 < 8 → v = nI c2 → op c2 = 0) ∧ x = 0)) ∧ w = (mw kA h a R sz ch op sl mk pt pp mt sp me)) := by
  refine ct_of (by decide) (Nat.le_of_ble_eq_true rfl) rfl ?_
  intro pg en s0 m0 args below meth cod C
  rcases pk_ix v (n := 8) (by decide) with hv | hv | ⟨m9, hm9, rfl⟩
  · refine v_iload_n C d_Mod_isCursor_0 rfl ?_
    refine v_if_ltR C d_Mod_isCursor_1 23 (by decide) (fun c0 => ?_) (fun c0 => False.elim (by exact c0 hv))
    refine v_iconst C d_Mod_isCursor_23 (nI 0) (by decide) ?_
    exact v_zret C rfl (by decide) d_Mod_isCursor_24 (⟨_, rfl, Or.inr ⟨fun m hm e => absurd e (nI_ne_neg hv (by omega)), rfl⟩, rfl⟩)
  · refine v_iload_n C d_Mod_isCursor_0 rfl ?_
    refine v_if_ltR C d_Mod_isCursor_1 23 (by decide) (fun c0 => False.elim (by exact nI_ge_n0 hv (by decide) c0)) (fun c0 => ?_)
    refine v_iload_n C d_Mod_isCursor_4 rfl ?_
    refine v_bipush C d_Mod_isCursor_5 (nI 8) (by decide) ?_
    refine v_icmp_geR C d_Mod_isCursor_7 23 (by decide) (fun c1 => ?_) (fun c1 => False.elim (by exact c1 hv))
    refine v_iconst C d_Mod_isCursor_23 (nI 0) (by decide) ?_
    exact v_zret C rfl (by decide) d_Mod_isCursor_24 (⟨_, rfl, Or.inr ⟨fun m hm e => absurd e (nI_ge_ne hv hm (by decide)), rfl⟩, rfl⟩)
  · refine v_iload_n C d_Mod_isCursor_0 rfl ?_
    refine v_if_ltR C d_Mod_isCursor_1 23 (by decide) (fun c0 => False.elim (by exact nI_pos (by omega) c0)) (fun c0 => ?_)
    refine v_iload_n C d_Mod_isCursor_4 rfl ?_
    refine v_bipush C d_Mod_isCursor_5 (nI 8) (by decide) ?_
    refine v_icmp_ge C d_Mod_isCursor_7 23 (by decide) (by omega) (by omega) (fun c1 => False.elim (by omega)) (fun c1 => ?_)
    refine v_aload_n C d_Mod_isCursor_10 rfl ?_
    refine v_getf C i_Mod (ci := 3) rfl 3 (by decide) (List.mem_of_getElem? (i := 0) rfl) fl_Mod_13 d_Mod_isCursor_11 (.ref (a 1)) rfl ?_
    refine v_iload_n C d_Mod_isCursor_14 rfl ?_
    refine v_zald C (List.mem_of_getElem? (i := 2) rfl) (by omega) (by decide) d_Mod_isCursor_15 (nI (op m9)) (rfl) ?_
    have ho := hop m9 hm9
    refine v_if_eq C d_Mod_isCursor_16 23 (by decide) (by omega) (fun c2 => ?_) (fun c2 => ?_)
    · refine v_iconst C d_Mod_isCursor_23 (nI 0) (by decide) ?_
      exact v_zret C rfl (by decide) d_Mod_isCursor_24 (⟨_, rfl, Or.inr ⟨fun m hm e => by rw [← (nI_eq (by omega) (by omega)).mp e]; exact c2, rfl⟩, rfl⟩)
    · refine v_iconst C d_Mod_isCursor_19 (nI 1) (by decide) ?_
      refine v_goto C d_Mod_isCursor_20 24 (by decide) ?_
      exact v_zret C rfl (by decide) d_Mod_isCursor_24 (⟨_, rfl, Or.inl ⟨m9, hm9, rfl, by omega, rfl⟩, rfl⟩)

set_option maxHeartbeats 800000 in
set_option maxRecDepth 20000 in
theorem c_Mod_open (l : Launch) (D : va_G) (kA : Nat → ClassId) (h : Nat) (a : Nat → Nat) (R : Nat → Int32) (sz ch : Nat) (op sl mk : Nat → Nat) (pt : Nat → Int32) (pp : Nat → Nat) (mt : Nat → Int32) (sp : Nat → Nat) (me : Nat) (v : Int32) (vs vp vo : Int32) (hop : ∀ j, j < 8 → op j = 0 ∨ op j = 1) : Ct l D kA 2 y_Mod_open b_Mod_open 6 (some .int) [.ref h, .int v, .int vs, .int vp, .int vo] (mw kA h a R sz ch op sl mk pt pp mt sp me) (pI fun x w => (∃ m1, m1 < 8 ∧ v = nI m1 ∧ ((∃ cu, cu < 8 ∧ (∀ j, j < cu → op j = 1) ∧ op cu = 0 ∧ x = nI cu ∧ w = (mw kA h a R sz ch (va_up op cu 1) (va_up sl cu 0) (va_up mk cu m1) (upd (upd (upd pt (3 * cu) vs) (3 * cu + 1) vp) (3 * cu + 2) vo) (va_up pp cu 0) mt sp me)) ∨ ((∀ j, j < 8 → op j = 1) ∧ x = -2 ∧ w = (mw kA h a R sz ch op sl mk pt pp mt sp me)))) ∨ ((∀ m2, m2 < 8 → v ≠ nI m2) ∧ x = -1 ∧ w = (mw kA h a R sz ch op sl mk pt pp mt sp me))) := by
  refine ct_of (by decide) (Nat.le_of_ble_eq_true rfl) rfl ?_
  intro pg en s0 m0 args below meth cod C
  refine v_iload_n C d_Mod_open_0 rfl ?_
  refine v_cS C (As := [.int v]) (st := []) (c_Mod_isMask l D kA v) cv_Mod_isMask ml_Mod_65 d_Mod_open_1 ⟨by omega, by decide⟩ ⟨rfl, rfl⟩ rfl ?_
  rintro x9 (⟨m, hm, rfl, rfl⟩ | ⟨hv, rfl⟩)
  · refine v_if_neR C d_Mod_open_4 9 (by decide) (fun c0 => ?_) (fun c0 => False.elim (by exact absurd c0 (by decide)))
    refine v_iconst C d_Mod_open_9 (nI 0) (by decide) ?_
    refine v_istore C d_Mod_open_10 ⟨Nat.le_of_ble_eq_true rfl, Nat.le_of_ble_eq_true rfl⟩ [.ref h, .int (nI m), .int vs, .int vp, .int vo, .int (nI 0)] rfl ?_
    have t35 : ∀ cu : Nat, cu ≤ 8 → (∀ j, j < cu → op j = 1) → (cu < 8 → op cu = 0) → V pg l en (rmk 2) s0 m0 args below meth cod D (qA (mw kA h a R sz ch op sl mk pt pp mt sp me)) 6 0 0 (MQ below (QC D (mw kA h a R sz ch op sl mk pt pp mt sp me) (pI fun x w => (∃ m1, m1 < 8 ∧ (nI m) = nI m1 ∧ ((∃ cu, cu < 8 ∧ (∀ j, j < cu → op j = 1) ∧ op cu = 0 ∧ x = nI cu ∧ w = (mw kA h a R sz ch (va_up op cu 1) (va_up sl cu 0) (va_up mk cu m1) (upd (upd (upd pt (3 * cu) vs) (3 * cu + 1) vp) (3 * cu + 2) vo) (va_up pp cu 0) mt sp me)) ∨ ((∀ j, j < 8 → op j = 1) ∧ x = -2 ∧ w = (mw kA h a R sz ch op sl mk pt pp mt sp me)))) ∨ ((∀ m2, m2 < 8 → (nI m) ≠ nI m2) ∧ x = -1 ∧ w = (mw kA h a R sz ch op sl mk pt pp mt sp me)))) args s0 0 0 (qA (mw kA h a R sz ch op sl mk pt pp mt sp me))) 35 [.ref h, .int (nI m), .int vs, .int vp, .int vo, .int (nI cu)] [] (mw kA h a R sz ch op sl mk pt pp mt sp me) := by
      intro cu h8 hj hz
      refine v_iload C d_Mod_open_35 rfl ?_
      refine v_bipush C d_Mod_open_37 (nI 8) (by decide) ?_
      refine v_icmp_ne C d_Mod_open_39 45 (by decide) (by omega) (by omega) (fun c8 => ?_) (fun c8 => ?_)
      · refine v_aload_n C d_Mod_open_45 rfl ?_
        refine v_getf C i_Mod (ci := 3) rfl 3 (by decide) (List.mem_of_getElem? (i := 0) rfl) fl_Mod_13 d_Mod_open_46 (.ref (a 1)) rfl ?_
        refine v_iload C d_Mod_open_49 rfl ?_
        refine v_iconst C d_Mod_open_51 (nI 1) (by decide) ?_
        refine v_zast C (ws' := (mw kA h a R sz ch (va_up op cu 1) sl mk pt pp mt sp me)) ⟨2, rfl, rfl⟩ (by omega) (by decide) d_Mod_open_52 (by decide) (fun j _ => by simp only [va_up]; split <;> rfl) ?_
        refine v_aload_n C d_Mod_open_53 rfl ?_
        refine v_getf C i_Mod (ci := 3) rfl 4 (by decide) (List.mem_of_getElem? (i := 0) rfl) fl_Mod_17 d_Mod_open_54 (.ref (a 2)) rfl ?_
        refine v_iload C d_Mod_open_57 rfl ?_
        refine v_iconst C d_Mod_open_59 (nI 0) (by decide) ?_
        refine v_zast C (ws' := (mw kA h a R sz ch (va_up op cu 1) (va_up sl cu 0) mk pt pp mt sp me)) ⟨3, rfl, rfl⟩ (by omega) (by decide) d_Mod_open_60 (by decide) (fun j _ => by simp only [va_up]; split <;> rfl) ?_
        refine v_aload_n C d_Mod_open_61 rfl ?_
        refine v_getf C i_Mod (ci := 3) rfl 5 (by decide) (List.mem_of_getElem? (i := 0) rfl) fl_Mod_20 d_Mod_open_62 (.ref (a 3)) rfl ?_
        refine v_iload C d_Mod_open_65 rfl ?_
        refine v_iload_n C d_Mod_open_67 rfl ?_
        refine v_iast C (ws' := (mw kA h a R sz ch (va_up op cu 1) (va_up sl cu 0) (va_up mk cu m) pt pp mt sp me)) ⟨4, rfl, rfl⟩ (by omega) (by decide) d_Mod_open_68 (fun j _ => by simp only [va_up]; split <;> rfl) ?_
        refine v_aload_n C d_Mod_open_69 rfl ?_
        refine v_getf C i_Mod (ci := 3) rfl 6 (by decide) (List.mem_of_getElem? (i := 0) rfl) fl_Mod_23 d_Mod_open_70 (.ref (a 4)) rfl ?_
        refine v_iconst C d_Mod_open_73 (nI 3) (by decide) ?_
        refine v_iload C d_Mod_open_74 rfl ?_
        refine v_imul C d_Mod_open_76 ?_
        refine v_iload_n C d_Mod_open_77 rfl ?_
        refine v_iast C (ws' := (mw kA h a R sz ch (va_up op cu 1) (va_up sl cu 0) (va_up mk cu m) (upd pt (3 * cu) vs) pp mt sp me)) ⟨5, rfl, rfl⟩ (by omega) (by decide) d_Mod_open_78 (fun _ _ => rfl) ?_
        refine v_aload_n C d_Mod_open_79 rfl ?_
        refine v_getf C i_Mod (ci := 3) rfl 6 (by decide) (List.mem_of_getElem? (i := 0) rfl) fl_Mod_23 d_Mod_open_80 (.ref (a 4)) rfl ?_
        refine v_iconst C d_Mod_open_83 (nI 3) (by decide) ?_
        refine v_iload C d_Mod_open_84 rfl ?_
        refine v_imul C d_Mod_open_86 ?_
        refine v_iconst C d_Mod_open_87 (nI 1) (by decide) ?_
        refine v_iadd C d_Mod_open_88 ?_
        refine v_iload_n C d_Mod_open_89 rfl ?_
        refine v_iast C (ws' := (mw kA h a R sz ch (va_up op cu 1) (va_up sl cu 0) (va_up mk cu m) (upd (upd pt (3 * cu) vs) (3 * cu + 1) vp) pp mt sp me)) ⟨5, rfl, rfl⟩ (by omega) (by decide) d_Mod_open_90 (fun _ _ => rfl) ?_
        refine v_aload_n C d_Mod_open_91 rfl ?_
        refine v_getf C i_Mod (ci := 3) rfl 6 (by decide) (List.mem_of_getElem? (i := 0) rfl) fl_Mod_23 d_Mod_open_92 (.ref (a 4)) rfl ?_
        refine v_iconst C d_Mod_open_95 (nI 3) (by decide) ?_
        refine v_iload C d_Mod_open_96 rfl ?_
        refine v_imul C d_Mod_open_98 ?_
        refine v_iconst C d_Mod_open_99 (nI 2) (by decide) ?_
        refine v_iadd C d_Mod_open_100 ?_
        refine v_iload C d_Mod_open_101 rfl ?_
        refine v_iast C (ws' := (mw kA h a R sz ch (va_up op cu 1) (va_up sl cu 0) (va_up mk cu m) (upd (upd (upd pt (3 * cu) vs) (3 * cu + 1) vp) (3 * cu + 2) vo) pp mt sp me)) ⟨5, rfl, rfl⟩ (by omega) (by decide) d_Mod_open_103 (fun _ _ => rfl) ?_
        refine v_aload_n C d_Mod_open_104 rfl ?_
        refine v_getf C i_Mod (ci := 3) rfl 7 (by decide) (List.mem_of_getElem? (i := 0) rfl) fl_Mod_26 d_Mod_open_105 (.ref (a 5)) rfl ?_
        refine v_iload C d_Mod_open_108 rfl ?_
        refine v_iconst C d_Mod_open_110 (-1) (by decide) ?_
        refine v_iast C (ws' := (mw kA h a R sz ch (va_up op cu 1) (va_up sl cu 0) (va_up mk cu m) (upd (upd (upd pt (3 * cu) vs) (3 * cu + 1) vp) (3 * cu + 2) vo) (va_up pp cu 0) mt sp me)) ⟨6, rfl, rfl⟩ (by omega) (by decide) d_Mod_open_111 (fun j _ => by simp only [va_up]; split; decide; rfl) ?_
        refine v_iload C d_Mod_open_112 rfl ?_
        exact v_iret C rfl d_Mod_open_114 (⟨_, rfl, Or.inl ⟨m, hm, rfl, Or.inl ⟨cu, by omega, hj, hz (by omega), rfl, rfl⟩⟩⟩)
      · subst c8
        refine v_bipush C d_Mod_open_42 (-2) (by decide) ?_
        exact v_iret C rfl d_Mod_open_44 (⟨_, rfl, Or.inl ⟨m, hm, rfl, Or.inr ⟨hj, rfl, rfl⟩⟩⟩)
    have lp : ∀ (t9 : Nat) (cu : Nat), 8 - cu < t9 → cu ≤ 8 → (∀ j, j < cu → op j = 1) → V pg l en (rmk 2) s0 m0 args below meth cod D (qA (mw kA h a R sz ch op sl mk pt pp mt sp me)) 6 0 0 (MQ below (QC D (mw kA h a R sz ch op sl mk pt pp mt sp me) (pI fun x w => (∃ m1, m1 < 8 ∧ (nI m) = nI m1 ∧ ((∃ cu, cu < 8 ∧ (∀ j, j < cu → op j = 1) ∧ op cu = 0 ∧ x = nI cu ∧ w = (mw kA h a R sz ch (va_up op cu 1) (va_up sl cu 0) (va_up mk cu m1) (upd (upd (upd pt (3 * cu) vs) (3 * cu + 1) vp) (3 * cu + 2) vo) (va_up pp cu 0) mt sp me)) ∨ ((∀ j, j < 8 → op j = 1) ∧ x = -2 ∧ w = (mw kA h a R sz ch op sl mk pt pp mt sp me)))) ∨ ((∀ m2, m2 < 8 → (nI m) ≠ nI m2) ∧ x = -1 ∧ w = (mw kA h a R sz ch op sl mk pt pp mt sp me)))) args s0 0 0 (qA (mw kA h a R sz ch op sl mk pt pp mt sp me))) 12 [.ref h, .int (nI m), .int vs, .int vp, .int vo, .int (nI cu)] [] (mw kA h a R sz ch op sl mk pt pp mt sp me) := by
      intro t9
      induction t9 with
      | zero => intro cu hk; omega
      | succ t9 ih =>
        intro cu hk hk2 hj
        refine v_iload C d_Mod_open_12 rfl ?_
        refine v_bipush C d_Mod_open_14 (nI 8) (by decide) ?_
        refine v_icmp_ge C d_Mod_open_16 35 (by decide) (by omega) (by omega) (fun ck => ?_) (fun ck => ?_)
        · exact t35 cu hk2 hj (fun z => by omega)
        · have ho := hop cu ck
          refine v_aload_n C d_Mod_open_19 rfl ?_
          refine v_getf C i_Mod (ci := 3) rfl 3 (by decide) (List.mem_of_getElem? (i := 0) rfl) fl_Mod_13 d_Mod_open_20 (.ref (a 1)) rfl ?_
          refine v_iload C d_Mod_open_23 rfl ?_
          refine v_zald C (List.mem_of_getElem? (i := 2) rfl) (by omega) (by decide) d_Mod_open_25 (nI (op cu)) (rfl) ?_
          refine v_if_eq C d_Mod_open_26 35 (by decide) (by omega) (fun c2 => ?_) (fun c2 => ?_)
          · exact t35 cu hk2 hj (fun _ => c2)
          · refine v_iinc C d_Mod_open_29 rfl ⟨Nat.le_of_ble_eq_true rfl, Nat.le_of_ble_eq_true rfl⟩ (nI (cu + 1)) (inc1 _) [.ref h, .int (nI m), .int vs, .int vp, .int vo, .int (nI (cu + 1))] rfl ?_
            refine v_goto C d_Mod_open_32 12 (by decide) ?_
            exact ih (cu + 1) (by omega) (by omega) (lt_s hj (by omega))
    exact lp 9 0 (by omega) (by omega) lt_0
  · refine v_if_neR C d_Mod_open_4 9 (by decide) (fun c0 => False.elim (by exact c0 rfl)) (fun c0 => ?_)
    refine v_iconst C d_Mod_open_7 (-1) (by decide) ?_
    exact v_iret C rfl d_Mod_open_8 (⟨_, rfl, Or.inr ⟨hv, rfl, rfl⟩⟩)

/-- k is the first place from p0 on that q takes, or the end -/
def GO (L : List Nat) (q : Nat → Bool) (p0 k : Nat) : Prop := p0 ≤ k ∧ k ≤ L.length ∧ (∀ i, p0 ≤ i → i < k → q (lg L i) = false) ∧ (k < L.length → q (lg L k) = true)
theorem GO.uniq {L : List Nat} {q : Nat → Bool} {p0 k k' : Nat} (h : GO L q p0 k) (h' : GO L q p0 k') : k = k' := by
  rcases Nat.lt_trichotomy k k' with hl | hl | hl
  · have h1 := h'.2.2.1 k h.1 hl
    have h2 := h.2.2.2 (by have := h'.2.1; omega)
    rw [h1] at h2; cases h2
  · exact hl
  · have h1 := h.2.2.1 k' h'.1 hl
    have h2 := h'.2.2.2 (by have := h.2.1; omega)
    rw [h1] at h2; cases h2
theorem GO.congr {L : List Nat} {q q' : Nat → Bool} {p0 k : Nat} (h : GO L q p0 k) (e : ∀ x, q' x = q x) : GO L q' p0 k := ⟨h.1, h.2.1, fun i h1 h2 => by rw [e]; exact h.2.2.1 i h1 h2, fun h1 => by rw [e]; exact h.2.2.2 h1⟩
def qT (t mk : Nat) (s p o : Int32) (told ky x : Nat) : Bool := mT t mk s p o x && (decide (told = 0) || decide (ky ≤ x))
theorem m1_pl (k : Nat) : nI k = nI (k + 1) - nI 1 := (nI_pred k).symm

set_option maxHeartbeats 800000 in
set_option maxRecDepth 20000 in
theorem c_Mod_goOn (l : Launch) (D : va_G) (kA : Nat → ClassId) (h : Nat) (a : Nat → Nat) (R : Nat → Int32) (sz ch : Nat) (op sl mk : Nat → Nat) (pt : Nat → Int32) (pp : Nat → Nat) (mt : Nat → Int32) (sp : Nat → Nat) (me : Nat) (LL : Nat → List Nat) (v : Int32) (tl : Nat) (vs vp vo : Int32) (hLI : LI LL) (hR : ∀ t, t < 3 → rowOK R t (LL t)) (hsz : sz = (LL 0).length) (hL : (LL 0).length ≤ 600) (hop : ∀ j, j < 8 → op j = 0 ∨ op j = 1) (hsl : ∀ j, j < 8 → sl j = 0 ∨ sl j = 1) (hmk : ∀ j, j < 8 → op j = 1 → mk j < 8 ∧ pp j ≤ sz + 1) (htl : tl ≤ 1) : Ct l D kA 2 y_Mod_goOn b_Mod_goOn 8 (some .int) [.ref h, .int v, .int (nI tl), .int vs, .int vp, .int vo] (mw kA h a R sz ch op sl mk pt pp mt sp me) (pI fun x w => ((∀ c2, c2 < 8 → v = nI c2 → op c2 = 0) ∧ x = -1 ∧ w = (mw kA h a R sz ch op sl mk pt pp mt sp me)) ∨ (∃ c1, c1 < 8 ∧ v = nI c1 ∧ op c1 = 1 ∧ sl c1 = 1 ∧ x = -3 ∧ w = (mw kA h a R sz ch op sl mk pt pp mt sp me)) ∨ (∃ c1, c1 < 8 ∧ v = nI c1 ∧ op c1 = 1 ∧ sl c1 = 0 ∧ ∃ k, GO (LL (oo (mk c1))) (qT (oo (mk c1)) (mk c1) (pt (3 * c1)) (pt (3 * c1 + 1)) (pt (3 * c1 + 2)) tl (ec (oo (mk c1)) vs vp vo)) (min (pp c1) sz) k ∧ x = (if k < sz then 1 else 0) ∧ w = (mw kA h a R sz ch op sl mk pt (va_up pp c1 (k + 1)) mt sp me))) := by
  refine ct_of (by decide) (Nat.le_of_ble_eq_true rfl) rfl ?_
  intro pg en s0 m0 args below meth cod C
  refine v_aload_n C d_Mod_goOn_0 rfl ?_
  refine v_iload_n C d_Mod_goOn_1 rfl ?_
  refine v_cI C (As := [.int v]) (st := []) (c_Mod_isCursor l D kA h a R sz ch op sl mk pt pp mt sp me v hop) cv_Mod_isCursor ml_Mod_76 d_Mod_goOn_2 ⟨by omega, by decide⟩ mw_rcv ⟨rfl, rfl⟩ rfl ?_
  rintro x9 _ ⟨⟨ci, hci, rfl, ho1, rfl⟩ | ⟨hno, rfl⟩, rfl⟩
  · refine v_if_neR C d_Mod_goOn_5 10 (by decide) (fun c0 => ?_) (fun c0 => False.elim (by exact absurd c0 (by decide)))
    obtain ⟨hm8, hp8⟩ := hmk ci hci ho1
    have hs8 := hsl ci hci
    have hoo := oo_lt (mk ci)
    have hlt := (hLI.1 _ hoo).2.2
    refine v_aload_n C d_Mod_goOn_10 rfl ?_
    refine v_getf C i_Mod (ci := 3) rfl 4 (by decide) (List.mem_of_getElem? (i := 0) rfl) fl_Mod_17 d_Mod_goOn_11 (.ref (a 2)) rfl ?_
    refine v_iload_n C d_Mod_goOn_14 rfl ?_
    refine v_zald C (List.mem_of_getElem? (i := 3) rfl) (by omega) (by decide) d_Mod_goOn_15 (nI (sl ci)) (rfl) ?_
    refine v_if_eq C d_Mod_goOn_16 22 (by decide) (by omega) (fun c1 => ?_) (fun c1 => ?_)
    · refine v_aload_n C d_Mod_goOn_22 rfl ?_
      refine v_getf C i_Mod (ci := 3) rfl 5 (by decide) (List.mem_of_getElem? (i := 0) rfl) fl_Mod_20 d_Mod_goOn_23 (.ref (a 3)) rfl ?_
      refine v_iload_n C d_Mod_goOn_26 rfl ?_
      refine v_iald C (List.mem_of_getElem? (i := 4) rfl) (by omega) (by decide) d_Mod_goOn_27 (nI (mk ci)) (rfl) ?_
      refine v_cS C (As := [.int (nI (mk ci))]) (st := []) (c_Mod_orderOf l D kA (mk ci) hm8) cv_Mod_orderOf ml_Mod_79 d_Mod_goOn_28 ⟨by omega, by decide⟩ ⟨rfl, rfl⟩ rfl ?_
      rintro _ rfl
      refine v_istore C d_Mod_goOn_31 ⟨Nat.le_of_ble_eq_true rfl, Nat.le_of_ble_eq_true rfl⟩ [.ref h, .int (nI ci), .int (nI tl), .int vs, .int vp, .int vo, .int (nI (oo (mk ci)))] rfl ?_
      have t143 : ∀ k : Nat, GO (LL (oo (mk ci))) (qT (oo (mk ci)) (mk ci) (pt (3 * ci)) (pt (3 * ci + 1)) (pt (3 * ci + 2)) tl (ec (oo (mk ci)) vs vp vo)) (min (pp ci) sz) k → V pg l en (rmk 2) s0 m0 args below meth cod D (qA (mw kA h a R sz ch op sl mk pt pp mt sp me)) 8 0 0 (MQ below (QC D (mw kA h a R sz ch op sl mk pt pp mt sp me) (pI fun x w => ((∀ c2, c2 < 8 → (nI ci) = nI c2 → op c2 = 0) ∧ x = -1 ∧ w = (mw kA h a R sz ch op sl mk pt pp mt sp me)) ∨ (∃ c1, c1 < 8 ∧ (nI ci) = nI c1 ∧ op c1 = 1 ∧ sl c1 = 1 ∧ x = -3 ∧ w = (mw kA h a R sz ch op sl mk pt pp mt sp me)) ∨ (∃ c1, c1 < 8 ∧ (nI ci) = nI c1 ∧ op c1 = 1 ∧ sl c1 = 0 ∧ ∃ k, GO (LL (oo (mk c1))) (qT (oo (mk c1)) (mk c1) (pt (3 * c1)) (pt (3 * c1 + 1)) (pt (3 * c1 + 2)) tl (ec (oo (mk c1)) vs vp vo)) (min (pp c1) sz) k ∧ x = (if k < sz then 1 else 0) ∧ w = (mw kA h a R sz ch op sl mk pt (va_up pp c1 (k + 1)) mt sp me)))) args s0 0 0 (qA (mw kA h a R sz ch op sl mk pt pp mt sp me))) 143 [.ref h, .int (nI ci), .int (nI tl), .int vs, .int vp, .int vo, .int (nI (oo (mk ci))), .int (nI k)] [] (mw kA h a R sz ch op sl mk pt pp mt sp me) := by
        intro k hg
        have hg2 := hg.2.1
        refine v_aload_n C d_Mod_goOn_143 rfl ?_
        refine v_getf C i_Mod (ci := 3) rfl 7 (by decide) (List.mem_of_getElem? (i := 0) rfl) fl_Mod_26 d_Mod_goOn_144 (.ref (a 5)) rfl ?_
        refine v_iload_n C d_Mod_goOn_147 rfl ?_
        refine v_iload C d_Mod_goOn_148 rfl ?_
        refine v_iast C (ws' := (mw kA h a R sz ch op sl mk pt (va_up pp ci (k + 1)) mt sp me)) ⟨6, rfl, rfl⟩ (by omega) (by decide) d_Mod_goOn_150 (fun j _ => by simp only [va_up]; split; exact (m1_pl k).symm; rfl) ?_
        refine v_iload C d_Mod_goOn_151 rfl ?_
        refine v_aload_n C d_Mod_goOn_153 rfl ?_
        refine v_getf C i_Mod (ci := 3) rfl 1 (by decide) (List.mem_of_getElem? (i := 0) rfl) fl_Mod_35 d_Mod_goOn_154 (.int (nI sz)) rfl ?_
        refine v_icmp_ge C d_Mod_goOn_157 164 (by decide) (by omega) (by omega) (fun ck => ?_) (fun ck => ?_)
        · refine v_iconst C d_Mod_goOn_164 (nI 0) (by decide) ?_
          exact v_iret C rfl d_Mod_goOn_165 (⟨_, rfl, Or.inr (Or.inr ⟨ci, hci, rfl, ho1, c1, k, hg, by rw [if_neg (by omega)]; rfl, rfl⟩)⟩)
        · refine v_iconst C d_Mod_goOn_160 (nI 1) (by decide) ?_
          refine v_goto C d_Mod_goOn_161 165 (by decide) ?_
          exact v_iret C rfl d_Mod_goOn_165 (⟨_, rfl, Or.inr (Or.inr ⟨ci, hci, rfl, ho1, c1, k, hg, by rw [if_pos (by omega)]; rfl, rfl⟩)⟩)
      have lp : ∀ (t9 : Nat) (k : Nat), sz - k < t9 → k ≤ sz → min (pp ci) sz ≤ k → (∀ i, min (pp ci) sz ≤ i → i < k → qT (oo (mk ci)) (mk ci) (pt (3 * ci)) (pt (3 * ci + 1)) (pt (3 * ci + 2)) tl (ec (oo (mk ci)) vs vp vo) (lg (LL (oo (mk ci))) i) = false) → V pg l en (rmk 2) s0 m0 args below meth cod D (qA (mw kA h a R sz ch op sl mk pt pp mt sp me)) 8 0 0 (MQ below (QC D (mw kA h a R sz ch op sl mk pt pp mt sp me) (pI fun x w => ((∀ c2, c2 < 8 → (nI ci) = nI c2 → op c2 = 0) ∧ x = -1 ∧ w = (mw kA h a R sz ch op sl mk pt pp mt sp me)) ∨ (∃ c1, c1 < 8 ∧ (nI ci) = nI c1 ∧ op c1 = 1 ∧ sl c1 = 1 ∧ x = -3 ∧ w = (mw kA h a R sz ch op sl mk pt pp mt sp me)) ∨ (∃ c1, c1 < 8 ∧ (nI ci) = nI c1 ∧ op c1 = 1 ∧ sl c1 = 0 ∧ ∃ k, GO (LL (oo (mk c1))) (qT (oo (mk c1)) (mk c1) (pt (3 * c1)) (pt (3 * c1 + 1)) (pt (3 * c1 + 2)) tl (ec (oo (mk c1)) vs vp vo)) (min (pp c1) sz) k ∧ x = (if k < sz then 1 else 0) ∧ w = (mw kA h a R sz ch op sl mk pt (va_up pp c1 (k + 1)) mt sp me)))) args s0 0 0 (qA (mw kA h a R sz ch op sl mk pt pp mt sp me))) 63 [.ref h, .int (nI ci), .int (nI tl), .int vs, .int vp, .int vo, .int (nI (oo (mk ci))), .int (nI k)] [] (mw kA h a R sz ch op sl mk pt pp mt sp me) := by
        intro t9
        induction t9 with
        | zero => intro k hk; omega
        | succ t9 ih =>
          intro k hk hk2 hk3 hk4
          refine v_iload C d_Mod_goOn_63 rfl ?_
          refine v_aload_n C d_Mod_goOn_65 rfl ?_
          refine v_getf C i_Mod (ci := 3) rfl 1 (by decide) (List.mem_of_getElem? (i := 0) rfl) fl_Mod_35 d_Mod_goOn_66 (.int (nI sz)) rfl ?_
          refine v_icmp_ge C d_Mod_goOn_69 143 (by decide) (by omega) (by omega) (fun ck => ?_) (fun ck => ?_)
          · exact t143 k ⟨hk3, by omega, hk4, fun z => by omega⟩
          · refine v_aload_n C d_Mod_goOn_72 rfl ?_
            refine v_iload C d_Mod_goOn_73 rfl ?_
            refine v_iload C d_Mod_goOn_75 rfl ?_
            refine v_aload_n C d_Mod_goOn_77 rfl ?_
            refine v_getf C i_Mod (ci := 3) rfl 5 (by decide) (List.mem_of_getElem? (i := 0) rfl) fl_Mod_20 d_Mod_goOn_78 (.ref (a 3)) rfl ?_
            refine v_iload_n C d_Mod_goOn_81 rfl ?_
            refine v_iald C (List.mem_of_getElem? (i := 4) rfl) (by omega) (by decide) d_Mod_goOn_82 (nI (mk ci)) (rfl) ?_
            refine v_aload_n C d_Mod_goOn_83 rfl ?_
            refine v_getf C i_Mod (ci := 3) rfl 6 (by decide) (List.mem_of_getElem? (i := 0) rfl) fl_Mod_23 d_Mod_goOn_84 (.ref (a 4)) rfl ?_
            refine v_iconst C d_Mod_goOn_87 (nI 3) (by decide) ?_
            refine v_iload_n C d_Mod_goOn_88 rfl ?_
            refine v_imul C d_Mod_goOn_89 ?_
            refine v_iald C (List.mem_of_getElem? (i := 5) rfl) (by omega) (by decide) d_Mod_goOn_90 (pt (3 * ci)) (rfl) ?_
            refine v_aload_n C d_Mod_goOn_91 rfl ?_
            refine v_getf C i_Mod (ci := 3) rfl 6 (by decide) (List.mem_of_getElem? (i := 0) rfl) fl_Mod_23 d_Mod_goOn_92 (.ref (a 4)) rfl ?_
            refine v_iconst C d_Mod_goOn_95 (nI 3) (by decide) ?_
            refine v_iload_n C d_Mod_goOn_96 rfl ?_
            refine v_imul C d_Mod_goOn_97 ?_
            refine v_iconst C d_Mod_goOn_98 (nI 1) (by decide) ?_
            refine v_iadd C d_Mod_goOn_99 ?_
            refine v_iald C (List.mem_of_getElem? (i := 5) rfl) (by omega) (by decide) d_Mod_goOn_100 (pt ((3 * ci) + 1)) (rfl) ?_
            refine v_aload_n C d_Mod_goOn_101 rfl ?_
            refine v_getf C i_Mod (ci := 3) rfl 6 (by decide) (List.mem_of_getElem? (i := 0) rfl) fl_Mod_23 d_Mod_goOn_102 (.ref (a 4)) rfl ?_
            refine v_iconst C d_Mod_goOn_105 (nI 3) (by decide) ?_
            refine v_iload_n C d_Mod_goOn_106 rfl ?_
            refine v_imul C d_Mod_goOn_107 ?_
            refine v_iconst C d_Mod_goOn_108 (nI 2) (by decide) ?_
            refine v_iadd C d_Mod_goOn_109 ?_
            refine v_iald C (List.mem_of_getElem? (i := 5) rfl) (by omega) (by decide) d_Mod_goOn_110 (pt ((3 * ci) + 2)) (rfl) ?_
            refine v_cI C (As := [.int (nI (oo (mk ci))), .int (nI k), .int (nI (mk ci)), .int (pt (3 * ci)), .int (pt ((3 * ci) + 1)), .int (pt ((3 * ci) + 2))]) (st := []) (c_Mod_matches l D kA h a R sz ch op sl mk pt pp mt sp me (oo (mk ci)) k (mk ci) (LL (oo (mk ci))) (pt (3 * ci)) (pt (3 * ci + 1)) (pt (3 * ci + 2)) hoo (by omega) (hR _ hoo) (by omega) hm8) cv_Mod_matches ml_Mod_69 d_Mod_goOn_111 ⟨by omega, by decide⟩ mw_rcv ⟨rfl, rfl⟩ rfl ?_
            rintro _ _ ⟨rfl, rfl⟩
            by_cases hq : mT (oo (mk ci)) (mk ci) (pt (3 * ci)) (pt (3 * ci + 1)) (pt (3 * ci + 2)) (lg (LL (oo (mk ci))) k) = true
            · rw [if_pos hq]
              refine v_if_eqR C d_Mod_goOn_114 137 (by decide) (fun c2 => False.elim (by exact absurd c2 (by decide))) (fun c2 => ?_)
              refine v_iload_n C d_Mod_goOn_117 rfl ?_
              refine v_if_eq C d_Mod_goOn_118 143 (by decide) (by omega) (fun c3 => ?_) (fun c3 => ?_)
              · exact t143 k ⟨hk3, by omega, hk4, fun _ => by unfold qT; rw [hq, c3]; rfl⟩
              · refine v_aload_n C d_Mod_goOn_121 rfl ?_
                refine v_iload C d_Mod_goOn_122 rfl ?_
                refine v_iload C d_Mod_goOn_124 rfl ?_
                refine v_iload_n C d_Mod_goOn_126 rfl ?_
                refine v_iload C d_Mod_goOn_127 rfl ?_
                refine v_iload C d_Mod_goOn_129 rfl ?_
                refine v_cI C (As := [.int (nI (oo (mk ci))), .int (nI k), .int vs, .int vp, .int vo]) (st := []) (c_Mod_compare l D kA h a R sz ch op sl mk pt pp mt sp me (oo (mk ci)) k (LL (oo (mk ci))) vs vp vo hoo (by omega) (hR _ hoo) (hLI.1 _ hoo).2.1 (by omega)) cv_Mod_compare ml_Mod_47 d_Mod_goOn_131 ⟨by omega, by decide⟩ mw_rcv ⟨rfl, rfl⟩ rfl ?_
                rintro _ _ ⟨rfl, rfl⟩
                refine v_if_geR C d_Mod_goOn_134 143 (by decide) (fun c4 => ?_) (fun c4 => ?_)
                · have h7 : ec (oo (mk ci)) vs vp vo ≤ lg (LL (oo (mk ci))) k := Nat.le_of_not_lt fun z => Int32.not_lt.mpr c4 (cmpI_lt.mpr z)
                  exact t143 k ⟨hk3, by omega, hk4, fun _ => by unfold qT; rw [hq]; simp [h7]⟩
                · have h7 := cmpI_lt.mp (Int32.not_le.mp c4)
                  have hqf : qT (oo (mk ci)) (mk ci) (pt (3 * ci)) (pt (3 * ci + 1)) (pt (3 * ci + 2)) tl (ec (oo (mk ci)) vs vp vo) (lg (LL (oo (mk ci))) k) = false := by unfold qT; simp [c3, Nat.not_le.mpr h7]
                  refine v_iinc C d_Mod_goOn_137 rfl ⟨Nat.le_of_ble_eq_true rfl, Nat.le_of_ble_eq_true rfl⟩ (nI (k + 1)) (inc1 _) [.ref h, .int (nI ci), .int (nI tl), .int vs, .int vp, .int vo, .int (nI (oo (mk ci))), .int (nI (k + 1))] rfl ?_
                  refine v_goto C d_Mod_goOn_140 63 (by decide) ?_
                  exact ih (k + 1) (by omega) (by omega) (by omega) (fun i i1 i2 => (Nat.lt_or_eq_of_le (Nat.le_of_lt_succ i2)).elim (fun z => hk4 i i1 z) (fun z => by rw [z]; exact hqf))
            · rw [if_neg hq]
              have hqf : qT (oo (mk ci)) (mk ci) (pt (3 * ci)) (pt (3 * ci + 1)) (pt (3 * ci + 2)) tl (ec (oo (mk ci)) vs vp vo) (lg (LL (oo (mk ci))) k) = false := by unfold qT; simp [hq]
              refine v_if_eqR C d_Mod_goOn_114 137 (by decide) (fun c2 => ?_) (fun c2 => False.elim (by exact c2 rfl))
              refine v_iinc C d_Mod_goOn_137 rfl ⟨Nat.le_of_ble_eq_true rfl, Nat.le_of_ble_eq_true rfl⟩ (nI (k + 1)) (inc1 _) [.ref h, .int (nI ci), .int (nI tl), .int vs, .int vp, .int vo, .int (nI (oo (mk ci))), .int (nI (k + 1))] rfl ?_
              refine v_goto C d_Mod_goOn_140 63 (by decide) ?_
              exact ih (k + 1) (by omega) (by omega) (by omega) (fun i i1 i2 => (Nat.lt_or_eq_of_le (Nat.le_of_lt_succ i2)).elim (fun z => hk4 i i1 z) (fun z => by rw [z]; exact hqf))
      refine v_aload_n C d_Mod_goOn_33 rfl ?_
      refine v_getf C i_Mod (ci := 3) rfl 7 (by decide) (List.mem_of_getElem? (i := 0) rfl) fl_Mod_26 d_Mod_goOn_34 (.ref (a 5)) rfl ?_
      refine v_iload_n C d_Mod_goOn_37 rfl ?_
      refine v_iald C (List.mem_of_getElem? (i := 6) rfl) (by omega) (by decide) d_Mod_goOn_38 (nI (pp ci) - nI 1) (rfl) ?_
      refine v_aload_n C d_Mod_goOn_39 rfl ?_
      refine v_getf C i_Mod (ci := 3) rfl 1 (by decide) (List.mem_of_getElem? (i := 0) rfl) fl_Mod_35 d_Mod_goOn_40 (.int (nI sz)) rfl ?_
      refine v_icmp_geR C d_Mod_goOn_43 57 (by decide) (fun cp => ?_) (fun cp => ?_)
      · have hp9 : sz < pp ci := Nat.lt_of_not_le fun z => Int32.not_lt.mpr cp ((m1_lt (by omega) (by omega)).mpr z)
        refine v_aload_n C d_Mod_goOn_57 rfl ?_
        refine v_getf C i_Mod (ci := 3) rfl 1 (by decide) (List.mem_of_getElem? (i := 0) rfl) fl_Mod_35 d_Mod_goOn_58 (.int (nI sz)) rfl ?_
        refine v_istore C d_Mod_goOn_61 ⟨Nat.le_of_ble_eq_true rfl, Nat.le_of_ble_eq_true rfl⟩ [.ref h, .int (nI ci), .int (nI tl), .int vs, .int vp, .int vo, .int (nI (oo (mk ci))), .int (nI sz)] rfl ?_
        exact lp (sz + 1) sz (by omega) (by omega) (by omega) (fun i i1 i2 => by omega)
      · have hp9 : pp ci ≤ sz := (m1_lt (by omega) (by omega)).mp (Int32.not_le.mp cp)
        refine v_aload_n C d_Mod_goOn_46 rfl ?_
        refine v_getf C i_Mod (ci := 3) rfl 7 (by decide) (List.mem_of_getElem? (i := 0) rfl) fl_Mod_26 d_Mod_goOn_47 (.ref (a 5)) rfl ?_
        refine v_iload_n C d_Mod_goOn_50 rfl ?_
        refine v_iald C (List.mem_of_getElem? (i := 6) rfl) (by omega) (by decide) d_Mod_goOn_51 (nI (pp ci) - nI 1) (rfl) ?_
        refine v_iconst C d_Mod_goOn_52 (nI 1) (by decide) ?_
        refine v_iaddR C d_Mod_goOn_53 ?_
        refine v_top (y := nI (pp ci)) (show ((nI (pp ci) - nI 1) + (nI 1)) = nI (pp ci) from Int32.sub_add_cancel _ _) ?_
        refine v_goto C d_Mod_goOn_54 61 (by decide) ?_
        refine v_istore C d_Mod_goOn_61 ⟨Nat.le_of_ble_eq_true rfl, Nat.le_of_ble_eq_true rfl⟩ [.ref h, .int (nI ci), .int (nI tl), .int vs, .int vp, .int vo, .int (nI (oo (mk ci))), .int (nI (pp ci))] rfl ?_
        exact lp (sz + 1) (pp ci) (by omega) (by omega) (by omega) (fun i i1 i2 => by omega)
    · refine v_bipush C d_Mod_goOn_19 (-3) (by decide) ?_
      exact v_iret C rfl d_Mod_goOn_21 (⟨_, rfl, Or.inr (Or.inl ⟨ci, hci, rfl, ho1, by omega, rfl, rfl⟩)⟩)
  · refine v_if_neR C d_Mod_goOn_5 10 (by decide) (fun c0 => False.elim (by exact c0 rfl)) (fun c0 => ?_)
    refine v_iconst C d_Mod_goOn_8 (-1) (by decide) ?_
    exact v_iret C rfl d_Mod_goOn_9 (⟨_, rfl, Or.inl ⟨hno, rfl, rfl⟩⟩)

set_option maxHeartbeats 800000 in
set_option maxRecDepth 20000 in
theorem c_Mod_next (l : Launch) (D : va_G) (kA : Nat → ClassId) (h : Nat) (a : Nat → Nat) (R : Nat → Int32) (sz ch : Nat) (op sl mk : Nat → Nat) (pt : Nat → Int32) (pp : Nat → Nat) (mt : Nat → Int32) (sp : Nat → Nat) (me : Nat) (LL : Nat → List Nat) (v : Int32) (hLI : LI LL) (hR : ∀ t, t < 3 → rowOK R t (LL t)) (hsz : sz = (LL 0).length) (hL : (LL 0).length ≤ 600) (hop : ∀ j, j < 8 → op j = 0 ∨ op j = 1) (hsl : ∀ j, j < 8 → sl j = 0 ∨ sl j = 1) (hmk : ∀ j, j < 8 → op j = 1 → mk j < 8 ∧ pp j ≤ sz + 1) : Ct l D kA 3 y_Mod_next b_Mod_next 2 (some .int) [.ref h, .int v] (mw kA h a R sz ch op sl mk pt pp mt sp me) (pI fun x w => ((∀ c2, c2 < 8 → v = nI c2 → op c2 = 0) ∧ x = -1 ∧ w = (mw kA h a R sz ch op sl mk pt pp mt sp me)) ∨ (∃ c1, c1 < 8 ∧ v = nI c1 ∧ op c1 = 1 ∧ sl c1 = 1 ∧ x = -3 ∧ w = (mw kA h a R sz ch op sl mk pt pp mt sp me)) ∨ (∃ c1, c1 < 8 ∧ v = nI c1 ∧ op c1 = 1 ∧ sl c1 = 0 ∧ ∃ k, GO (LL (oo (mk c1))) (mT (oo (mk c1)) (mk c1) (pt (3 * c1)) (pt (3 * c1 + 1)) (pt (3 * c1 + 2))) (min (pp c1) sz) k ∧ x = (if k < sz then 1 else 0) ∧ w = (mw kA h a R sz ch op sl mk pt (va_up pp c1 (k + 1)) mt sp me))) := by
  refine ct_of (by decide) (Nat.le_of_ble_eq_true rfl) rfl ?_
  intro pg en s0 m0 args below meth cod C
  refine v_aload_n C d_Mod_next_0 rfl ?_
  refine v_iload_n C d_Mod_next_1 rfl ?_
  refine v_iconst C d_Mod_next_2 (nI 0) (by decide) ?_
  refine v_iconst C d_Mod_next_3 (nI 0) (by decide) ?_
  refine v_iconst C d_Mod_next_4 (nI 0) (by decide) ?_
  refine v_iconst C d_Mod_next_5 (nI 0) (by decide) ?_
  refine v_cI C (As := [.int v, .int (nI 0), .int (nI 0), .int (nI 0), .int (nI 0)]) (st := []) (c_Mod_goOn l D kA h a R sz ch op sl mk pt pp mt sp me LL v 0 (nI 0) (nI 0) (nI 0) hLI hR hsz hL hop hsl hmk (by omega)) cv_Mod_goOn ml_Mod_83 d_Mod_next_6 ⟨by omega, by decide⟩ mw_rcv ⟨rfl, rfl⟩ rfl ?_
  rintro x9 w9 hx
  refine v_iret C rfl d_Mod_next_9 ⟨_, rfl, ?_⟩
  rcases hx with hx | hx | ⟨c1, z1, z2, z3, z4, k, z5, z6⟩
  · exact Or.inl hx
  · exact Or.inr (Or.inl hx)
  · exact Or.inr (Or.inr ⟨c1, z1, z2, z3, z4, k, z5.congr (fun x => by unfold qT; simp), z6⟩)

set_option maxHeartbeats 800000 in
set_option maxRecDepth 20000 in
theorem c_Mod_seek (l : Launch) (D : va_G) (kA : Nat → ClassId) (h : Nat) (a : Nat → Nat) (R : Nat → Int32) (sz ch : Nat) (op sl mk : Nat → Nat) (pt : Nat → Int32) (pp : Nat → Nat) (mt : Nat → Int32) (sp : Nat → Nat) (me : Nat) (LL : Nat → List Nat) (v va vb vc : Int32) (hLI : LI LL) (hR : ∀ t, t < 3 → rowOK R t (LL t)) (hsz : sz = (LL 0).length) (hL : (LL 0).length ≤ 600) (hop : ∀ j, j < 8 → op j = 0 ∨ op j = 1) (hsl : ∀ j, j < 8 → sl j = 0 ∨ sl j = 1) (hmk : ∀ j, j < 8 → op j = 1 → mk j < 8 ∧ pp j ≤ sz + 1) : Ct l D kA 3 y_Mod_seek b_Mod_seek 9 (some .int) [.ref h, .int v, .int va, .int vb, .int vc] (mw kA h a R sz ch op sl mk pt pp mt sp me) (pI fun x w => ((∀ c2, c2 < 8 → v = nI c2 → op c2 = 0) ∧ x = -1 ∧ w = (mw kA h a R sz ch op sl mk pt pp mt sp me)) ∨ (∃ c1, c1 < 8 ∧ v = nI c1 ∧ op c1 = 1 ∧ sl c1 = 1 ∧ x = -3 ∧ w = (mw kA h a R sz ch op sl mk pt pp mt sp me)) ∨ (∃ c1, c1 < 8 ∧ v = nI c1 ∧ op c1 = 1 ∧ sl c1 = 0 ∧ ∃ k, GO (LL (oo (mk c1))) (qT (oo (mk c1)) (mk c1) (pt (3 * c1)) (pt (3 * c1 + 1)) (pt (3 * c1 + 2)) 1 (enc va vb vc)) (min (pp c1) sz) k ∧ x = (if k < sz then 1 else 0) ∧ w = (mw kA h a R sz ch op sl mk pt (va_up pp c1 (k + 1)) mt sp me))) := by
  refine ct_of (by decide) (Nat.le_of_ble_eq_true rfl) rfl ?_
  intro pg en s0 m0 args below meth cod C
  have t21 : ∀ t : Nat, t < 3 → (∀ c1, c1 < 8 → v = nI c1 → op c1 = 1 → oo (mk c1) = t) → V pg l en (rmk 3) s0 m0 args below meth cod D (qA (mw kA h a R sz ch op sl mk pt pp mt sp me)) 9 0 0 (MQ below (QC D (mw kA h a R sz ch op sl mk pt pp mt sp me) (pI fun x w => ((∀ c2, c2 < 8 → v = nI c2 → op c2 = 0) ∧ x = -1 ∧ w = (mw kA h a R sz ch op sl mk pt pp mt sp me)) ∨ (∃ c1, c1 < 8 ∧ v = nI c1 ∧ op c1 = 1 ∧ sl c1 = 1 ∧ x = -3 ∧ w = (mw kA h a R sz ch op sl mk pt pp mt sp me)) ∨ (∃ c1, c1 < 8 ∧ v = nI c1 ∧ op c1 = 1 ∧ sl c1 = 0 ∧ ∃ k, GO (LL (oo (mk c1))) (qT (oo (mk c1)) (mk c1) (pt (3 * c1)) (pt (3 * c1 + 1)) (pt (3 * c1 + 2)) 1 (enc va vb vc)) (min (pp c1) sz) k ∧ x = (if k < sz then 1 else 0) ∧ w = (mw kA h a R sz ch op sl mk pt (va_up pp c1 (k + 1)) mt sp me)))) args s0 0 0 (qA (mw kA h a R sz ch op sl mk pt pp mt sp me))) 21 [.ref h, .int v, .int va, .int vb, .int vc] [.int (nI t)] (mw kA h a R sz ch op sl mk pt pp mt sp me) := by
    intro t ht hto
    rcases (show t = 0 ∨ t = 1 ∨ t = 2 by omega) with rfl | rfl | rfl
    · refine v_istore C d_Mod_seek_21 ⟨Nat.le_of_ble_eq_true rfl, Nat.le_of_ble_eq_true rfl⟩ [.ref h, .int v, .int va, .int vb, .int vc, .int (nI 0)] rfl ?_
      refine v_iload C d_Mod_seek_23 rfl ?_
      refine v_if_ne C d_Mod_seek_25 32 (by decide) (by decide) (fun c0 => False.elim (by exact c0 rfl)) (fun c0 => ?_)
      refine v_iload_n C d_Mod_seek_28 rfl ?_
      refine v_goto C d_Mod_seek_29 44 (by decide) ?_
      refine v_istore C d_Mod_seek_44 ⟨Nat.le_of_ble_eq_true rfl, Nat.le_of_ble_eq_true rfl⟩ [.ref h, .int v, .int va, .int vb, .int vc, .int (nI 0), .int va] rfl ?_
      refine v_iload C d_Mod_seek_46 rfl ?_
      refine v_if_ne C d_Mod_seek_48 55 (by decide) (by decide) (fun c0 => False.elim (by exact c0 rfl)) (fun c0 => ?_)
      refine v_iload_n C d_Mod_seek_51 rfl ?_
      refine v_goto C d_Mod_seek_52 67 (by decide) ?_
      refine v_istore C d_Mod_seek_67 ⟨Nat.le_of_ble_eq_true rfl, Nat.le_of_ble_eq_true rfl⟩ [.ref h, .int v, .int va, .int vb, .int vc, .int (nI 0), .int va, .int vb] rfl ?_
      refine v_iload C d_Mod_seek_69 rfl ?_
      refine v_if_ne C d_Mod_seek_71 79 (by decide) (by decide) (fun c0 => False.elim (by exact c0 rfl)) (fun c0 => ?_)
      refine v_iload C d_Mod_seek_74 rfl ?_
      refine v_goto C d_Mod_seek_76 90 (by decide) ?_
      refine v_istore C d_Mod_seek_90 ⟨Nat.le_of_ble_eq_true rfl, Nat.le_of_ble_eq_true rfl⟩ [.ref h, .int v, .int va, .int vb, .int vc, .int (nI 0), .int va, .int vb, .int vc] rfl ?_
      refine v_aload_n C d_Mod_seek_92 rfl ?_
      refine v_iload_n C d_Mod_seek_93 rfl ?_
      refine v_iconst C d_Mod_seek_94 (nI 1) (by decide) ?_
      refine v_iload C d_Mod_seek_95 rfl ?_
      refine v_iload C d_Mod_seek_97 rfl ?_
      refine v_iload C d_Mod_seek_99 rfl ?_
      refine v_cI C (As := [.int v, .int (nI 1), .int va, .int vb, .int vc]) (st := []) (c_Mod_goOn l D kA h a R sz ch op sl mk pt pp mt sp me LL v 1 va vb vc hLI hR hsz hL hop hsl hmk (by omega)) cv_Mod_goOn ml_Mod_83 d_Mod_seek_101 ⟨by omega, by decide⟩ mw_rcv ⟨rfl, rfl⟩ rfl ?_
      rintro x9 w9 hx
      refine v_iret C rfl d_Mod_seek_104 ⟨_, rfl, ?_⟩
      rcases hx with hx | hx | ⟨c1, z1, z2, z3, z4, k, z5, z6⟩
      · exact Or.inl hx
      · exact Or.inr (Or.inl hx)
      · rw [hto c1 z1 z2 z3] at z5
        exact Or.inr (Or.inr ⟨c1, z1, z2, z3, z4, k, by rw [hto c1 z1 z2 z3]; exact z5, z6⟩)
    · refine v_istore C d_Mod_seek_21 ⟨Nat.le_of_ble_eq_true rfl, Nat.le_of_ble_eq_true rfl⟩ [.ref h, .int v, .int va, .int vb, .int vc, .int (nI 1)] rfl ?_
      refine v_iload C d_Mod_seek_23 rfl ?_
      refine v_if_ne C d_Mod_seek_25 32 (by decide) (by decide) (fun c0 => ?_) (fun c0 => False.elim (by exact absurd c0 (by decide)))
      refine v_iload C d_Mod_seek_32 rfl ?_
      refine v_iconst C d_Mod_seek_34 (nI 1) (by decide) ?_
      refine v_icmp_ne C d_Mod_seek_35 43 (by decide) (by decide) (by decide) (fun c0 => False.elim (by exact c0 rfl)) (fun c0 => ?_)
      refine v_iload C d_Mod_seek_38 rfl ?_
      refine v_goto C d_Mod_seek_40 44 (by decide) ?_
      refine v_istore C d_Mod_seek_44 ⟨Nat.le_of_ble_eq_true rfl, Nat.le_of_ble_eq_true rfl⟩ [.ref h, .int v, .int va, .int vb, .int vc, .int (nI 1), .int vc] rfl ?_
      refine v_iload C d_Mod_seek_46 rfl ?_
      refine v_if_ne C d_Mod_seek_48 55 (by decide) (by decide) (fun c0 => ?_) (fun c0 => False.elim (by exact absurd c0 (by decide)))
      refine v_iload C d_Mod_seek_55 rfl ?_
      refine v_iconst C d_Mod_seek_57 (nI 1) (by decide) ?_
      refine v_icmp_ne C d_Mod_seek_58 65 (by decide) (by decide) (by decide) (fun c0 => False.elim (by exact c0 rfl)) (fun c0 => ?_)
      refine v_iload_n C d_Mod_seek_61 rfl ?_
      refine v_goto C d_Mod_seek_62 67 (by decide) ?_
      refine v_istore C d_Mod_seek_67 ⟨Nat.le_of_ble_eq_true rfl, Nat.le_of_ble_eq_true rfl⟩ [.ref h, .int v, .int va, .int vb, .int vc, .int (nI 1), .int vc, .int va] rfl ?_
      refine v_iload C d_Mod_seek_69 rfl ?_
      refine v_if_ne C d_Mod_seek_71 79 (by decide) (by decide) (fun c0 => ?_) (fun c0 => False.elim (by exact absurd c0 (by decide)))
      refine v_iload C d_Mod_seek_79 rfl ?_
      refine v_iconst C d_Mod_seek_81 (nI 1) (by decide) ?_
      refine v_icmp_ne C d_Mod_seek_82 89 (by decide) (by decide) (by decide) (fun c0 => False.elim (by exact c0 rfl)) (fun c0 => ?_)
      refine v_iload_n C d_Mod_seek_85 rfl ?_
      refine v_goto C d_Mod_seek_86 90 (by decide) ?_
      refine v_istore C d_Mod_seek_90 ⟨Nat.le_of_ble_eq_true rfl, Nat.le_of_ble_eq_true rfl⟩ [.ref h, .int v, .int va, .int vb, .int vc, .int (nI 1), .int vc, .int va, .int vb] rfl ?_
      refine v_aload_n C d_Mod_seek_92 rfl ?_
      refine v_iload_n C d_Mod_seek_93 rfl ?_
      refine v_iconst C d_Mod_seek_94 (nI 1) (by decide) ?_
      refine v_iload C d_Mod_seek_95 rfl ?_
      refine v_iload C d_Mod_seek_97 rfl ?_
      refine v_iload C d_Mod_seek_99 rfl ?_
      refine v_cI C (As := [.int v, .int (nI 1), .int vc, .int va, .int vb]) (st := []) (c_Mod_goOn l D kA h a R sz ch op sl mk pt pp mt sp me LL v 1 vc va vb hLI hR hsz hL hop hsl hmk (by omega)) cv_Mod_goOn ml_Mod_83 d_Mod_seek_101 ⟨by omega, by decide⟩ mw_rcv ⟨rfl, rfl⟩ rfl ?_
      rintro x9 w9 hx
      refine v_iret C rfl d_Mod_seek_104 ⟨_, rfl, ?_⟩
      rcases hx with hx | hx | ⟨c1, z1, z2, z3, z4, k, z5, z6⟩
      · exact Or.inl hx
      · exact Or.inr (Or.inl hx)
      · rw [hto c1 z1 z2 z3] at z5
        exact Or.inr (Or.inr ⟨c1, z1, z2, z3, z4, k, by rw [hto c1 z1 z2 z3]; exact z5, z6⟩)
    · refine v_istore C d_Mod_seek_21 ⟨Nat.le_of_ble_eq_true rfl, Nat.le_of_ble_eq_true rfl⟩ [.ref h, .int v, .int va, .int vb, .int vc, .int (nI 2)] rfl ?_
      refine v_iload C d_Mod_seek_23 rfl ?_
      refine v_if_ne C d_Mod_seek_25 32 (by decide) (by decide) (fun c0 => ?_) (fun c0 => False.elim (by exact absurd c0 (by decide)))
      refine v_iload C d_Mod_seek_32 rfl ?_
      refine v_iconst C d_Mod_seek_34 (nI 1) (by decide) ?_
      refine v_icmp_ne C d_Mod_seek_35 43 (by decide) (by decide) (by decide) (fun c0 => ?_) (fun c0 => False.elim (by exact absurd c0 (by decide)))
      refine v_iload_n C d_Mod_seek_43 rfl ?_
      refine v_istore C d_Mod_seek_44 ⟨Nat.le_of_ble_eq_true rfl, Nat.le_of_ble_eq_true rfl⟩ [.ref h, .int v, .int va, .int vb, .int vc, .int (nI 2), .int vb] rfl ?_
      refine v_iload C d_Mod_seek_46 rfl ?_
      refine v_if_ne C d_Mod_seek_48 55 (by decide) (by decide) (fun c0 => ?_) (fun c0 => False.elim (by exact absurd c0 (by decide)))
      refine v_iload C d_Mod_seek_55 rfl ?_
      refine v_iconst C d_Mod_seek_57 (nI 1) (by decide) ?_
      refine v_icmp_ne C d_Mod_seek_58 65 (by decide) (by decide) (by decide) (fun c0 => ?_) (fun c0 => False.elim (by exact absurd c0 (by decide)))
      refine v_iload C d_Mod_seek_65 rfl ?_
      refine v_istore C d_Mod_seek_67 ⟨Nat.le_of_ble_eq_true rfl, Nat.le_of_ble_eq_true rfl⟩ [.ref h, .int v, .int va, .int vb, .int vc, .int (nI 2), .int vb, .int vc] rfl ?_
      refine v_iload C d_Mod_seek_69 rfl ?_
      refine v_if_ne C d_Mod_seek_71 79 (by decide) (by decide) (fun c0 => ?_) (fun c0 => False.elim (by exact absurd c0 (by decide)))
      refine v_iload C d_Mod_seek_79 rfl ?_
      refine v_iconst C d_Mod_seek_81 (nI 1) (by decide) ?_
      refine v_icmp_ne C d_Mod_seek_82 89 (by decide) (by decide) (by decide) (fun c0 => ?_) (fun c0 => False.elim (by exact absurd c0 (by decide)))
      refine v_iload_n C d_Mod_seek_89 rfl ?_
      refine v_istore C d_Mod_seek_90 ⟨Nat.le_of_ble_eq_true rfl, Nat.le_of_ble_eq_true rfl⟩ [.ref h, .int v, .int va, .int vb, .int vc, .int (nI 2), .int vb, .int vc, .int va] rfl ?_
      refine v_aload_n C d_Mod_seek_92 rfl ?_
      refine v_iload_n C d_Mod_seek_93 rfl ?_
      refine v_iconst C d_Mod_seek_94 (nI 1) (by decide) ?_
      refine v_iload C d_Mod_seek_95 rfl ?_
      refine v_iload C d_Mod_seek_97 rfl ?_
      refine v_iload C d_Mod_seek_99 rfl ?_
      refine v_cI C (As := [.int v, .int (nI 1), .int vb, .int vc, .int va]) (st := []) (c_Mod_goOn l D kA h a R sz ch op sl mk pt pp mt sp me LL v 1 vb vc va hLI hR hsz hL hop hsl hmk (by omega)) cv_Mod_goOn ml_Mod_83 d_Mod_seek_101 ⟨by omega, by decide⟩ mw_rcv ⟨rfl, rfl⟩ rfl ?_
      rintro x9 w9 hx
      refine v_iret C rfl d_Mod_seek_104 ⟨_, rfl, ?_⟩
      rcases hx with hx | hx | ⟨c1, z1, z2, z3, z4, k, z5, z6⟩
      · exact Or.inl hx
      · exact Or.inr (Or.inl hx)
      · rw [hto c1 z1 z2 z3] at z5
        exact Or.inr (Or.inr ⟨c1, z1, z2, z3, z4, k, by rw [hto c1 z1 z2 z3]; exact z5, z6⟩)
  refine v_aload_n C d_Mod_seek_0 rfl ?_
  refine v_iload_n C d_Mod_seek_1 rfl ?_
  refine v_cI C (As := [.int v]) (st := []) (c_Mod_isCursor l D kA h a R sz ch op sl mk pt pp mt sp me v hop) cv_Mod_isCursor ml_Mod_76 d_Mod_seek_2 ⟨by omega, by decide⟩ mw_rcv ⟨rfl, rfl⟩ rfl ?_
  rintro x9 _ ⟨⟨ci, hci, rfl, ho1, rfl⟩ | ⟨hno, rfl⟩, rfl⟩
  · refine v_if_eqR C d_Mod_seek_5 20 (by decide) (fun c0 => False.elim (by exact absurd c0 (by decide))) (fun c0 => ?_)
    refine v_aload_n C d_Mod_seek_8 rfl ?_
    refine v_getf C i_Mod (ci := 3) rfl 5 (by decide) (List.mem_of_getElem? (i := 0) rfl) fl_Mod_20 d_Mod_seek_9 (.ref (a 3)) rfl ?_
    refine v_iload_n C d_Mod_seek_12 rfl ?_
    refine v_iald C (List.mem_of_getElem? (i := 4) rfl) (by omega) (by decide) d_Mod_seek_13 (nI (mk ci)) (rfl) ?_
    refine v_cS C (As := [.int (nI (mk ci))]) (st := []) (c_Mod_orderOf l D kA (mk ci) (hmk ci hci ho1).1) cv_Mod_orderOf ml_Mod_79 d_Mod_seek_14 ⟨by omega, by decide⟩ ⟨rfl, rfl⟩ rfl ?_
    rintro _ rfl
    refine v_goto C d_Mod_seek_17 21 (by decide) ?_
    exact t21 _ (oo_lt _) (fun c1 z1 z2 z3 => by rw [(nI_eq (by omega) (by omega)).mp z2])
  · refine v_if_eqR C d_Mod_seek_5 20 (by decide) (fun c0 => ?_) (fun c0 => False.elim (by exact c0 rfl))
    refine v_iconst C d_Mod_seek_20 (nI 0) (by decide) ?_
    exact t21 0 (by decide) (fun c1 z1 z2 z3 => absurd (hno c1 z1 z2) (by omega))

set_option maxHeartbeats 800000 in
set_option maxRecDepth 20000 in
theorem c_Mod_close (l : Launch) (D : va_G) (kA : Nat → ClassId) (h : Nat) (a : Nat → Nat) (R : Nat → Int32) (sz ch : Nat) (op sl mk : Nat → Nat) (pt : Nat → Int32) (pp : Nat → Nat) (mt : Nat → Int32) (sp : Nat → Nat) (me : Nat) (v : Int32) (hop : ∀ j, j < 8 → op j = 0 ∨ op j = 1) : Ct l D kA 1 y_Mod_close b_Mod_close 2 (some .boolean) [.ref h, .int v] (mw kA h a R sz ch op sl mk pt pp mt sp me) (pI fun x w => (∃ c1, c1 < 8 ∧ v = nI c1 ∧ op c1 = 1 ∧ x = 1 ∧ w = (mw kA h a R sz ch (va_up op c1 0) (va_up sl c1 0) mk pt pp mt sp me)) ∨ ((∀ c2, c2 < 8 → v = nI c2 → op c2 = 0) ∧ x = 0 ∧ w = (mw kA h a R sz ch op sl mk pt pp mt sp me))) := by
  refine ct_of (by decide) (Nat.le_of_ble_eq_true rfl) rfl ?_
  intro pg en s0 m0 args below meth cod C
  refine v_aload_n C d_Mod_close_0 rfl ?_
  refine v_iload_n C d_Mod_close_1 rfl ?_
  refine v_cI C (As := [.int v]) (st := []) (c_Mod_isCursor l D kA h a R sz ch op sl mk pt pp mt sp me v hop) cv_Mod_isCursor ml_Mod_76 d_Mod_close_2 ⟨by omega, by decide⟩ mw_rcv ⟨rfl, rfl⟩ rfl ?_
  rintro x9 _ ⟨⟨ci, hci, rfl, ho1, rfl⟩ | ⟨hno, rfl⟩, rfl⟩
  · refine v_if_neR C d_Mod_close_5 10 (by decide) (fun c0 => ?_) (fun c0 => False.elim (by exact absurd c0 (by decide)))
    refine v_aload_n C d_Mod_close_10 rfl ?_
    refine v_getf C i_Mod (ci := 3) rfl 3 (by decide) (List.mem_of_getElem? (i := 0) rfl) fl_Mod_13 d_Mod_close_11 (.ref (a 1)) rfl ?_
    refine v_iload_n C d_Mod_close_14 rfl ?_
    refine v_iconst C d_Mod_close_15 (nI 0) (by decide) ?_
    refine v_zast C (ws' := (mw kA h a R sz ch (va_up op ci 0) sl mk pt pp mt sp me)) ⟨2, rfl, rfl⟩ (by omega) (by decide) d_Mod_close_16 (by decide) (fun j _ => by simp only [va_up]; split <;> rfl) ?_
    refine v_aload_n C d_Mod_close_17 rfl ?_
    refine v_getf C i_Mod (ci := 3) rfl 4 (by decide) (List.mem_of_getElem? (i := 0) rfl) fl_Mod_17 d_Mod_close_18 (.ref (a 2)) rfl ?_
    refine v_iload_n C d_Mod_close_21 rfl ?_
    refine v_iconst C d_Mod_close_22 (nI 0) (by decide) ?_
    refine v_zast C (ws' := (mw kA h a R sz ch (va_up op ci 0) (va_up sl ci 0) mk pt pp mt sp me)) ⟨3, rfl, rfl⟩ (by omega) (by decide) d_Mod_close_23 (by decide) (fun j _ => by simp only [va_up]; split <;> rfl) ?_
    refine v_iconst C d_Mod_close_24 (nI 1) (by decide) ?_
    exact v_zret C rfl (by decide) d_Mod_close_25 (⟨_, rfl, Or.inl ⟨ci, hci, rfl, ho1, rfl, rfl⟩⟩)
  · refine v_if_neR C d_Mod_close_5 10 (by decide) (fun c0 => False.elim (by exact c0 rfl)) (fun c0 => ?_)
    refine v_iconst C d_Mod_close_8 (nI 0) (by decide) ?_
    exact v_zret C rfl (by decide) d_Mod_close_9 (⟨_, rfl, Or.inr ⟨hno, rfl, rfl⟩⟩)

set_option maxHeartbeats 800000 in
set_option maxRecDepth 20000 in
theorem c_Mod_part (l : Launch) (D : va_G) (kA : Nat → ClassId) (h : Nat) (a : Nat → Nat) (R : Nat → Int32) (sz ch : Nat) (op sl mk : Nat → Nat) (pt : Nat → Int32) (pp : Nat → Nat) (mt : Nat → Int32) (sp : Nat → Nat) (me : Nat) (LL : Nat → List Nat) (v vi : Int32) (hLI : LI LL) (hR : ∀ t, t < 3 → rowOK R t (LL t)) (hsz : sz = (LL 0).length) (hL : (LL 0).length ≤ 600) (hop : ∀ j, j < 8 → op j = 0 ∨ op j = 1) (hsl : ∀ j, j < 8 → sl j = 0 ∨ sl j = 1) (hmk : ∀ j, j < 8 → op j = 1 → mk j < 8 ∧ pp j ≤ sz + 1) : Ct l D kA 3 y_Mod_part b_Mod_part 3 (some .int) [.ref h, .int v, .int vi] (mw kA h a R sz ch op sl mk pt pp mt sp me) (pI fun x w => ((∃ c1 i1, c1 < 8 ∧ i1 < 3 ∧ v = nI c1 ∧ vi = nI i1 ∧ op c1 = 1 ∧ sl c1 = 0 ∧ 1 ≤ pp c1 ∧ pp c1 ≤ sz ∧ x = dc (lg (LL (oo (mk c1))) (pp c1 - 1)) (po (oo (mk c1)) i1)) ∨ ((∀ c1 i1, c1 < 8 → i1 < 3 → v = nI c1 → vi = nI i1 → op c1 = 1 → sl c1 = 0 → 1 ≤ pp c1 → pp c1 ≤ sz → False) ∧ x = 0)) ∧ w = (mw kA h a R sz ch op sl mk pt pp mt sp me)) := by
  refine ct_of (by decide) (Nat.le_of_ble_eq_true rfl) rfl ?_
  intro pg en s0 m0 args below meth cod C
  have t48 : (∀ c1 i1, c1 < 8 → i1 < 3 → v = nI c1 → vi = nI i1 → op c1 = 1 → sl c1 = 0 → 1 ≤ pp c1 → pp c1 ≤ sz → False) → V pg l en (rmk 3) s0 m0 args below meth cod D (qA (mw kA h a R sz ch op sl mk pt pp mt sp me)) 3 0 0 (MQ below (QC D (mw kA h a R sz ch op sl mk pt pp mt sp me) (pI fun x w => ((∃ c1 i1, c1 < 8 ∧ i1 < 3 ∧ v = nI c1 ∧ vi = nI i1 ∧ op c1 = 1 ∧ sl c1 = 0 ∧ 1 ≤ pp c1 ∧ pp c1 ≤ sz ∧ x = dc (lg (LL (oo (mk c1))) (pp c1 - 1)) (po (oo (mk c1)) i1)) ∨ ((∀ c1 i1, c1 < 8 → i1 < 3 → v = nI c1 → vi = nI i1 → op c1 = 1 → sl c1 = 0 → 1 ≤ pp c1 → pp c1 ≤ sz → False) ∧ x = 0)) ∧ w = (mw kA h a R sz ch op sl mk pt pp mt sp me))) args s0 0 0 (qA (mw kA h a R sz ch op sl mk pt pp mt sp me))) 48 [.ref h, .int v, .int vi] [] (mw kA h a R sz ch op sl mk pt pp mt sp me) := by
    intro hn
    refine v_iconst C d_Mod_part_48 (nI 0) (by decide) ?_
    exact v_iret C rfl d_Mod_part_49 (⟨_, rfl, Or.inr ⟨hn, rfl⟩, rfl⟩)
  refine v_aload_n C d_Mod_part_0 rfl ?_
  refine v_iload_n C d_Mod_part_1 rfl ?_
  refine v_cI C (As := [.int v]) (st := []) (c_Mod_isCursor l D kA h a R sz ch op sl mk pt pp mt sp me v hop) cv_Mod_isCursor ml_Mod_76 d_Mod_part_2 ⟨by omega, by decide⟩ mw_rcv ⟨rfl, rfl⟩ rfl ?_
  rintro x9 _ ⟨⟨ci, hci, rfl, ho1, rfl⟩ | ⟨hno, rfl⟩, rfl⟩
  · refine v_if_eqR C d_Mod_part_5 48 (by decide) (fun c0 => False.elim (by exact absurd c0 (by decide))) (fun c0 => ?_)
    obtain ⟨hm8, hp8⟩ := hmk ci hci ho1
    have hs8 := hsl ci hci
    have hoo := oo_lt (mk ci)
    have hlt := (hLI.1 _ hoo).2.2
    have eqc : ∀ c1, c1 < 8 → nI ci = nI c1 → c1 = ci := fun c1 z1 z2 => ((nI_eq (by omega) (by omega)).mp z2).symm
    refine v_aload_n C d_Mod_part_8 rfl ?_
    refine v_getf C i_Mod (ci := 3) rfl 4 (by decide) (List.mem_of_getElem? (i := 0) rfl) fl_Mod_17 d_Mod_part_9 (.ref (a 2)) rfl ?_
    refine v_iload_n C d_Mod_part_12 rfl ?_
    refine v_zald C (List.mem_of_getElem? (i := 3) rfl) (by omega) (by decide) d_Mod_part_13 (nI (sl ci)) (rfl) ?_
    refine v_if_ne C d_Mod_part_14 48 (by decide) (by omega) (fun c1 => ?_) (fun c1 => ?_)
    · exact t48 (fun d1 i1 z1 z2 z3 z4 z5 z6 z7 z8 => c1 (by rw [← eqc d1 z1 z3]; exact z6))
    · refine v_iload_n C d_Mod_part_17 rfl ?_
      rcases pk_ix vi (n := 3) (by decide) with hv | hv | ⟨i9, hi9, rfl⟩
      · refine v_if_ltR C d_Mod_part_18 48 (by decide) (fun c2 => ?_) (fun c2 => False.elim (by exact c2 hv))
        exact t48 (fun d1 i1 z1 z2 z3 z4 z5 z6 z7 z8 => nI_ne_neg hv (by omega) z4)
      · refine v_if_ltR C d_Mod_part_18 48 (by decide) (fun c2 => False.elim (by exact nI_ge_n0 hv (by decide) c2)) (fun c2 => ?_)
        refine v_iload_n C d_Mod_part_21 rfl ?_
        refine v_iconst C d_Mod_part_22 (nI 2) (by decide) ?_
        refine v_icmp_gtR C d_Mod_part_23 48 (by decide) (fun c3 => ?_) (fun c3 => False.elim (by exact c3 (Int32.lt_of_lt_of_le (show nI 2 < nI 3 by decide) hv)))
        exact t48 (fun d1 i1 z1 z2 z3 z4 z5 z6 z7 z8 => nI_ge_ne hv z2 (by decide) z4)
      · refine v_if_ltR C d_Mod_part_18 48 (by decide) (fun c2 => False.elim (by exact nI_pos (by omega) c2)) (fun c2 => ?_)
        refine v_iload_n C d_Mod_part_21 rfl ?_
        refine v_iconst C d_Mod_part_22 (nI 2) (by decide) ?_
        refine v_icmp_gt C d_Mod_part_23 48 (by decide) (by omega) (by omega) (fun c3 => False.elim (by omega)) (fun c3 => ?_)
        refine v_aload_n C d_Mod_part_26 rfl ?_
        refine v_getf C i_Mod (ci := 3) rfl 7 (by decide) (List.mem_of_getElem? (i := 0) rfl) fl_Mod_26 d_Mod_part_27 (.ref (a 5)) rfl ?_
        refine v_iload_n C d_Mod_part_30 rfl ?_
        refine v_iald C (List.mem_of_getElem? (i := 6) rfl) (by omega) (by decide) d_Mod_part_31 (nI (pp ci) - nI 1) (rfl) ?_
        refine v_if_ltR C d_Mod_part_32 48 (by decide) (fun c4 => ?_) (fun c4 => ?_)
        · have hp0 : pp ci ≤ 0 := (m1_lt (b := 0) (by omega) (by omega)).mp c4
          exact t48 (fun d1 i1 z1 z2 z3 z4 z5 z6 z7 z8 => by rw [eqc d1 z1 z3] at z7; omega)
        · have hp0 : 1 ≤ pp ci := Nat.lt_of_not_le fun z => c4 ((m1_lt (b := 0) (by omega) (by omega)).mpr z)
          refine v_aload_n C d_Mod_part_35 rfl ?_
          refine v_getf C i_Mod (ci := 3) rfl 7 (by decide) (List.mem_of_getElem? (i := 0) rfl) fl_Mod_26 d_Mod_part_36 (.ref (a 5)) rfl ?_
          refine v_iload_n C d_Mod_part_39 rfl ?_
          refine v_iald C (List.mem_of_getElem? (i := 6) rfl) (by omega) (by decide) d_Mod_part_40 (nI (pp ci) - nI 1) (rfl) ?_
          refine v_aload_n C d_Mod_part_41 rfl ?_
          refine v_getf C i_Mod (ci := 3) rfl 1 (by decide) (List.mem_of_getElem? (i := 0) rfl) fl_Mod_35 d_Mod_part_42 (.int (nI sz)) rfl ?_
          refine v_icmp_ltR C d_Mod_part_45 50 (by decide) (fun c5 => ?_) (fun c5 => ?_)
          · have hp1 : pp ci ≤ sz := (m1_lt (by omega) (by omega)).mp c5
            refine v_aload_n C d_Mod_part_50 rfl ?_
            refine v_aload_n C d_Mod_part_51 rfl ?_
            refine v_getf C i_Mod (ci := 3) rfl 5 (by decide) (List.mem_of_getElem? (i := 0) rfl) fl_Mod_20 d_Mod_part_52 (.ref (a 3)) rfl ?_
            refine v_iload_n C d_Mod_part_55 rfl ?_
            refine v_iald C (List.mem_of_getElem? (i := 4) rfl) (by omega) (by decide) d_Mod_part_56 (nI (mk ci)) (rfl) ?_
            refine v_cS C (As := [.int (nI (mk ci))]) (st := [.ref h]) (c_Mod_orderOf l D kA (mk ci) hm8) cv_Mod_orderOf ml_Mod_79 d_Mod_part_57 ⟨by omega, by decide⟩ ⟨rfl, rfl⟩ rfl ?_
            rintro _ rfl
            refine v_aload_n C d_Mod_part_60 rfl ?_
            refine v_getf C i_Mod (ci := 3) rfl 7 (by decide) (List.mem_of_getElem? (i := 0) rfl) fl_Mod_26 d_Mod_part_61 (.ref (a 5)) rfl ?_
            refine v_iload_n C d_Mod_part_64 rfl ?_
            refine v_iald C (List.mem_of_getElem? (i := 6) rfl) (by omega) (by decide) d_Mod_part_65 (nI (pp ci) - nI 1) (rfl) ?_
            refine v_top (y := nI (pp ci - 1)) (show (nI (pp ci) - nI 1) = nI (pp ci - 1) from pk_sub hp0) ?_
            refine v_iload_n C d_Mod_part_66 rfl ?_
            refine v_cI C (As := [.int (nI (oo (mk ci))), .int (nI (pp ci - 1)), .int (nI i9)]) (st := []) (c_Mod_cell l D kA h a R sz ch op sl mk pt pp mt sp me (oo (mk ci)) (pp ci - 1) i9 (LL (oo (mk ci))) hoo (by omega) (hR _ hoo) (by omega) hi9) cv_Mod_cell ml_Mod_43 d_Mod_part_67 ⟨by omega, by decide⟩ mw_rcv ⟨rfl, rfl⟩ rfl ?_
            rintro _ _ ⟨rfl, rfl⟩
            exact v_iret C rfl d_Mod_part_70 (⟨_, rfl, Or.inl ⟨ci, i9, hci, hi9, rfl, rfl, ho1, c1, hp0, hp1, rfl⟩, rfl⟩)
          · exact t48 (fun d1 i1 z1 z2 z3 z4 z5 z6 z7 z8 => c5 ((m1_lt (by omega) (by omega)).mpr (by rw [← eqc d1 z1 z3]; exact z8)))
  · refine v_if_eqR C d_Mod_part_5 48 (by decide) (fun c0 => ?_) (fun c0 => False.elim (by exact c0 rfl))
    exact t48 (fun d1 i1 z1 z2 z3 z4 z5 z6 z7 z8 => by rw [hno d1 z1 z3] at z5; omega)
