/-- a sorted list falls into what is below and what is above -/
theorem srt_cut {L : List Nat} {k : Nat} (hs : Srt L) (hn : k ∉ L) : ∃ P S, L = P ++ S ∧ (∀ x ∈ P, x < k) ∧ (∀ x ∈ S, k < x) := by
  induction L with
  | nil => exact ⟨[], [], rfl, fun x hx => absurd hx List.not_mem_nil, fun x hx => absurd hx List.not_mem_nil⟩
  | cons y r ih =>
    obtain ⟨h1, h2⟩ := List.pairwise_cons.mp hs
    have hy : y ≠ k := fun e => hn (by rw [e]; exact List.mem_cons_self)
    by_cases hlt : y < k
    · obtain ⟨P, S, e, a, b⟩ := ih h2 (fun z => hn (List.mem_cons_of_mem _ z))
      refine ⟨y :: P, S, by rw [e]; rfl, fun x hx => ?_, b⟩
      rcases List.mem_cons.mp hx with rfl | hx
      · exact hlt
      · exact a x hx
    · refine ⟨[], y :: r, rfl, fun x hx => absurd hx List.not_mem_nil, fun x hx => ?_⟩
      rcases List.mem_cons.mp hx with rfl | hx
      · omega
      · have := h1 x hx; omega
theorem srt_cut1 {L : List Nat} {k : Nat} (hs : Srt L) (hn : k ∈ L) : ∃ P S, L = P ++ k :: S ∧ (∀ x ∈ P, x < k) ∧ (∀ x ∈ S, k < x) := by
  obtain ⟨P, S, rfl⟩ := List.append_of_mem hn
  obtain ⟨h1, h2, h3⟩ := Srt.app.mp hs
  exact ⟨P, S, rfl, fun x hx => h3 x hx k List.mem_cons_self, (List.pairwise_cons.mp h2).1⟩

/-! the three rows together: sorted, of one length, with the same triples -/
def LI (LL : Nat → List Nat) : Prop := (∀ t, t < 3 → Srt (LL t) ∧ (∀ x ∈ LL t, x < TOP) ∧ (LL t).length = (LL 0).length) ∧ ∀ t s p o, t < 3 → (ec t s p o ∈ LL t ↔ ec 0 s p o ∈ LL 0)
def insL (L : List Nat) (k : Nat) : List Nat := L.take (blw L k) ++ k :: L.drop (blw L k)
def delL (L : List Nat) (k : Nat) : List Nat := L.take (blw L k) ++ L.drop (blw L k + 1)
theorem blw_le (L : List Nat) (k : Nat) : blw L k ≤ L.length := List.length_filter_le _ _
theorem insL_len (L : List Nat) (k : Nat) : (insL L k).length = L.length + 1 := by
  have := blw_le L k
  simp [insL]; omega
theorem delL_len {L : List Nat} {k : Nat} (h : blw L k < L.length) : (delL L k).length = L.length - 1 := by
  simp [delL]; omega
theorem lg_insL (L : List Nat) (k : Nat) (i : Nat) : lg (insL L k) i = if i < blw L k then lg L i else if i = blw L k then k else lg L (i - 1) := by
  have hb := blw_le L k
  unfold lg insL
  simp only [List.getD_eq_getElem?_getD]
  by_cases h1 : i < blw L k
  · rw [if_pos h1, List.getElem?_append_left (by rw [List.length_take]; omega), List.getElem?_take, if_pos h1]
  · rw [if_neg h1, List.getElem?_append_right (by rw [List.length_take]; omega), List.length_take, Nat.min_eq_left hb]
    by_cases h2 : i = blw L k
    · rw [if_pos h2, h2, Nat.sub_self]; rfl
    · rw [if_neg h2, show i - blw L k = (i - 1 - blw L k) + 1 by omega, List.getElem?_cons_succ, List.getElem?_drop, show blw L k + (i - 1 - blw L k) = i - 1 by omega]
theorem lg_delL {L : List Nat} {k : Nat} (i : Nat) : lg (delL L k) i = if i < blw L k then lg L i else lg L (i + 1) := by
  have hb := blw_le L k
  unfold lg delL
  simp only [List.getD_eq_getElem?_getD]
  by_cases h1 : i < blw L k
  · rw [if_pos h1, List.getElem?_append_left (by rw [List.length_take]; omega), List.getElem?_take, if_pos h1]
  · rw [if_neg h1, List.getElem?_append_right (by rw [List.length_take]; omega), List.length_take, Nat.min_eq_left hb, List.getElem?_drop, show blw L k + 1 + (i - blw L k) = i + 1 by omega]
theorem insL_Ins {L : List Nat} {k : Nat} (hs : Srt L) (hn : k ∉ L) : Ins k L (insL L k) := by
  obtain ⟨P, S, h1, h2, h3⟩ : ∃ P S, L = P ++ S ∧ (∀ x ∈ P, x < k) ∧ (∀ x ∈ S, k < x) := srt_cut hs hn
  have hb : blw L k = P.length := blw_app h1 h2 (fun x hx => Nat.le_of_lt (h3 x hx))
  refine ⟨P, S, h1, ?_, h2, h3⟩
  unfold insL
  rw [hb, h1, List.take_left, List.drop_left]

theorem delL_Del {L : List Nat} {k : Nat} (hs : Srt L) (hn : k ∈ L) : Del k L (delL L k) ∧ blw L k < L.length := by
  obtain ⟨P, S, h1, h2, h3⟩ := srt_cut1 hs hn
  have hb : blw L k = P.length := blw_app h1 h2 (fun x hx => by rcases List.mem_cons.mp hx with rfl | hx; exact Nat.le_refl _; exact Nat.le_of_lt (h3 x hx))
  refine ⟨⟨P, S, h1, ?_, h2, h3⟩, by rw [hb, h1]; simp⟩
  unfold delL
  rw [hb, h1, List.take_left, ← List.drop_drop, List.drop_left]; rfl
theorem po_sel {t i : Nat} (ht : t < 3) (hi : i < 3) (s p o : Int32) : dc (ec t s p o) (po t i) = sel i s p o := by
  rw [ec_dc ht po_lt, show (t + po t i) % 3 = i by unfold po; omega]
/-- a row with one more, one less; the others are left -/
theorem row_ins {R R' : Nat → Int32} {t : Nat} {L : List Nat} {s p o : Int32} (ht : t < 3) (hR : rowOK R t L) (h1 : ∀ j, 2101 * t ≤ j → j < 2101 * t + 3 * blw L (ec t s p o) → R' j = R j) (h2 : ∀ i, i < 3 → R' (2101 * t + 3 * blw L (ec t s p o) + i) = sel i s p o) (h3 : ∀ j, 2101 * t + 3 * blw L (ec t s p o) + 3 ≤ j → j < 2101 * t + 3 * L.length + 3 → R' j = R (j - 3)) : rowOK R' t (insL L (ec t s p o)) := by
  intro k hk i hi
  rw [insL_len] at hk
  rw [lg_insL]
  by_cases c1 : k < blw L (ec t s p o)
  · have := blw_le L (ec t s p o)
    rw [if_pos c1, h1 _ (by omega) (by omega)]; exact hR k (by omega) i hi
  · rw [if_neg c1]
    by_cases c2 : k = blw L (ec t s p o)
    · rw [if_pos c2, c2, h2 i hi, po_sel ht hi]
    · rw [if_neg c2, h3 _ (by omega) (by omega), show 2101 * t + 3 * k + i - 3 = 2101 * t + 3 * (k - 1) + i by omega]
      exact hR (k - 1) (by omega) i hi
theorem row_del {R R' : Nat → Int32} {t kx : Nat} {L : List Nat} (hb : blw L kx < L.length) (hR : rowOK R t L) (h1 : ∀ j, 2101 * t ≤ j → j < 2101 * t + 3 * blw L kx → R' j = R j) (h3 : ∀ j, 2101 * t + 3 * blw L kx ≤ j → j + 3 < 2101 * t + 3 * L.length → R' j = R (j + 3)) : rowOK R' t (delL L kx) := by
  intro k hk i hi
  rw [delL_len hb] at hk
  rw [lg_delL]
  by_cases c1 : k < blw L kx
  · rw [if_pos c1, h1 _ (by omega) (by omega)]; exact hR k (by omega) i hi
  · rw [if_neg c1, h3 _ (by omega) (by omega), show 2101 * t + 3 * k + i + 3 = 2101 * t + 3 * (k + 1) + i by omega]
    exact hR (k + 1) (by omega) i hi
theorem row_same {R R' : Nat → Int32} {t : Nat} {L : List Nat} (hR : rowOK R t L) (h : ∀ j, 2101 * t ≤ j → j < 2101 * t + 3 * L.length → R' j = R j) : rowOK R' t L := fun k hk i hi => by
  rw [h _ (by omega) (by omega)]; exact hR k hk i hi
theorem m1_lt {a b : Nat} (ha : a < 2 ^ 30) (hb : b < 2 ^ 30) : (nI a - nI 1 < nI b) ↔ a ≤ b := by
  rw [Int32.lt_iff_toInt_lt, pk_sub_toInt ha (by decide), nI_toInt (by omega)]; omega
theorem m1_add {b k : Nat} (h : 0 < k) : nI b + (nI k - nI 1) = nI (b + (k - 1)) := by rw [pk_sub h, nI_add]
theorem m1_dec {k : Nat} (h : 0 < k) : (nI k - nI 1) + Int32.ofInt (-1) = nI (k - 1) - nI 1 := by
  rw [pk_sub h, Int32.sub_eq_add_neg]; rfl

set_option maxHeartbeats 800000 in
set_option maxRecDepth 20000 in
theorem c_Mod_changed (l : Launch) (D : va_G) (kA : Nat → ClassId) (h : Nat) (a : Nat → Nat) (R : Nat → Int32) (sz ch : Nat) (op sl mk : Nat → Nat) (pt : Nat → Int32) (pp : Nat → Nat) (mt : Nat → Int32) (sp : Nat → Nat) (me : Nat)  (hop : ∀ j, j < 8 → op j = 0 ∨ op j = 1) : Ct l D kA 0 y_Mod_changed b_Mod_changed 2 none [.ref h] (mw kA h a R sz ch op sl mk pt pp mt sp me) (pV fun w => ∃ sl', (∀ j, j < 8 → sl' j = op j) ∧ w = (mw kA h a R sz (ch + 1) op sl' mk pt pp mt sp me)) := by
  refine ct_of (by decide) (Nat.le_of_ble_eq_true rfl) rfl ?_
  intro pg en s0 m0 args below meth cod C
  refine v_aload_n C d_Mod_changed_0 rfl ?_
  refine v_dup C d_Mod_changed_1 rfl ?_
  refine v_getf C i_Mod (ci := 3) rfl 2 (by decide) (List.mem_of_getElem? (i := 0) rfl) fl_Mod_55 d_Mod_changed_2 (.int (nI ch)) rfl ?_
  refine v_iconst C d_Mod_changed_5 (nI 1) (by decide) ?_
  refine v_iadd C d_Mod_changed_6 ?_
  refine v_putf C i_Mod (ci := 3) (ws' := (mw kA h a R sz (ch + 1) op sl mk pt pp mt sp me)) t_Mod_ok n_Mod rfl 2 (by decide) ⟨0, rfl, rfl⟩ fl_Mod_55 d_Mod_changed_7 rfl (rfl) (rfl) (Nat.le_of_ble_eq_true rfl) rfl ?_
  refine v_iconst C d_Mod_changed_10 (nI 0) (by decide) ?_
  refine v_istore_n C d_Mod_changed_11 ⟨Nat.le_of_ble_eq_true rfl, Nat.le_of_ble_eq_true rfl⟩ [.ref h, .int (nI 0)] rfl ?_
  have lp : ∀ (t9 : Nat) (k : Nat) (g : Nat → Nat), 8 - k < t9 → k ≤ 8 → (∀ j, j < k → g j = op j) → V pg l en (rmk 0) s0 m0 args below meth cod D (qA (mw kA h a R sz ch op sl mk pt pp mt sp me)) 2 0 0 (MQ below (QC D (mw kA h a R sz ch op sl mk pt pp mt sp me) (pV fun w => ∃ sl', (∀ j, j < 8 → sl' j = op j) ∧ w = (mw kA h a R sz (ch + 1) op sl' mk pt pp mt sp me))) args s0 0 0 (qA (mw kA h a R sz ch op sl mk pt pp mt sp me))) 12 [.ref h, .int (nI k)] [] (mw kA h a R sz (ch + 1) op g mk pt pp mt sp me) := by
    intro t9
    induction t9 with
    | zero => intro k g hk; omega
    | succ t9 ih =>
      intro k g hk hk2 hg
      refine v_iload_n C d_Mod_changed_12 rfl ?_
      refine v_bipush C d_Mod_changed_13 (nI 8) (by decide) ?_
      refine v_icmp_ge C d_Mod_changed_15 36 (by decide) (by omega) (by omega) (fun ck => ?_) (fun ck => ?_)
      · obtain rfl : k = 8 := by omega
        exact v_vret C rfl d_Mod_changed_36 (⟨rfl, g, hg, rfl⟩)
      · refine v_aload_n C d_Mod_changed_18 rfl ?_
        refine v_getf C i_Mod (ci := 3) rfl 4 (by decide) (List.mem_of_getElem? (i := 0) rfl) fl_Mod_17 d_Mod_changed_19 (.ref (a 2)) rfl ?_
        refine v_iload_n C d_Mod_changed_22 rfl ?_
        refine v_aload_n C d_Mod_changed_23 rfl ?_
        refine v_getf C i_Mod (ci := 3) rfl 3 (by decide) (List.mem_of_getElem? (i := 0) rfl) fl_Mod_13 d_Mod_changed_24 (.ref (a 1)) rfl ?_
        refine v_iload_n C d_Mod_changed_27 rfl ?_
        refine v_zald C (List.mem_of_getElem? (i := 2) rfl) (by omega) (by decide) d_Mod_changed_28 (nI (op k)) (rfl) ?_
        refine v_zast C (ws' := (mw kA h a R sz (ch + 1) op (va_up g k (op k)) mk pt pp mt sp me)) ⟨3, rfl, rfl⟩ (by omega) (by decide) d_Mod_changed_29 (by rcases hop k (by omega) with z | z <;> rw [z] <;> decide) (fun j _ => by simp only [va_up]; split <;> rfl) ?_
        refine v_iinc C d_Mod_changed_30 rfl ⟨Nat.le_of_ble_eq_true rfl, Nat.le_of_ble_eq_true rfl⟩ (nI (k + 1)) (inc1 _) [.ref h, .int (nI (k + 1))] rfl ?_
        refine v_goto C d_Mod_changed_33 12 (by decide) ?_
        exact ih (k + 1) _ (by omega) (by omega) (fun j hj => (Nat.lt_or_eq_of_le (Nat.le_of_lt_succ hj)).elim (fun z => (va_up_ne g _ (Nat.ne_of_lt z)).trans (hg j z)) (fun z => by rw [z]; exact va_up_self g k _))
  exact lp 9 0 sl (by omega) (by omega) lt_0

set_option maxHeartbeats 800000 in
set_option maxRecDepth 20000 in
theorem c_Mod_add (l : Launch) (D : va_G) (kA : Nat → ClassId) (h : Nat) (a : Nat → Nat) (R : Nat → Int32) (sz ch : Nat) (op sl mk : Nat → Nat) (pt : Nat → Int32) (pp : Nat → Nat) (mt : Nat → Int32) (sp : Nat → Nat) (me : Nat) (LL : Nat → List Nat) (vs vp vo : Int32) (hLI : LI LL) (hR : ∀ t, t < 3 → rowOK R t (LL t)) (hsz : sz = (LL 0).length) (hL : (LL 0).length ≤ 600) (hop : ∀ j, j < 8 → op j = 0 ∨ op j = 1) : Ct l D kA 4 y_Mod_add b_Mod_add 8 (some .int) [.ref h, .int vs, .int vp, .int vo] (mw kA h a R sz ch op sl mk pt pp mt sp me) (pI fun x w => (ec 0 vs vp vo ∈ LL 0 ∧ x = 0 ∧ w = (mw kA h a R sz ch op sl mk pt pp mt sp me)) ∨ (ec 0 vs vp vo ∉ LL 0 ∧ x = 1 ∧ ∃ (R' : Nat → Int32) (sl' : Nat → Nat) (LL' : Nat → List Nat), w = (mw kA h a R' (sz + 1) (ch + 1) op sl' mk pt pp mt sp me) ∧ (∀ j, j < 8 → sl' j = op j) ∧ ∀ t, t < 3 → rowOK R' t (LL' t) ∧ Ins (ec t vs vp vo) (LL t) (LL' t))) := by
  refine ct_of (by decide) (Nat.le_of_ble_eq_true rfl) rfl ?_
  intro pg en s0 m0 args below meth cod C
  have hl0 := hLI.1 0 (by decide)
  have hlt := fun t ht => (hLI.1 t ht).2.2
  refine v_aload_n C d_Mod_add_0 rfl ?_
  refine v_iload_n C d_Mod_add_1 rfl ?_
  refine v_iload_n C d_Mod_add_2 rfl ?_
  refine v_iload_n C d_Mod_add_3 rfl ?_
  refine v_cI C (As := [.int vs, .int vp, .int vo]) (st := []) (c_Mod_holds l D kA h a R sz ch op sl mk pt pp mt sp me (LL 0) vs vp vo (by omega) (hR 0 (by decide)) hl0.2.1 hl0.1 hsz) cv_Mod_holds ml_Mod_58 d_Mod_add_4 ⟨by omega, by decide⟩ mw_rcv ⟨rfl, rfl⟩ rfl ?_
  rintro _ _ ⟨rfl, rfl⟩
  rcases Classical.em (ec 0 vs vp vo ∈ LL 0) with hm | hm
  · rw [if_pos hm]
    refine v_if_eqR C d_Mod_add_7 12 (by decide) (fun c0 => False.elim (by exact absurd c0 (by decide))) (fun c0 => ?_)
    refine v_iconst C d_Mod_add_10 (nI 0) (by decide) ?_
    exact v_iret C rfl d_Mod_add_11 (⟨_, rfl, Or.inl ⟨hm, by decide, rfl⟩⟩)
  · rw [if_neg hm]
    refine v_if_eqR C d_Mod_add_7 12 (by decide) (fun c0 => ?_) (fun c0 => False.elim (by exact c0 rfl))
    refine v_aload_n C d_Mod_add_12 rfl ?_
    refine v_getf C i_Mod (ci := 3) rfl 1 (by decide) (List.mem_of_getElem? (i := 0) rfl) fl_Mod_35 d_Mod_add_13 (.int (nI sz)) rfl ?_
    refine v_sipush C d_Mod_add_16 (nI 700) (by decide) ?_
    refine v_icmp_ne C d_Mod_add_19 25 (by decide) (by omega) (by omega) (fun c7 => ?_) (fun c7 => False.elim (by omega))
    refine v_iconst C d_Mod_add_25 (nI 0) (by decide) ?_
    refine v_istore C d_Mod_add_26 ⟨Nat.le_of_ble_eq_true rfl, Nat.le_of_ble_eq_true rfl⟩ [.ref h, .int vs, .int vp, .int vo, .int (nI 0)] rfl ?_
    have hnm : ∀ t, t < 3 → ec t vs vp vo ∉ LL t := fun t ht z => hm ((hLI.2 t vs vp vo ht).mp z)
    have lp : ∀ (t9 : Nat) (t : Nat) (f : Nat → Int32), 3 - t < t9 → t ≤ 3 → (∀ u, u < 3 → rowOK f u (if u < t then insL (LL u) (ec u vs vp vo) else LL u)) → V pg l en (rmk 4) s0 m0 args below meth cod D (qA (mw kA h a R sz ch op sl mk pt pp mt sp me)) 8 0 0 (MQ below (QC D (mw kA h a R sz ch op sl mk pt pp mt sp me) (pI fun x w => (ec 0 vs vp vo ∈ LL 0 ∧ x = 0 ∧ w = (mw kA h a R sz ch op sl mk pt pp mt sp me)) ∨ (ec 0 vs vp vo ∉ LL 0 ∧ x = 1 ∧ ∃ (R' : Nat → Int32) (sl' : Nat → Nat) (LL' : Nat → List Nat), w = (mw kA h a R' (sz + 1) (ch + 1) op sl' mk pt pp mt sp me) ∧ (∀ j, j < 8 → sl' j = op j) ∧ ∀ t, t < 3 → rowOK R' t (LL' t) ∧ Ins (ec t vs vp vo) (LL t) (LL' t)))) args s0 0 0 (qA (mw kA h a R sz ch op sl mk pt pp mt sp me))) 28 [.ref h, .int vs, .int vp, .int vo, .int (nI t)] [] (mw kA h a f sz ch op sl mk pt pp mt sp me) := by
      intro t9
      induction t9 with
      | zero => intro t f ht; omega
      | succ t9 ih =>
        intro t f ht ht2 hf
        refine v_iload C d_Mod_add_28 rfl ?_
        refine v_iconst C d_Mod_add_30 (nI 3) (by decide) ?_
        refine v_icmp_ge C d_Mod_add_31 149 (by decide) (by omega) (by omega) (fun ct => ?_) (fun ct => ?_)
        · obtain rfl : t = 3 := by omega
          refine v_aload_n C d_Mod_add_149 rfl ?_
          refine v_dup C d_Mod_add_150 rfl ?_
          refine v_getf C i_Mod (ci := 3) rfl 1 (by decide) (List.mem_of_getElem? (i := 0) rfl) fl_Mod_35 d_Mod_add_151 (.int (nI sz)) rfl ?_
          refine v_iconst C d_Mod_add_154 (nI 1) (by decide) ?_
          refine v_iadd C d_Mod_add_155 ?_
          refine v_putf C i_Mod (ci := 3) (ws' := (mw kA h a f (sz + 1) ch op sl mk pt pp mt sp me)) t_Mod_ok n_Mod rfl 1 (by decide) ⟨0, rfl, rfl⟩ fl_Mod_35 d_Mod_add_156 rfl (rfl) (rfl) (Nat.le_of_ble_eq_true rfl) rfl ?_
          refine v_aload_n C d_Mod_add_159 rfl ?_
          refine v_cV C (As := []) (st := []) (c_Mod_changed l D kA h a f (sz + 1) ch op sl mk pt pp mt sp me hop) cv_Mod_changed ml_Mod_62 d_Mod_add_160 ⟨by omega, by decide⟩ mw_rcv ⟨rfl, rfl⟩ rfl ?_
          rintro _ ⟨sl1, hsl, rfl⟩
          refine v_iconst C d_Mod_add_163 (nI 1) (by decide) ?_
          exact v_iret C rfl d_Mod_add_164 (⟨_, rfl, Or.inr ⟨hm, rfl, f, sl1, fun t => insL (LL t) (ec t vs vp vo), rfl, hsl, fun t ht => ⟨by have := hf t ht; rw [if_pos ht] at this; exact this, insL_Ins (hLI.1 t ht).1 (hnm t ht)⟩⟩⟩)
        · have hlt1 := hlt t ct
          have hft := hf t ct
          rw [if_neg (Nat.lt_irrefl t)] at hft
          refine v_aload_n C d_Mod_add_34 rfl ?_
          refine v_iload C d_Mod_add_35 rfl ?_
          refine v_iload_n C d_Mod_add_37 rfl ?_
          refine v_iload_n C d_Mod_add_38 rfl ?_
          refine v_iload_n C d_Mod_add_39 rfl ?_
          refine v_cI C (As := [.int (nI t), .int vs, .int vp, .int vo]) (st := []) (c_Mod_placeOf l D kA h a f sz ch op sl mk pt pp mt sp me t (LL t) vs vp vo ct (by omega) hft (hLI.1 t ct).2.1 (by omega)) cv_Mod_placeOf ml_Mod_51 d_Mod_add_40 ⟨by omega, by decide⟩ mw_rcv ⟨rfl, rfl⟩ rfl ?_
          rintro _ _ ⟨j, rfl, hj, hj1, hj2, rfl⟩
          have hbj := (blw_at (hLI.1 t ct).1 hj hj1 hj2).1
          refine v_istore C d_Mod_add_43 ⟨Nat.le_of_ble_eq_true rfl, Nat.le_of_ble_eq_true rfl⟩ [.ref h, .int vs, .int vp, .int vo, .int (nI t), .int (nI j)] rfl ?_
          refine v_sipush C d_Mod_add_45 (nI 2101) (by decide) ?_
          refine v_iload C d_Mod_add_48 rfl ?_
          refine v_imul C d_Mod_add_50 ?_
          refine v_istore C d_Mod_add_51 ⟨Nat.le_of_ble_eq_true rfl, Nat.le_of_ble_eq_true rfl⟩ [.ref h, .int vs, .int vp, .int vo, .int (nI t), .int (nI j), .int (nI (2101 * t))] rfl ?_
          refine v_iconst C d_Mod_add_53 (nI 3) (by decide) ?_
          refine v_aload_n C d_Mod_add_54 rfl ?_
          refine v_getf C i_Mod (ci := 3) rfl 1 (by decide) (List.mem_of_getElem? (i := 0) rfl) fl_Mod_35 d_Mod_add_55 (.int (nI sz)) rfl ?_
          refine v_imul C d_Mod_add_58 ?_
          refine v_iconst C d_Mod_add_59 (nI 1) (by decide) ?_
          refine v_isubR C d_Mod_add_60 ?_
          refine v_istore C d_Mod_add_61 ⟨Nat.le_of_ble_eq_true rfl, Nat.le_of_ble_eq_true rfl⟩ [.ref h, .int vs, .int vp, .int vo, .int (nI t), .int (nI j), .int (nI (2101 * t)), .int (nI (3 * sz) - nI 1)] rfl ?_
          have lp2 : ∀ (t8 k : Nat) (g : Nat → Int32), k < t8 → 3 * j ≤ k → k ≤ 3 * sz → (∀ i, g i = if 2101 * t + k + 3 ≤ i ∧ i < 2101 * t + 3 * sz + 3 then f (i - 3) else f i) → V pg l en (rmk 4) s0 m0 args below meth cod D (qA (mw kA h a R sz ch op sl mk pt pp mt sp me)) 8 0 0 (MQ below (QC D (mw kA h a R sz ch op sl mk pt pp mt sp me) (pI fun x w => (ec 0 vs vp vo ∈ LL 0 ∧ x = 0 ∧ w = (mw kA h a R sz ch op sl mk pt pp mt sp me)) ∨ (ec 0 vs vp vo ∉ LL 0 ∧ x = 1 ∧ ∃ (R' : Nat → Int32) (sl' : Nat → Nat) (LL' : Nat → List Nat), w = (mw kA h a R' (sz + 1) (ch + 1) op sl' mk pt pp mt sp me) ∧ (∀ j, j < 8 → sl' j = op j) ∧ ∀ t, t < 3 → rowOK R' t (LL' t) ∧ Ins (ec t vs vp vo) (LL t) (LL' t)))) args s0 0 0 (qA (mw kA h a R sz ch op sl mk pt pp mt sp me))) 63 [.ref h, .int vs, .int vp, .int vo, .int (nI t), .int (nI j), .int (nI (2101 * t)), .int (nI k - nI 1)] [] (mw kA h a g sz ch op sl mk pt pp mt sp me) := by
            intro t8
            induction t8 with
            | zero => intro k g hk; omega
            | succ t8 ih2 =>
              intro k g hk hk1 hk2 hg
              refine v_iload C d_Mod_add_63 rfl ?_
              refine v_iconst C d_Mod_add_65 (nI 3) (by decide) ?_
              refine v_iload C d_Mod_add_66 rfl ?_
              refine v_imul C d_Mod_add_68 ?_
              refine v_icmp_ltR C d_Mod_add_69 100 (by decide) (fun ck => ?_) (fun ck => ?_)
              · rw [m1_lt (by omega) (by omega)] at ck
                obtain rfl : k = 3 * j := by omega
                refine v_aload_n C d_Mod_add_100 rfl ?_
                refine v_getf C i_Mod (ci := 3) rfl 0 (by decide) (List.mem_of_getElem? (i := 0) rfl) fl_Mod_7 d_Mod_add_101 (.ref (a 0)) rfl ?_
                refine v_iload C d_Mod_add_104 rfl ?_
                refine v_iconst C d_Mod_add_106 (nI 3) (by decide) ?_
                refine v_iload C d_Mod_add_107 rfl ?_
                refine v_imul C d_Mod_add_109 ?_
                refine v_iadd C d_Mod_add_110 ?_
                refine v_iload_n C d_Mod_add_111 rfl ?_
                refine v_iast C (ws' := (mw kA h a (upd g (2101 * t + 3 * j) vs) sz ch op sl mk pt pp mt sp me)) ⟨1, rfl, rfl⟩ (by omega) (by decide) d_Mod_add_112 (fun _ _ => rfl) ?_
                refine v_aload_n C d_Mod_add_113 rfl ?_
                refine v_getf C i_Mod (ci := 3) rfl 0 (by decide) (List.mem_of_getElem? (i := 0) rfl) fl_Mod_7 d_Mod_add_114 (.ref (a 0)) rfl ?_
                refine v_iload C d_Mod_add_117 rfl ?_
                refine v_iconst C d_Mod_add_119 (nI 3) (by decide) ?_
                refine v_iload C d_Mod_add_120 rfl ?_
                refine v_imul C d_Mod_add_122 ?_
                refine v_iadd C d_Mod_add_123 ?_
                refine v_iconst C d_Mod_add_124 (nI 1) (by decide) ?_
                refine v_iadd C d_Mod_add_125 ?_
                refine v_iload_n C d_Mod_add_126 rfl ?_
                refine v_iast C (ws' := (mw kA h a (upd (upd g (2101 * t + 3 * j) vs) (2101 * t + 3 * j + 1) vp) sz ch op sl mk pt pp mt sp me)) ⟨1, rfl, rfl⟩ (by omega) (by decide) d_Mod_add_127 (fun _ _ => rfl) ?_
                refine v_aload_n C d_Mod_add_128 rfl ?_
                refine v_getf C i_Mod (ci := 3) rfl 0 (by decide) (List.mem_of_getElem? (i := 0) rfl) fl_Mod_7 d_Mod_add_129 (.ref (a 0)) rfl ?_
                refine v_iload C d_Mod_add_132 rfl ?_
                refine v_iconst C d_Mod_add_134 (nI 3) (by decide) ?_
                refine v_iload C d_Mod_add_135 rfl ?_
                refine v_imul C d_Mod_add_137 ?_
                refine v_iadd C d_Mod_add_138 ?_
                refine v_iconst C d_Mod_add_139 (nI 2) (by decide) ?_
                refine v_iadd C d_Mod_add_140 ?_
                refine v_iload_n C d_Mod_add_141 rfl ?_
                refine v_iast C (ws' := (mw kA h a (upd (upd (upd g (2101 * t + 3 * j) vs) (2101 * t + 3 * j + 1) vp) (2101 * t + 3 * j + 2) vo) sz ch op sl mk pt pp mt sp me)) ⟨1, rfl, rfl⟩ (by omega) (by decide) d_Mod_add_142 (fun _ _ => rfl) ?_
                refine v_iinc C d_Mod_add_143 rfl ⟨Nat.le_of_ble_eq_true rfl, Nat.le_of_ble_eq_true rfl⟩ (nI (t + 1)) (inc1 _) [.ref h, .int vs, .int vp, .int vo, .int (nI (t + 1)), .int (nI j), .int (nI (2101 * t)), .int (nI (3 * j) - nI 1)] rfl ?_
                refine v_goto C d_Mod_add_146 28 (by decide) ?_
                refine v_less 5 rfl ?_
                refine ih (t + 1) _ (by omega) (by omega) (fun u hu => ?_)
                by_cases hut : u = t
                · subst hut
                  rw [if_pos (Nat.lt_succ_self u)]
                  refine row_ins hu hft (fun i i1 i2 => ?_) (fun i hi => ?_) (fun i i1 i2 => ?_)
                  · rw [hbj] at i2
                    rw [pk_un (by omega), pk_un (by omega), pk_un (by omega), hg, if_neg (by omega)]
                  · rw [hbj]
                    rcases (show i = 0 ∨ i = 1 ∨ i = 2 by omega) with rfl | rfl | rfl
                    · rw [pk_un (by omega), pk_un (by omega)]; exact pk_us
                    · rw [pk_un (by omega)]; exact pk_us
                    · exact pk_us
                  · rw [hbj] at i1
                    rw [pk_un (by omega), pk_un (by omega), pk_un (by omega), hg, if_pos (by omega)]
                · have h9 := hf u hu
                  have h8 := hlt u hu
                  have e9 : (if u < t + 1 then insL (LL u) (ec u vs vp vo) else LL u) = (if u < t then insL (LL u) (ec u vs vp vo) else LL u) := by
                    by_cases hz : u < t
                    · rw [if_pos hz, if_pos (by omega)]
                    · rw [if_neg hz, if_neg (by omega)]
                  rw [e9]
                  refine row_same h9 (fun i i1 i2 => ?_)
                  have h7 : (if u < t then insL (LL u) (ec u vs vp vo) else LL u).length ≤ 601 := by
                    split
                    · rw [insL_len]; omega
                    · omega
                  rw [pk_un (by omega), pk_un (by omega), pk_un (by omega), hg, if_neg (by omega)]
              · rw [m1_lt (by omega) (by omega)] at ck
                have hk0 : 0 < k := by omega
                refine v_aload_n C d_Mod_add_72 rfl ?_
                refine v_getf C i_Mod (ci := 3) rfl 0 (by decide) (List.mem_of_getElem? (i := 0) rfl) fl_Mod_7 d_Mod_add_73 (.ref (a 0)) rfl ?_
                refine v_iload C d_Mod_add_76 rfl ?_
                refine v_iload C d_Mod_add_78 rfl ?_
                refine v_iaddR C d_Mod_add_80 ?_
                refine v_top (y := nI (2101 * t + (k - 1))) (show ((nI (2101 * t)) + (nI k - nI 1)) = nI (2101 * t + (k - 1)) from m1_add hk0) ?_
                refine v_iconst C d_Mod_add_81 (nI 3) (by decide) ?_
                refine v_iadd C d_Mod_add_82 ?_
                refine v_aload_n C d_Mod_add_83 rfl ?_
                refine v_getf C i_Mod (ci := 3) rfl 0 (by decide) (List.mem_of_getElem? (i := 0) rfl) fl_Mod_7 d_Mod_add_84 (.ref (a 0)) rfl ?_
                refine v_iload C d_Mod_add_87 rfl ?_
                refine v_iload C d_Mod_add_89 rfl ?_
                refine v_iaddR C d_Mod_add_91 ?_
                refine v_top (y := nI (2101 * t + (k - 1))) (show ((nI (2101 * t)) + (nI k - nI 1)) = nI (2101 * t + (k - 1)) from m1_add hk0) ?_
                refine v_iald C (List.mem_of_getElem? (i := 1) rfl) (by omega) (by decide) d_Mod_add_92 (g (2101 * t + (k - 1))) (rfl) ?_
                refine v_iast C (ws' := (mw kA h a (upd g (2101 * t + (k - 1) + 3) (g (2101 * t + (k - 1)))) sz ch op sl mk pt pp mt sp me)) ⟨1, rfl, rfl⟩ (by omega) (by decide) d_Mod_add_93 (fun _ _ => rfl) ?_
                refine v_iinc C d_Mod_add_94 rfl ⟨Nat.le_of_ble_eq_true rfl, Nat.le_of_ble_eq_true rfl⟩ (nI (k - 1) - nI 1) (m1_dec hk0) [.ref h, .int vs, .int vp, .int vo, .int (nI t), .int (nI j), .int (nI (2101 * t)), .int (nI (k - 1) - nI 1)] rfl ?_
                refine v_goto C d_Mod_add_97 63 (by decide) ?_
                refine ih2 (k - 1) _ (by omega) (by omega) (by omega) (fun i => ?_)
                simp only [upd, hg]
                repeat' split
                all_goals first | rfl | (exfalso; omega) | (congr 1 <;> omega)
          exact lp2 (3 * sz + 1) (3 * sz) f (by omega) (by omega) (by omega) (fun i => by rw [if_neg (by omega)])
    exact lp 4 0 R (by omega) (by omega) (fun u hu => by rw [if_neg (by omega)]; exact hR u hu)

set_option maxHeartbeats 800000 in
set_option maxRecDepth 20000 in
theorem c_Mod_remove (l : Launch) (D : va_G) (kA : Nat → ClassId) (h : Nat) (a : Nat → Nat) (R : Nat → Int32) (sz ch : Nat) (op sl mk : Nat → Nat) (pt : Nat → Int32) (pp : Nat → Nat) (mt : Nat → Int32) (sp : Nat → Nat) (me : Nat) (LL : Nat → List Nat) (vs vp vo : Int32) (hLI : LI LL) (hR : ∀ t, t < 3 → rowOK R t (LL t)) (hsz : sz = (LL 0).length) (hL : (LL 0).length ≤ 600) (hop : ∀ j, j < 8 → op j = 0 ∨ op j = 1) : Ct l D kA 4 y_Mod_remove b_Mod_remove 8 (some .boolean) [.ref h, .int vs, .int vp, .int vo] (mw kA h a R sz ch op sl mk pt pp mt sp me) (pI fun x w => (ec 0 vs vp vo ∉ LL 0 ∧ x = 0 ∧ w = (mw kA h a R sz ch op sl mk pt pp mt sp me)) ∨ (ec 0 vs vp vo ∈ LL 0 ∧ x = 1 ∧ ∃ (R' : Nat → Int32) (sl' : Nat → Nat) (LL' : Nat → List Nat), w = (mw kA h a R' (sz - 1) (ch + 1) op sl' mk pt pp mt sp me) ∧ (∀ j, j < 8 → sl' j = op j) ∧ ∀ t, t < 3 → rowOK R' t (LL' t) ∧ Del (ec t vs vp vo) (LL t) (LL' t))) := by
  refine ct_of (by decide) (Nat.le_of_ble_eq_true rfl) rfl ?_
  intro pg en s0 m0 args below meth cod C
  have hl0 := hLI.1 0 (by decide)
  have hlt := fun t ht => (hLI.1 t ht).2.2
  refine v_aload_n C d_Mod_remove_0 rfl ?_
  refine v_iload_n C d_Mod_remove_1 rfl ?_
  refine v_iload_n C d_Mod_remove_2 rfl ?_
  refine v_iload_n C d_Mod_remove_3 rfl ?_
  refine v_cI C (As := [.int vs, .int vp, .int vo]) (st := []) (c_Mod_holds l D kA h a R sz ch op sl mk pt pp mt sp me (LL 0) vs vp vo (by omega) (hR 0 (by decide)) hl0.2.1 hl0.1 hsz) cv_Mod_holds ml_Mod_58 d_Mod_remove_4 ⟨by omega, by decide⟩ mw_rcv ⟨rfl, rfl⟩ rfl ?_
  rintro _ _ ⟨rfl, rfl⟩
  rcases Classical.em (ec 0 vs vp vo ∉ LL 0) with hm | hm
  · rw [if_neg hm]
    refine v_if_neR C d_Mod_remove_7 12 (by decide) (fun c0 => False.elim (by exact c0 rfl)) (fun c0 => ?_)
    refine v_iconst C d_Mod_remove_10 (nI 0) (by decide) ?_
    exact v_zret C rfl (by decide) d_Mod_remove_11 (⟨_, rfl, Or.inl ⟨hm, by decide, rfl⟩⟩)
  · replace hm := Classical.not_not.mp hm
    rw [if_pos hm]
    refine v_if_neR C d_Mod_remove_7 12 (by decide) (fun c0 => ?_) (fun c0 => False.elim (by exact absurd c0 (by decide)))
    have hmm : ∀ t, t < 3 → ec t vs vp vo ∈ LL t := fun t ht => (hLI.2 t vs vp vo ht).mpr hm
    have hpos : 0 < (LL 0).length := List.length_pos_of_mem hm
    refine v_iconst C d_Mod_remove_12 (nI 0) (by decide) ?_
    refine v_istore C d_Mod_remove_13 ⟨Nat.le_of_ble_eq_true rfl, Nat.le_of_ble_eq_true rfl⟩ [.ref h, .int vs, .int vp, .int vo, .int (nI 0)] rfl ?_
    have lp : ∀ (t9 : Nat) (t : Nat) (f : Nat → Int32), 3 - t < t9 → t ≤ 3 → (∀ u, u < 3 → rowOK f u (if u < t then delL (LL u) (ec u vs vp vo) else LL u)) → V pg l en (rmk 4) s0 m0 args below meth cod D (qA (mw kA h a R sz ch op sl mk pt pp mt sp me)) 8 0 0 (MQ below (QC D (mw kA h a R sz ch op sl mk pt pp mt sp me) (pI fun x w => (ec 0 vs vp vo ∉ LL 0 ∧ x = 0 ∧ w = (mw kA h a R sz ch op sl mk pt pp mt sp me)) ∨ (ec 0 vs vp vo ∈ LL 0 ∧ x = 1 ∧ ∃ (R' : Nat → Int32) (sl' : Nat → Nat) (LL' : Nat → List Nat), w = (mw kA h a R' (sz - 1) (ch + 1) op sl' mk pt pp mt sp me) ∧ (∀ j, j < 8 → sl' j = op j) ∧ ∀ t, t < 3 → rowOK R' t (LL' t) ∧ Del (ec t vs vp vo) (LL t) (LL' t)))) args s0 0 0 (qA (mw kA h a R sz ch op sl mk pt pp mt sp me))) 15 [.ref h, .int vs, .int vp, .int vo, .int (nI t)] [] (mw kA h a f sz ch op sl mk pt pp mt sp me) := by
      intro t9
      induction t9 with
      | zero => intro t f ht; omega
      | succ t9 ih =>
        intro t f ht ht2 hf
        refine v_iload C d_Mod_remove_15 rfl ?_
        refine v_iconst C d_Mod_remove_17 (nI 3) (by decide) ?_
        refine v_icmp_ge C d_Mod_remove_18 93 (by decide) (by omega) (by omega) (fun ct => ?_) (fun ct => ?_)
        · obtain rfl : t = 3 := by omega
          refine v_aload_n C d_Mod_remove_93 rfl ?_
          refine v_dup C d_Mod_remove_94 rfl ?_
          refine v_getf C i_Mod (ci := 3) rfl 1 (by decide) (List.mem_of_getElem? (i := 0) rfl) fl_Mod_35 d_Mod_remove_95 (.int (nI sz)) rfl ?_
          refine v_iconst C d_Mod_remove_98 (nI 1) (by decide) ?_
          refine v_isub C d_Mod_remove_99 (by omega) ?_
          refine v_putf C i_Mod (ci := 3) (ws' := (mw kA h a f (sz - 1) ch op sl mk pt pp mt sp me)) t_Mod_ok n_Mod rfl 1 (by decide) ⟨0, rfl, rfl⟩ fl_Mod_35 d_Mod_remove_100 rfl (rfl) (rfl) (Nat.le_of_ble_eq_true rfl) rfl ?_
          refine v_aload_n C d_Mod_remove_103 rfl ?_
          refine v_cV C (As := []) (st := []) (c_Mod_changed l D kA h a f (sz - 1) ch op sl mk pt pp mt sp me hop) cv_Mod_changed ml_Mod_62 d_Mod_remove_104 ⟨by omega, by decide⟩ mw_rcv ⟨rfl, rfl⟩ rfl ?_
          rintro _ ⟨sl1, hsl, rfl⟩
          refine v_iconst C d_Mod_remove_107 (nI 1) (by decide) ?_
          exact v_zret C rfl (by decide) d_Mod_remove_108 (⟨_, rfl, Or.inr ⟨hm, rfl, f, sl1, fun t => delL (LL t) (ec t vs vp vo), rfl, hsl, fun t ht => ⟨by have := hf t ht; rw [if_pos ht] at this; exact this, (delL_Del (hLI.1 t ht).1 (hmm t ht)).1⟩⟩⟩)
        · have hlt1 := hlt t ct
          have hft := hf t ct
          rw [if_neg (Nat.lt_irrefl t)] at hft
          have hbl := (delL_Del (hLI.1 t ct).1 (hmm t ct)).2
          refine v_aload_n C d_Mod_remove_21 rfl ?_
          refine v_iload C d_Mod_remove_22 rfl ?_
          refine v_iload_n C d_Mod_remove_24 rfl ?_
          refine v_iload_n C d_Mod_remove_25 rfl ?_
          refine v_iload_n C d_Mod_remove_26 rfl ?_
          refine v_cI C (As := [.int (nI t), .int vs, .int vp, .int vo]) (st := []) (c_Mod_placeOf l D kA h a f sz ch op sl mk pt pp mt sp me t (LL t) vs vp vo ct (by omega) hft (hLI.1 t ct).2.1 (by omega)) cv_Mod_placeOf ml_Mod_51 d_Mod_remove_27 ⟨by omega, by decide⟩ mw_rcv ⟨rfl, rfl⟩ rfl ?_
          rintro _ _ ⟨j, rfl, hj, hj1, hj2, rfl⟩
          have hbj := (blw_at (hLI.1 t ct).1 hj hj1 hj2).1
          refine v_istore C d_Mod_remove_30 ⟨Nat.le_of_ble_eq_true rfl, Nat.le_of_ble_eq_true rfl⟩ [.ref h, .int vs, .int vp, .int vo, .int (nI t), .int (nI j)] rfl ?_
          refine v_sipush C d_Mod_remove_32 (nI 2101) (by decide) ?_
          refine v_iload C d_Mod_remove_35 rfl ?_
          refine v_imul C d_Mod_remove_37 ?_
          refine v_istore C d_Mod_remove_38 ⟨Nat.le_of_ble_eq_true rfl, Nat.le_of_ble_eq_true rfl⟩ [.ref h, .int vs, .int vp, .int vo, .int (nI t), .int (nI j), .int (nI (2101 * t))] rfl ?_
          refine v_iconst C d_Mod_remove_40 (nI 3) (by decide) ?_
          refine v_iload C d_Mod_remove_41 rfl ?_
          refine v_imul C d_Mod_remove_43 ?_
          refine v_istore C d_Mod_remove_44 ⟨Nat.le_of_ble_eq_true rfl, Nat.le_of_ble_eq_true rfl⟩ [.ref h, .int vs, .int vp, .int vo, .int (nI t), .int (nI j), .int (nI (2101 * t)), .int (nI (3 * j))] rfl ?_
          have lp2 : ∀ (t8 k : Nat) (g : Nat → Int32), 3 * sz - k < t8 → 3 * j ≤ k → k ≤ 3 * sz - 3 → (∀ i, g i = if 2101 * t + 3 * j ≤ i ∧ i < 2101 * t + k then f (i + 3) else f i) → V pg l en (rmk 4) s0 m0 args below meth cod D (qA (mw kA h a R sz ch op sl mk pt pp mt sp me)) 8 0 0 (MQ below (QC D (mw kA h a R sz ch op sl mk pt pp mt sp me) (pI fun x w => (ec 0 vs vp vo ∉ LL 0 ∧ x = 0 ∧ w = (mw kA h a R sz ch op sl mk pt pp mt sp me)) ∨ (ec 0 vs vp vo ∈ LL 0 ∧ x = 1 ∧ ∃ (R' : Nat → Int32) (sl' : Nat → Nat) (LL' : Nat → List Nat), w = (mw kA h a R' (sz - 1) (ch + 1) op sl' mk pt pp mt sp me) ∧ (∀ j, j < 8 → sl' j = op j) ∧ ∀ t, t < 3 → rowOK R' t (LL' t) ∧ Del (ec t vs vp vo) (LL t) (LL' t)))) args s0 0 0 (qA (mw kA h a R sz ch op sl mk pt pp mt sp me))) 46 [.ref h, .int vs, .int vp, .int vo, .int (nI t), .int (nI j), .int (nI (2101 * t)), .int (nI k)] [] (mw kA h a g sz ch op sl mk pt pp mt sp me) := by
            intro t8
            induction t8 with
            | zero => intro k g hk; omega
            | succ t8 ih2 =>
              intro k g hk hk1 hk2 hg
              refine v_iload C d_Mod_remove_46 rfl ?_
              refine v_iconst C d_Mod_remove_48 (nI 3) (by decide) ?_
              refine v_aload_n C d_Mod_remove_49 rfl ?_
              refine v_getf C i_Mod (ci := 3) rfl 1 (by decide) (List.mem_of_getElem? (i := 0) rfl) fl_Mod_35 d_Mod_remove_50 (.int (nI sz)) rfl ?_
              refine v_imul C d_Mod_remove_53 ?_
              refine v_iconst C d_Mod_remove_54 (nI 3) (by decide) ?_
              refine v_isub C d_Mod_remove_55 (by omega) ?_
              refine v_icmp_ge C d_Mod_remove_56 87 (by decide) (by omega) (by omega) (fun ck => ?_) (fun ck => ?_)
              · obtain rfl : k = 3 * sz - 3 := by omega
                refine v_iinc C d_Mod_remove_87 rfl ⟨Nat.le_of_ble_eq_true rfl, Nat.le_of_ble_eq_true rfl⟩ (nI (t + 1)) (inc1 _) [.ref h, .int vs, .int vp, .int vo, .int (nI (t + 1)), .int (nI j), .int (nI (2101 * t)), .int (nI (3 * sz - 3))] rfl ?_
                refine v_goto C d_Mod_remove_90 15 (by decide) ?_
                refine v_less 5 rfl ?_
                refine ih (t + 1) _ (by omega) (by omega) (fun u hu => ?_)
                by_cases hut : u = t
                · subst hut
                  rw [if_pos (Nat.lt_succ_self u)]
                  refine row_del hbl hft (fun i i1 i2 => ?_) (fun i i1 i2 => ?_)
                  · rw [hbj] at i2
                    rw [hg, if_neg (by omega)]
                  · rw [hbj] at i1
                    rw [hg, if_pos (by omega)]
                · have h9 := hf u hu
                  have h8 := hlt u hu
                  have e9 : (if u < t + 1 then delL (LL u) (ec u vs vp vo) else LL u) = (if u < t then delL (LL u) (ec u vs vp vo) else LL u) := by
                    by_cases hz : u < t
                    · rw [if_pos hz, if_pos (by omega)]
                    · rw [if_neg hz, if_neg (by omega)]
                  rw [e9]
                  refine row_same h9 (fun i i1 i2 => ?_)
                  have h7 : (if u < t then delL (LL u) (ec u vs vp vo) else LL u).length ≤ 601 := by
                    split
                    · rw [delL_len (delL_Del (hLI.1 u hu).1 (hmm u hu)).2]; omega
                    · omega
                  rw [hg, if_neg (by omega)]
              · refine v_aload_n C d_Mod_remove_59 rfl ?_
                refine v_getf C i_Mod (ci := 3) rfl 0 (by decide) (List.mem_of_getElem? (i := 0) rfl) fl_Mod_7 d_Mod_remove_60 (.ref (a 0)) rfl ?_
                refine v_iload C d_Mod_remove_63 rfl ?_
                refine v_iload C d_Mod_remove_65 rfl ?_
                refine v_iadd C d_Mod_remove_67 ?_
                refine v_aload_n C d_Mod_remove_68 rfl ?_
                refine v_getf C i_Mod (ci := 3) rfl 0 (by decide) (List.mem_of_getElem? (i := 0) rfl) fl_Mod_7 d_Mod_remove_69 (.ref (a 0)) rfl ?_
                refine v_iload C d_Mod_remove_72 rfl ?_
                refine v_iload C d_Mod_remove_74 rfl ?_
                refine v_iadd C d_Mod_remove_76 ?_
                refine v_iconst C d_Mod_remove_77 (nI 3) (by decide) ?_
                refine v_iadd C d_Mod_remove_78 ?_
                refine v_iald C (List.mem_of_getElem? (i := 1) rfl) (by omega) (by decide) d_Mod_remove_79 (g (((2101 * t) + k) + 3)) (rfl) ?_
                refine v_iast C (ws' := (mw kA h a (upd g (2101 * t + k) (g (2101 * t + k + 3))) sz ch op sl mk pt pp mt sp me)) ⟨1, rfl, rfl⟩ (by omega) (by decide) d_Mod_remove_80 (fun _ _ => rfl) ?_
                refine v_iinc C d_Mod_remove_81 rfl ⟨Nat.le_of_ble_eq_true rfl, Nat.le_of_ble_eq_true rfl⟩ (nI (k + 1)) (inc1 _) [.ref h, .int vs, .int vp, .int vo, .int (nI t), .int (nI j), .int (nI (2101 * t)), .int (nI (k + 1))] rfl ?_
                refine v_goto C d_Mod_remove_84 46 (by decide) ?_
                refine ih2 (k + 1) _ (by omega) (by omega) (by omega) (fun i => ?_)
                simp only [upd, hg]
                repeat' split
                all_goals first | rfl | (exfalso; omega) | (congr 1 <;> omega)
          exact lp2 (3 * sz + 1) (3 * j) f (by omega) (by omega) (by omega) (fun i => by rw [if_neg (by omega)])
    exact lp 4 0 R (by omega) (by omega) (fun u hu => by rw [if_neg (by omega)]; exact hR u hu)
