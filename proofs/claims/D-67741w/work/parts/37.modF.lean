/-! ways: what can be come to, and how far -/
abbrev Bf : Type := List (Int32 × Nat)
def bAdd (M : Bf) (v : Int32) (d : Nat) : Bf := if v ∈ M.map Prod.fst then M else M ++ [(v, d)]
def bSt (p a : Int32) (d : Nat) (M : Bf) (x : Nat) : Bf := if dc x 1 = p ∧ dc x 0 = a then bAdd M (dc x 2) d else M
def bIn (L : List Nat) (p a : Int32) (d : Nat) (M : Bf) : Bf := L.foldl (bSt p a d) M
def bg (M : Bf) (k : Nat) : Int32 × Nat := M.getD k (0, 0)
def bW (L : List Nat) (p : Int32) : Nat → Nat → Bf → Bf
  | 0, _, M => M
  | f + 1, k, M => if k < M.length then bW L p f (k + 1) (bIn L p (bg M k).1 ((bg M k).2 + 1) M) else M
def bAll (L : List Nat) (p from_ : Int32) : Bf := bW L p 1000 0 [(from_, 0)]
/-- the arrays hold M -/
def bR (mt : Nat → Int32) (sp : Nat → Nat) (M : Bf) : Prop := ∀ j, j < M.length → mt j = (bg M j).1 ∧ sp j = (bg M j).2
/-- nothing twice, nothing from elsewhere -/
def bOK (L : List Nat) (fr : Int32) (M : Bf) : Prop := (M.map Prod.fst).Nodup ∧ ∀ v ∈ M.map Prod.fst, v = fr ∨ v ∈ L.map (fun x => dc x 2)
theorem nodup_sub {α : Type} : ∀ (l l' : List α), l.Nodup → (∀ x ∈ l, x ∈ l') → l.length ≤ l'.length
  | [], _, _, _ => Nat.zero_le _
  | x :: r, l', h, hs => by
    obtain ⟨h1, h2⟩ := List.nodup_cons.mp h
    obtain ⟨A, B, rfl⟩ := List.append_of_mem (hs x List.mem_cons_self)
    have := nodup_sub r (A ++ B) h2 (fun y hy => by
      have hy' := hs y (List.mem_cons_of_mem _ hy)
      rcases List.mem_append.mp hy' with z | z
      · exact List.mem_append_left _ z
      · rcases List.mem_cons.mp z with rfl | z
        · exact absurd hy h1
        · exact List.mem_append_right _ z)
    simp at this ⊢
    omega
theorem bOK.len {L : List Nat} {fr : Int32} {M : Bf} (h : bOK L fr M) : M.length ≤ L.length + 1 := by
  have := nodup_sub _ (fr :: L.map (fun x => dc x 2)) h.1 (fun v hv => by
    rcases h.2 v hv with rfl | z
    · exact List.mem_cons_self
    · exact List.mem_cons_of_mem _ z)
  simpa using this
theorem bOK.add {L : List Nat} {fr : Int32} {M : Bf} (h : bOK L fr M) {x : Nat} (hx : x ∈ L) (d : Nat) : bOK L fr (bAdd M (dc x 2) d) := by
  unfold bAdd
  split
  · exact h
  · next hn =>
    refine ⟨?_, fun v hv => ?_⟩
    · rw [List.map_append]
      refine List.nodup_append.mpr ⟨h.1, List.pairwise_singleton _ _, fun a ha b hb e => ?_⟩
      simp at hb
      subst hb
      exact hn (e ▸ ha)
    · rw [List.map_append] at hv
      rcases List.mem_append.mp hv with z | z
      · exact h.2 v z
      · simp at z
        exact Or.inr (List.mem_map.mpr ⟨x, hx, z.symm⟩)
theorem bOK.st {L : List Nat} {fr p a : Int32} {M : Bf} (h : bOK L fr M) {x : Nat} (hx : x ∈ L) (d : Nat) : bOK L fr (bSt p a d M x) := by
  unfold bSt
  split
  · exact h.add hx d
  · exact h
theorem bg_app {M : Bf} {q : Int32 × Nat} {j : Nat} (h : j < M.length) : bg (M ++ [q]) j = bg M j := by
  unfold bg
  rw [List.getD_eq_getElem?_getD, List.getD_eq_getElem?_getD, List.getElem?_append_left h]
theorem bg_last {M : Bf} {q : Int32 × Nat} : bg (M ++ [q]) M.length = q := by
  unfold bg
  simp
theorem bg_mem {M : Bf} {v : Int32} : v ∈ M.map Prod.fst ↔ ∃ k, k < M.length ∧ (bg M k).1 = v := by
  rw [List.mem_map]
  constructor
  · rintro ⟨q, hq, rfl⟩
    obtain ⟨k, hk, rfl⟩ := List.getElem_of_mem hq
    refine ⟨k, hk, ?_⟩
    unfold bg
    rw [List.getD_eq_getElem?_getD, List.getElem?_eq_getElem hk]; rfl
  · rintro ⟨k, hk, rfl⟩
    refine ⟨M[k], List.getElem_mem hk, ?_⟩
    unfold bg
    rw [List.getD_eq_getElem?_getD, List.getElem?_eq_getElem hk]; rfl
/-- it only grows behind -/
theorem bSt_len {p a : Int32} {d : Nat} {M : Bf} {x : Nat} : M.length ≤ (bSt p a d M x).length ∧ ∀ j, j < M.length → bg (bSt p a d M x) j = bg M j := by
  unfold bSt bAdd
  split
  · split
    · exact ⟨Nat.le_refl _, fun _ _ => rfl⟩
    · exact ⟨by simp, fun j hj => bg_app hj⟩
  · exact ⟨Nat.le_refl _, fun _ _ => rfl⟩
theorem fold_take {L : List Nat} {k : Nat} (h : k < L.length) (p a : Int32) (d : Nat) (M : Bf) : (L.take (k + 1)).foldl (bSt p a d) M = bSt p a d ((L.take k).foldl (bSt p a d) M) (lg L k) := by
  rw [take_s h, List.foldl_append]; rfl

set_option maxHeartbeats 800000 in
set_option maxRecDepth 20000 in
theorem c_Mod_find (l : Launch) (D : va_G) (kA : Nat → ClassId) (h : Nat) (a : Nat → Nat) (R : Nat → Int32) (sz ch : Nat) (op sl mk : Nat → Nat) (pt : Nat → Int32) (pp : Nat → Nat) (mt : Nat → Int32) (sp : Nat → Nat) (me : Nat) (v : Int32) (hme : me ≤ 1402) : Ct l D kA 0 y_Mod_find b_Mod_find 3 (some .int) [.ref h, .int v] (mw kA h a R sz ch op sl mk pt pp mt sp me) (pI fun x w => ((∃ k, k < me ∧ x = nI k ∧ mt k = v ∧ ∀ j, j < k → ¬ mt j = v) ∨ ((∀ j, j < me → ¬ mt j = v) ∧ x = -1)) ∧ w = (mw kA h a R sz ch op sl mk pt pp mt sp me)) := by
  refine ct_of (by decide) (Nat.le_of_ble_eq_true rfl) rfl ?_
  intro pg en s0 m0 args below meth cod C
  refine v_iconst C d_Mod_find_0 (nI 0) (by decide) ?_
  refine v_istore_n C d_Mod_find_1 ⟨Nat.le_of_ble_eq_true rfl, Nat.le_of_ble_eq_true rfl⟩ [.ref h, .int v, .int (nI 0)] rfl ?_
  have lp : ∀ (t8 : Nat) (k : Nat), me - k < t8 → k ≤ me → (∀ j, j < k → ¬ mt j = v) → V pg l en (rmk 0) s0 m0 args below meth cod D (qA (mw kA h a R sz ch op sl mk pt pp mt sp me)) 3 0 0 (MQ below (QC D (mw kA h a R sz ch op sl mk pt pp mt sp me) (pI fun x w => ((∃ k, k < me ∧ x = nI k ∧ mt k = v ∧ ∀ j, j < k → ¬ mt j = v) ∨ ((∀ j, j < me → ¬ mt j = v) ∧ x = -1)) ∧ w = (mw kA h a R sz ch op sl mk pt pp mt sp me))) args s0 0 0 (qA (mw kA h a R sz ch op sl mk pt pp mt sp me))) 2 [.ref h, .int v, .int (nI k)] [] (mw kA h a R sz ch op sl mk pt pp mt sp me) := by
    intro t8
    induction t8 with
    | zero => intro k hk; omega
    | succ t8 ih =>
      intro k hk hk2 hk3
      refine v_iload_n C d_Mod_find_2 rfl ?_
      refine v_aload_n C d_Mod_find_3 rfl ?_
      refine v_getf C i_Mod (ci := 3) rfl 10 (by decide) (List.mem_of_getElem? (i := 0) rfl) fl_Mod_87 d_Mod_find_4 (.int (nI me)) rfl ?_
      refine v_icmp_ge C d_Mod_find_7 28 (by decide) (by omega) (by omega) (fun ck => ?_) (fun ck => ?_)
      · refine v_iconst C d_Mod_find_28 (-1) (by decide) ?_
        exact v_iret C rfl d_Mod_find_29 (⟨_, rfl, Or.inr ⟨fun j hj => hk3 j (by omega), rfl⟩, rfl⟩)
      · refine v_aload_n C d_Mod_find_10 rfl ?_
        refine v_getf C i_Mod (ci := 3) rfl 8 (by decide) (List.mem_of_getElem? (i := 0) rfl) fl_Mod_29 d_Mod_find_11 (.ref (a 6)) rfl ?_
        refine v_iload_n C d_Mod_find_14 rfl ?_
        refine v_iald C (List.mem_of_getElem? (i := 7) rfl) (by omega) (by decide) d_Mod_find_15 (mt k) (rfl) ?_
        refine v_iload_n C d_Mod_find_16 rfl ?_
        refine v_icmp_neR C d_Mod_find_17 22 (by decide) (fun ce => ?_) (fun ce => ?_)
        · refine v_iinc C d_Mod_find_22 rfl ⟨Nat.le_of_ble_eq_true rfl, Nat.le_of_ble_eq_true rfl⟩ (nI (k + 1)) (inc1 _) [.ref h, .int v, .int (nI (k + 1))] rfl ?_
          refine v_goto C d_Mod_find_25 2 (by decide) ?_
          exact ih (k + 1) (by omega) (by omega) (lt_s hk3 ce)
        · refine v_iload_n C d_Mod_find_20 rfl ?_
          exact v_iret C rfl d_Mod_find_21 (⟨_, rfl, Or.inl ⟨k, ck, rfl, ce, hk3⟩, rfl⟩)
  exact lp (me + 1) 0 (by omega) (by omega) lt_0

set_option maxHeartbeats 800000 in
set_option maxRecDepth 20000 in
theorem c_Mod_go (l : Launch) (D : va_G) (kA : Nat → ClassId) (h : Nat) (a : Nat → Nat) (R : Nat → Int32) (sz ch : Nat) (op sl mk : Nat → Nat) (pt : Nat → Int32) (pp : Nat → Nat) (mt : Nat → Int32) (sp : Nat → Nat) (me : Nat) (LL : Nat → List Nat) (vp vf : Int32) (hLI : LI LL) (hR : ∀ t, t < 3 → rowOK R t (LL t)) (hsz : sz = (LL 0).length) (hL : (LL 0).length ≤ 600) : Ct l D kA 1 y_Mod_go b_Mod_go 5 none [.ref h, .int vp, .int vf] (mw kA h a R sz ch op sl mk pt pp mt sp me) (pV fun w => ∃ (mt' : Nat → Int32) (sp' : Nat → Nat), bR mt' sp' (bAll (LL 0) vp vf) ∧ w = (mw kA h a R sz ch op sl mk pt pp mt' sp' ((bAll (LL 0) vp vf).length))) := by
  refine ct_of (by decide) (Nat.le_of_ble_eq_true rfl) rfl ?_
  intro pg en s0 m0 args below meth cod C
  have hl0 := hLI.1 0 (by decide)
  refine v_aload_n C d_Mod_go_0 rfl ?_
  refine v_getf C i_Mod (ci := 3) rfl 8 (by decide) (List.mem_of_getElem? (i := 0) rfl) fl_Mod_29 d_Mod_go_1 (.ref (a 6)) rfl ?_
  refine v_iconst C d_Mod_go_4 (nI 0) (by decide) ?_
  refine v_iload_n C d_Mod_go_5 rfl ?_
  refine v_iast C (ws' := (mw kA h a R sz ch op sl mk pt pp (upd mt 0 vf) sp me)) ⟨7, rfl, rfl⟩ (by omega) (by decide) d_Mod_go_6 (fun _ _ => rfl) ?_
  refine v_aload_n C d_Mod_go_7 rfl ?_
  refine v_getf C i_Mod (ci := 3) rfl 9 (by decide) (List.mem_of_getElem? (i := 0) rfl) fl_Mod_32 d_Mod_go_8 (.ref (a 7)) rfl ?_
  refine v_iconst C d_Mod_go_11 (nI 0) (by decide) ?_
  refine v_iconst C d_Mod_go_12 (nI 0) (by decide) ?_
  refine v_iast C (ws' := (mw kA h a R sz ch op sl mk pt pp (upd mt 0 vf) (va_up sp 0 0) me)) ⟨8, rfl, rfl⟩ (by omega) (by decide) d_Mod_go_13 (fun j _ => by simp only [va_up]; split <;> rfl) ?_
  refine v_aload_n C d_Mod_go_14 rfl ?_
  refine v_iconst C d_Mod_go_15 (nI 1) (by decide) ?_
  refine v_putf C i_Mod (ci := 3) (ws' := (mw kA h a R sz ch op sl mk pt pp (upd mt 0 vf) (va_up sp 0 0) 1)) t_Mod_ok n_Mod rfl 10 (by decide) ⟨0, rfl, rfl⟩ fl_Mod_87 d_Mod_go_16 rfl (rfl) (rfl) (Nat.le_of_ble_eq_true rfl) rfl ?_
  refine v_iconst C d_Mod_go_19 (nI 0) (by decide) ?_
  refine v_istore_n C d_Mod_go_20 ⟨Nat.le_of_ble_eq_true rfl, Nat.le_of_ble_eq_true rfl⟩ [.ref h, .int vp, .int vf, .int (nI 0)] rfl ?_
  have lp : ∀ (t9 : Nat) (k : Nat) (f : Nat → Int32) (g : Nat → Nat) (M : Bf), 700 - k < t9 → bR f g M → bOK (LL 0) vf M → k ≤ M.length → bW (LL 0) vp (1000 - k) k M = bAll (LL 0) vp vf → V pg l en (rmk 1) s0 m0 args below meth cod D (qA (mw kA h a R sz ch op sl mk pt pp mt sp me)) 5 0 0 (MQ below (QC D (mw kA h a R sz ch op sl mk pt pp mt sp me) (pV fun w => ∃ (mt' : Nat → Int32) (sp' : Nat → Nat), bR mt' sp' (bAll (LL 0) vp vf) ∧ w = (mw kA h a R sz ch op sl mk pt pp mt' sp' ((bAll (LL 0) vp vf).length)))) args s0 0 0 (qA (mw kA h a R sz ch op sl mk pt pp mt sp me))) 21 [.ref h, .int vp, .int vf, .int (nI k)] [] (mw kA h a R sz ch op sl mk pt pp f g M.length) := by
    intro t9
    induction t9 with
    | zero => intro k f g M hk hb hok hk2; omega
    | succ t9 ih =>
      intro k f g M hk hb hok hk2 hF
      have hbl := hok.len
      refine v_iload_n C d_Mod_go_21 rfl ?_
      refine v_aload_n C d_Mod_go_22 rfl ?_
      refine v_getf C i_Mod (ci := 3) rfl 10 (by decide) (List.mem_of_getElem? (i := 0) rfl) fl_Mod_87 d_Mod_go_23 (.int (nI M.length)) rfl ?_
      refine v_icmp_ge C d_Mod_go_26 142 (by decide) (by omega) (by omega) (fun ck => ?_) (fun ck => ?_)
      · have e9 : bAll (LL 0) vp vf = M := by
          rw [← hF]
          obtain ⟨z, hz⟩ : ∃ z, 1000 - k = z + 1 := ⟨1000 - k - 1, by omega⟩
          rw [hz, bW, if_neg (by omega)]
        exact v_vret C rfl d_Mod_go_142 (⟨rfl, f, g, by rw [e9]; exact hb, by rw [e9]⟩)
      · refine v_iconst C d_Mod_go_29 (nI 0) (by decide) ?_
        refine v_istore C d_Mod_go_30 ⟨Nat.le_of_ble_eq_true rfl, Nat.le_of_ble_eq_true rfl⟩ [.ref h, .int vp, .int vf, .int (nI k), .int (nI 0)] rfl ?_
        obtain ⟨va, hva⟩ : ∃ z, z = (bg M k).1 := ⟨_, rfl⟩
        obtain ⟨vd, hvd⟩ : ∃ z, z = (bg M k).2 + 1 := ⟨_, rfl⟩
        have lp2 : ∀ (t8 : Nat) (j : Nat) (f2 : Nat → Int32) (g2 : Nat → Nat) (M2 : Bf), (LL 0).length - j < t8 → j ≤ (LL 0).length → M2 = ((LL 0).take j).foldl (bSt vp va vd) M → bR f2 g2 M2 → bOK (LL 0) vf M2 → (∀ i, i < M.length → bg M2 i = bg M i) → M.length ≤ M2.length → V pg l en (rmk 1) s0 m0 args below meth cod D (qA (mw kA h a R sz ch op sl mk pt pp mt sp me)) 5 0 0 (MQ below (QC D (mw kA h a R sz ch op sl mk pt pp mt sp me) (pV fun w => ∃ (mt' : Nat → Int32) (sp' : Nat → Nat), bR mt' sp' (bAll (LL 0) vp vf) ∧ w = (mw kA h a R sz ch op sl mk pt pp mt' sp' ((bAll (LL 0) vp vf).length)))) args s0 0 0 (qA (mw kA h a R sz ch op sl mk pt pp mt sp me))) 32 [.ref h, .int vp, .int vf, .int (nI k), .int (nI j)] [] (mw kA h a R sz ch op sl mk pt pp f2 g2 M2.length) := by
          intro t8
          induction t8 with
          | zero => intro j f2 g2 M2 hj; omega
          | succ t8 ih2 =>
            intro j f2 g2 M2 hj hj2 hM2 hb2 hok2 hgk hk9
            have hbl2 := hok2.len
            obtain ⟨b1, b2⟩ := hb2 k (by omega)
            rw [hgk k ck] at b1 b2
            refine v_iload C d_Mod_go_32 rfl ?_
            refine v_aload_n C d_Mod_go_34 rfl ?_
            refine v_getf C i_Mod (ci := 3) rfl 1 (by decide) (List.mem_of_getElem? (i := 0) rfl) fl_Mod_35 d_Mod_go_35 (.int (nI sz)) rfl ?_
            refine v_icmp_ge C d_Mod_go_38 136 (by decide) (by omega) (by omega) (fun cj => ?_) (fun cj => ?_)
            · obtain rfl : j = (LL 0).length := by omega
              refine v_iinc C d_Mod_go_136 rfl ⟨Nat.le_of_ble_eq_true rfl, Nat.le_of_ble_eq_true rfl⟩ (nI (k + 1)) (inc1 _) [.ref h, .int vp, .int vf, .int (nI (k + 1)), .int (nI ((LL 0).length))] rfl ?_
              refine v_goto C d_Mod_go_139 21 (by decide) ?_
              refine v_less 4 rfl ?_
              refine ih (k + 1) _ _ _ (by omega) hb2 hok2 (by omega) ?_
              rw [← hF]
              obtain ⟨z, hz⟩ : ∃ z, 1000 - k = z + 1 := ⟨1000 - k - 1, by omega⟩
              rw [hz, bW, if_pos ck, hM2, List.take_length, show 1000 - (k + 1) = z by omega, hva, hvd]
              rfl
            · have hft := fold_take (L := LL 0) (k := j) (by omega) vp va vd M
              rw [← hM2] at hft
              refine v_aload_n C d_Mod_go_41 rfl ?_
              refine v_iconst C d_Mod_go_42 (nI 0) (by decide) ?_
              refine v_iload C d_Mod_go_43 rfl ?_
              refine v_iconst C d_Mod_go_45 (nI 1) (by decide) ?_
              refine v_cI C (As := [.int (nI 0), .int (nI j), .int (nI 1)]) (st := []) (c_Mod_cell l D kA h a R sz ch op sl mk pt pp f2 g2 M2.length 0 j 1 (LL 0) (by decide) (by omega) (hR 0 (by decide)) (by omega) (by decide)) cv_Mod_cell ml_Mod_43 d_Mod_go_46 ⟨by omega, by decide⟩ mw_rcv ⟨rfl, rfl⟩ rfl ?_
              rintro _ _ ⟨rfl, rfl⟩
              refine v_iload_n C d_Mod_go_49 rfl ?_
              refine v_icmp_neR C d_Mod_go_50 130 (by decide) (fun c1 => ?_) (fun c1 => ?_)
              · have e8 : bSt vp va vd M2 (lg (LL 0) j) = M2 := by unfold bSt; rw [if_neg (fun z => c1 z.1)]
                rw [e8] at hft
                refine v_iinc C d_Mod_go_130 rfl ⟨Nat.le_of_ble_eq_true rfl, Nat.le_of_ble_eq_true rfl⟩ (nI (j + 1)) (inc1 _) [.ref h, .int vp, .int vf, .int (nI k), .int (nI (j + 1))] rfl ?_
                refine v_goto C d_Mod_go_133 32 (by decide) ?_
                exact ih2 (j + 1) f2 g2 M2 (by omega) (by omega) hft.symm hb2 hok2 hgk hk9
              · refine v_aload_n C d_Mod_go_53 rfl ?_
                refine v_iconst C d_Mod_go_54 (nI 0) (by decide) ?_
                refine v_iload C d_Mod_go_55 rfl ?_
                refine v_iconst C d_Mod_go_57 (nI 0) (by decide) ?_
                refine v_cI C (As := [.int (nI 0), .int (nI j), .int (nI 0)]) (st := []) (c_Mod_cell l D kA h a R sz ch op sl mk pt pp f2 g2 M2.length 0 j 0 (LL 0) (by decide) (by omega) (hR 0 (by decide)) (by omega) (by decide)) cv_Mod_cell ml_Mod_43 d_Mod_go_58 ⟨by omega, by decide⟩ mw_rcv ⟨rfl, rfl⟩ rfl ?_
                rintro _ _ ⟨rfl, rfl⟩
                refine v_aload_n C d_Mod_go_61 rfl ?_
                refine v_getf C i_Mod (ci := 3) rfl 8 (by decide) (List.mem_of_getElem? (i := 0) rfl) fl_Mod_29 d_Mod_go_62 (.ref (a 6)) rfl ?_
                refine v_iload_n C d_Mod_go_65 rfl ?_
                refine v_iald C (List.mem_of_getElem? (i := 7) rfl) (by omega) (by decide) d_Mod_go_66 va (by rw [b1, hva]) ?_
                refine v_icmp_neR C d_Mod_go_67 130 (by decide) (fun c2 => ?_) (fun c2 => ?_)
                · have e8 : bSt vp va vd M2 (lg (LL 0) j) = M2 := by unfold bSt; rw [if_neg (fun z => c2 z.2)]
                  rw [e8] at hft
                  refine v_iinc C d_Mod_go_130 rfl ⟨Nat.le_of_ble_eq_true rfl, Nat.le_of_ble_eq_true rfl⟩ (nI (j + 1)) (inc1 _) [.ref h, .int vp, .int vf, .int (nI k), .int (nI (j + 1))] rfl ?_
                  refine v_goto C d_Mod_go_133 32 (by decide) ?_
                  exact ih2 (j + 1) f2 g2 M2 (by omega) (by omega) hft.symm hb2 hok2 hgk hk9
                · refine v_aload_n C d_Mod_go_70 rfl ?_
                  refine v_aload_n C d_Mod_go_71 rfl ?_
                  refine v_iconst C d_Mod_go_72 (nI 0) (by decide) ?_
                  refine v_iload C d_Mod_go_73 rfl ?_
                  refine v_iconst C d_Mod_go_75 (nI 2) (by decide) ?_
                  refine v_cI C (As := [.int (nI 0), .int (nI j), .int (nI 2)]) (st := [.ref h]) (c_Mod_cell l D kA h a R sz ch op sl mk pt pp f2 g2 M2.length 0 j 2 (LL 0) (by decide) (by omega) (hR 0 (by decide)) (by omega) (by decide)) cv_Mod_cell ml_Mod_43 d_Mod_go_76 ⟨by omega, by decide⟩ mw_rcv ⟨rfl, rfl⟩ rfl ?_
                  rintro _ _ ⟨rfl, rfl⟩
                  refine v_cI C (As := [.int (dc (lg (LL 0) j) (po 0 2))]) (st := []) (c_Mod_find l D kA h a R sz ch op sl mk pt pp f2 g2 M2.length (dc (lg (LL 0) j) (po 0 2)) (by omega)) cv_Mod_find ml_Mod_90 d_Mod_go_79 ⟨by omega, by decide⟩ mw_rcv ⟨rfl, rfl⟩ rfl ?_
                  rintro x9 _ ⟨⟨k9, hk8, rfl, hk7, -⟩ | ⟨hno, rfl⟩, rfl⟩
                  · refine v_iconst C d_Mod_go_82 (-1) (by decide) ?_
                    refine v_icmp_neR C d_Mod_go_83 130 (by decide) (fun c3 => ?_) (fun c3 => False.elim (by exact nI_nm1 (by omega) c3))
                    have e8 : bSt vp va vd M2 (lg (LL 0) j) = M2 := by unfold bSt bAdd; rw [if_pos ⟨c1, c2⟩, if_pos (bg_mem.mpr ⟨k9, hk8, by rw [← (hb2 k9 hk8).1]; exact hk7⟩)]
                    rw [e8] at hft
                    refine v_iinc C d_Mod_go_130 rfl ⟨Nat.le_of_ble_eq_true rfl, Nat.le_of_ble_eq_true rfl⟩ (nI (j + 1)) (inc1 _) [.ref h, .int vp, .int vf, .int (nI k), .int (nI (j + 1))] rfl ?_
                    refine v_goto C d_Mod_go_133 32 (by decide) ?_
                    exact ih2 (j + 1) f2 g2 M2 (by omega) (by omega) hft.symm hb2 hok2 hgk hk9
                  · refine v_iconst C d_Mod_go_82 (-1) (by decide) ?_
                    refine v_icmp_neR C d_Mod_go_83 130 (by decide) (fun c3 => False.elim (by exact c3 rfl)) (fun c3 => ?_)
                    have hnm : dc (lg (LL 0) j) 2 ∉ M2.map Prod.fst := fun q => by
                      obtain ⟨k9, q1, q2⟩ := bg_mem.mp q
                      exact hno k9 q1 (by rw [(hb2 k9 q1).1]; exact q2)
                    have e8 : bSt vp va vd M2 (lg (LL 0) j) = M2 ++ [(dc (lg (LL 0) j) 2, vd)] := by unfold bSt bAdd; rw [if_pos ⟨c1, c2⟩, if_neg hnm]
                    have hok3 := hok2.st (p := vp) (a := va) (lg_mem (show j < (LL 0).length by omega)) vd
                    have hbl3 := hok3.len
                    rw [e8] at hft hok3 hbl3
                    simp only [List.length_append, List.length_singleton] at hbl3
                    refine v_aload_n C d_Mod_go_86 rfl ?_
                    refine v_getf C i_Mod (ci := 3) rfl 8 (by decide) (List.mem_of_getElem? (i := 0) rfl) fl_Mod_29 d_Mod_go_87 (.ref (a 6)) rfl ?_
                    refine v_aload_n C d_Mod_go_90 rfl ?_
                    refine v_getf C i_Mod (ci := 3) rfl 10 (by decide) (List.mem_of_getElem? (i := 0) rfl) fl_Mod_87 d_Mod_go_91 (.int (nI M2.length)) rfl ?_
                    refine v_aload_n C d_Mod_go_94 rfl ?_
                    refine v_iconst C d_Mod_go_95 (nI 0) (by decide) ?_
                    refine v_iload C d_Mod_go_96 rfl ?_
                    refine v_iconst C d_Mod_go_98 (nI 2) (by decide) ?_
                    refine v_cI C (As := [.int (nI 0), .int (nI j), .int (nI 2)]) (st := [.int (nI M2.length), .ref (a 6)]) (c_Mod_cell l D kA h a R sz ch op sl mk pt pp f2 g2 M2.length 0 j 2 (LL 0) (by decide) (by omega) (hR 0 (by decide)) (by omega) (by decide)) cv_Mod_cell ml_Mod_43 d_Mod_go_99 ⟨by omega, by decide⟩ mw_rcv ⟨rfl, rfl⟩ rfl ?_
                    rintro _ _ ⟨rfl, rfl⟩
                    refine v_iast C (ws' := (mw kA h a R sz ch op sl mk pt pp (upd f2 M2.length (dc (lg (LL 0) j) 2)) g2 M2.length)) ⟨7, rfl, rfl⟩ (by omega) (by decide) d_Mod_go_102 (fun _ _ => rfl) ?_
                    refine v_aload_n C d_Mod_go_103 rfl ?_
                    refine v_getf C i_Mod (ci := 3) rfl 9 (by decide) (List.mem_of_getElem? (i := 0) rfl) fl_Mod_32 d_Mod_go_104 (.ref (a 7)) rfl ?_
                    refine v_aload_n C d_Mod_go_107 rfl ?_
                    refine v_getf C i_Mod (ci := 3) rfl 10 (by decide) (List.mem_of_getElem? (i := 0) rfl) fl_Mod_87 d_Mod_go_108 (.int (nI M2.length)) rfl ?_
                    refine v_aload_n C d_Mod_go_111 rfl ?_
                    refine v_getf C i_Mod (ci := 3) rfl 9 (by decide) (List.mem_of_getElem? (i := 0) rfl) fl_Mod_32 d_Mod_go_112 (.ref (a 7)) rfl ?_
                    refine v_iload_n C d_Mod_go_115 rfl ?_
                    refine v_iald C (List.mem_of_getElem? (i := 8) rfl) (by omega) (by decide) d_Mod_go_116 (nI (g2 k)) (rfl) ?_
                    refine v_iconst C d_Mod_go_117 (nI 1) (by decide) ?_
                    refine v_iadd C d_Mod_go_118 ?_
                    rw [show g2 k + 1 = vd by rw [b2, hvd]]
                    refine v_iast C (ws' := (mw kA h a R sz ch op sl mk pt pp (upd f2 M2.length (dc (lg (LL 0) j) 2)) (va_up g2 M2.length vd) M2.length)) ⟨8, rfl, rfl⟩ (by omega) (by decide) d_Mod_go_119 (fun j _ => by simp only [va_up]; split <;> rfl) ?_
                    refine v_aload_n C d_Mod_go_120 rfl ?_
                    refine v_dup C d_Mod_go_121 rfl ?_
                    refine v_getf C i_Mod (ci := 3) rfl 10 (by decide) (List.mem_of_getElem? (i := 0) rfl) fl_Mod_87 d_Mod_go_122 (.int (nI M2.length)) rfl ?_
                    refine v_iconst C d_Mod_go_125 (nI 1) (by decide) ?_
                    refine v_iadd C d_Mod_go_126 ?_
                    refine v_putf C i_Mod (ci := 3) (ws' := (mw kA h a R sz ch op sl mk pt pp (upd f2 M2.length (dc (lg (LL 0) j) 2)) (va_up g2 M2.length vd) (M2.length + 1))) t_Mod_ok n_Mod rfl 10 (by decide) ⟨0, rfl, rfl⟩ fl_Mod_87 d_Mod_go_127 rfl (rfl) (rfl) (Nat.le_of_ble_eq_true rfl) rfl ?_
                    refine v_iinc C d_Mod_go_130 rfl ⟨Nat.le_of_ble_eq_true rfl, Nat.le_of_ble_eq_true rfl⟩ (nI (j + 1)) (inc1 _) [.ref h, .int vp, .int vf, .int (nI k), .int (nI (j + 1))] rfl ?_
                    refine v_goto C d_Mod_go_133 32 (by decide) ?_
                    have hlen3 : (M2 ++ [(dc (lg (LL 0) j) 2, vd)]).length = M2.length + 1 := by simp
                    rw [← hlen3]
                    refine ih2 (j + 1) _ _ _ (by omega) (by omega) hft.symm (fun i hi => ?_) hok3 (fun i hi => ?_) (by omega)
                    · rw [hlen3] at hi
                      by_cases hz : i = M2.length
                      · subst hz
                        rw [bg_last]
                        exact ⟨pk_us, va_up_self _ _ _⟩
                      · rw [bg_app (by omega), pk_un hz, va_up_ne _ _ hz]
                        exact hb2 i (by omega)
                    · rw [bg_app (by omega)]; exact hgk i hi
        exact lp2 ((LL 0).length + 1) 0 f g M (by omega) (by omega) rfl hb hok (fun _ _ => rfl) (Nat.le_refl _)
  have hb0 : bR (upd mt 0 vf) (va_up sp 0 0) [(vf, 0)] := fun j hj => by
    obtain rfl : j = 0 := by simpa using hj
    exact ⟨rfl, rfl⟩
  exact lp 701 0 _ _ [(vf, 0)] (by omega) hb0 ⟨List.pairwise_singleton _ _, fun v hv => Or.inl (by simpa using hv)⟩ (by simp) rfl

/-- the last list is still in order -/
theorem bIn_ok {L : List Nat} {fr p a : Int32} {d : Nat} : ∀ (l : List Nat) (M : Bf), (∀ x ∈ l, x ∈ L) → bOK L fr M → bOK L fr (l.foldl (bSt p a d) M)
  | [], _, _, h => h
  | x :: r, M, hs, h => bIn_ok r _ (fun y hy => hs y (List.mem_cons_of_mem _ hy)) (h.st (hs x List.mem_cons_self) d)
theorem bW_ok {L : List Nat} {fr p : Int32} : ∀ (f k : Nat) (M : Bf), bOK L fr M → bOK L fr (bW L p f k M)
  | 0, _, _, h => h
  | f + 1, k, M, h => by
    rw [bW]
    split
    · exact bW_ok f _ _ (bIn_ok L _ (fun _ hx => hx) h)
    · exact h
theorem bAll_len (L : List Nat) (p fr : Int32) : (bAll L p fr).length ≤ L.length + 1 := (bW_ok 1000 0 _ ⟨List.pairwise_singleton _ _, fun v hv => Or.inl (by simpa using hv)⟩ : bOK L fr (bAll L p fr)).len

set_option maxHeartbeats 800000 in
set_option maxRecDepth 20000 in
theorem c_Mod_far (l : Launch) (D : va_G) (kA : Nat → ClassId) (h : Nat) (a : Nat → Nat) (R : Nat → Int32) (sz ch : Nat) (op sl mk : Nat → Nat) (pt : Nat → Int32) (pp : Nat → Nat) (mt : Nat → Int32) (sp : Nat → Nat) (me : Nat) (LL : Nat → List Nat) (vp vf vt : Int32) (hLI : LI LL) (hR : ∀ t, t < 3 → rowOK R t (LL t)) (hsz : sz = (LL 0).length) (hL : (LL 0).length ≤ 600) : Ct l D kA 2 y_Mod_far b_Mod_far 5 (some .int) [.ref h, .int vp, .int vf, .int vt] (mw kA h a R sz ch op sl mk pt pp mt sp me) (pI fun x w => ((∃ k, k < (bAll (LL 0) vp vf).length ∧ (bg (bAll (LL 0) vp vf) k).1 = vt ∧ (∀ j, j < k → ¬ (bg (bAll (LL 0) vp vf) j).1 = vt) ∧ x = nI (bg (bAll (LL 0) vp vf) k).2) ∨ ((∀ j, j < (bAll (LL 0) vp vf).length → ¬ (bg (bAll (LL 0) vp vf) j).1 = vt) ∧ x = -1)) ∧ ∃ (mt' : Nat → Int32) (sp' : Nat → Nat) (me' : Nat), w = (mw kA h a R sz ch op sl mk pt pp mt' sp' me')) := by
  refine ct_of (by decide) (Nat.le_of_ble_eq_true rfl) rfl ?_
  intro pg en s0 m0 args below meth cod C
  refine v_aload_n C d_Mod_far_0 rfl ?_
  refine v_iload_n C d_Mod_far_1 rfl ?_
  refine v_iload_n C d_Mod_far_2 rfl ?_
  refine v_cV C (As := [.int vp, .int vf]) (st := []) (c_Mod_go l D kA h a R sz ch op sl mk pt pp mt sp me LL vp vf hLI hR hsz hL) cv_Mod_go ml_Mod_93 d_Mod_far_3 ⟨by omega, by decide⟩ mw_rcv ⟨rfl, rfl⟩ rfl ?_
  rintro _ ⟨f, g, hb, rfl⟩
  have hbl := bAll_len (LL 0) vp vf
  refine v_aload_n C d_Mod_far_6 rfl ?_
  refine v_iload_n C d_Mod_far_7 rfl ?_
  refine v_cI C (As := [.int vt]) (st := []) (c_Mod_find l D kA h a R sz ch op sl mk pt pp f g ((bAll (LL 0) vp vf).length) vt (by omega)) cv_Mod_find ml_Mod_90 d_Mod_far_8 ⟨by omega, by decide⟩ mw_rcv ⟨rfl, rfl⟩ rfl ?_
  rintro x9 _ ⟨⟨k9, hk8, rfl, hk7, hk6⟩ | ⟨hno, rfl⟩, rfl⟩
  · refine v_istore C d_Mod_far_11 ⟨Nat.le_of_ble_eq_true rfl, Nat.le_of_ble_eq_true rfl⟩ [.ref h, .int vp, .int vf, .int vt, .int (nI k9)] rfl ?_
    refine v_iload C d_Mod_far_13 rfl ?_
    refine v_iconst C d_Mod_far_15 (-1) (by decide) ?_
    refine v_icmp_neR C d_Mod_far_16 23 (by decide) (fun c3 => ?_) (fun c3 => False.elim (by exact nI_nm1 (by omega) c3))
    refine v_aload_n C d_Mod_far_23 rfl ?_
    refine v_getf C i_Mod (ci := 3) rfl 9 (by decide) (List.mem_of_getElem? (i := 0) rfl) fl_Mod_32 d_Mod_far_24 (.ref (a 7)) rfl ?_
    refine v_iload C d_Mod_far_27 rfl ?_
    refine v_iald C (List.mem_of_getElem? (i := 8) rfl) (by omega) (by decide) d_Mod_far_29 (nI (g k9)) (rfl) ?_
    rw [(hb k9 hk8).2]
    exact v_iret C rfl d_Mod_far_30 (⟨_, rfl, Or.inl ⟨k9, hk8, by rw [← (hb k9 hk8).1]; exact hk7, fun j hj => by rw [← (hb j (by omega)).1]; exact hk6 j hj, rfl⟩, f, g, _, rfl⟩)
  · refine v_istore C d_Mod_far_11 ⟨Nat.le_of_ble_eq_true rfl, Nat.le_of_ble_eq_true rfl⟩ [.ref h, .int vp, .int vf, .int vt, .int (-1)] rfl ?_
    refine v_iload C d_Mod_far_13 rfl ?_
    refine v_iconst C d_Mod_far_15 (-1) (by decide) ?_
    refine v_icmp_neR C d_Mod_far_16 23 (by decide) (fun c3 => False.elim (by exact c3 rfl)) (fun c3 => ?_)
    refine v_iconst C d_Mod_far_19 (-1) (by decide) ?_
    refine v_goto C d_Mod_far_20 30 (by decide) ?_
    exact v_iret C rfl d_Mod_far_30 (⟨_, rfl, Or.inr ⟨fun j hj => by rw [← (hb j hj).1]; exact hno j hj, rfl⟩, f, g, _, rfl⟩)

set_option maxHeartbeats 800000 in
set_option maxRecDepth 20000 in
theorem c_Mod_reached (l : Launch) (D : va_G) (kA : Nat → ClassId) (h : Nat) (a : Nat → Nat) (R : Nat → Int32) (sz ch : Nat) (op sl mk : Nat → Nat) (pt : Nat → Int32) (pp : Nat → Nat) (mt : Nat → Int32) (sp : Nat → Nat) (me : Nat) (LL : Nat → List Nat) (vp vf : Int32) (hLI : LI LL) (hR : ∀ t, t < 3 → rowOK R t (LL t)) (hsz : sz = (LL 0).length) (hL : (LL 0).length ≤ 600) : Ct l D kA 2 y_Mod_reached b_Mod_reached 3 (some .int) [.ref h, .int vp, .int vf] (mw kA h a R sz ch op sl mk pt pp mt sp me) (pI fun x w => x = nI (bAll (LL 0) vp vf).length ∧ ∃ (mt' : Nat → Int32) (sp' : Nat → Nat) (me' : Nat), w = (mw kA h a R sz ch op sl mk pt pp mt' sp' me')) := by
  refine ct_of (by decide) (Nat.le_of_ble_eq_true rfl) rfl ?_
  intro pg en s0 m0 args below meth cod C
  refine v_aload_n C d_Mod_reached_0 rfl ?_
  refine v_iload_n C d_Mod_reached_1 rfl ?_
  refine v_iload_n C d_Mod_reached_2 rfl ?_
  refine v_cV C (As := [.int vp, .int vf]) (st := []) (c_Mod_go l D kA h a R sz ch op sl mk pt pp mt sp me LL vp vf hLI hR hsz hL) cv_Mod_go ml_Mod_93 d_Mod_reached_3 ⟨by omega, by decide⟩ mw_rcv ⟨rfl, rfl⟩ rfl ?_
  rintro _ ⟨f, g, hb, rfl⟩
  refine v_aload_n C d_Mod_reached_6 rfl ?_
  refine v_getf C i_Mod (ci := 3) rfl 10 (by decide) (List.mem_of_getElem? (i := 0) rfl) fl_Mod_87 d_Mod_reached_7 (.int (nI ((bAll (LL 0) vp vf).length))) rfl ?_
  exact v_iret C rfl d_Mod_reached_10 (⟨_, rfl, rfl, f, g, _, rfl⟩)
