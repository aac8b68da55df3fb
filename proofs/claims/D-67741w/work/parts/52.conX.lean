def adX (h t c m f : Nat) (tr cr : Nat → Nat) (ta ca : Nat → Nat → Nat) : Nat → Nat → Nat
  | 0, 0 => h
  | 0, 1 => t
  | 0, 2 => c
  | 0, 3 => m
  | 0, _ => f
  | 1, k => tr k
  | 2, k => cr k
  | 3, k => ta 0 k
  | 4, k => ta 1 k
  | 5, k => ta 2 k
  | n + 6, k => ca n k
def fn3 {α : Type} (a b c : α) : Nat → α
  | 0 => a
  | 1 => b
  | _ => c
def fn10 {α : Type} (a b c d e f g h i j : α) : Nat → α
  | 0 => a
  | 1 => b
  | 2 => c
  | 3 => d
  | 4 => e
  | 5 => f
  | 6 => g
  | 7 => h
  | 8 => i
  | _ => j
theorem cellq_ext {cA : ClassId} {N : Nat} {f g : Nat → Option Nat} (h : ∀ j, j < N → g j = f j) : vp_cell cA (N, .inr (.inr (.inr (.inr f)))) = vp_cell cA (N, .inr (.inr (.inr (.inr g)))) := by
  rw [vp_cell_q, vp_cell_q]
  unfold arrV
  congr 1
  apply Array.ext
  · simp
  · intro i h1 h2
    simp at h1
    simp [h i h1]
theorem v_arrq {p : Program} {l : Launch} {e : Env} {R : Room} {s : State} {m : MethodId} {args : Array Value} {below : List Frame} {meth : Method} {c : Code} {D : va_G} {A : Nat → Prop} {nL cells slots : Nat} {Q : State → Prop} {pc : Nat} {vs st : List Value} {ws ws' : va_W} {a N : Nat} {cA : ClassId} {f g : Nat → Option Nat} (he : Wset ws a (.inl (cA, N, .inr (.inr (.inr (.inr f))))) (.inl (cA, N, .inr (.inr (.inr (.inr g))))) ws') (h : ∀ j, j < N → g j = f j) (kk : V p l e R s m args below meth c D A nL cells slots Q pc vs st ws') : V p l e R s m args below meth c D A nL cells slots Q pc vs st ws := fun H locs ls h1 h2 h3 h4 => by
  obtain ⟨q0, h0, rfl⟩ := he
  have hl := (List.getElem?_eq_some_iff.mp h0).1
  refine kk H locs ls (fun k q hk => ?_) (h2.set h0) h3 h4
  by_cases hq : q0 = k
  · subst hq
    rw [List.getElem?_set_self hl] at hk
    cases hk
    have := h1 q0 _ h0
    show H[a]? = some (vp_cell _ _)
    rw [← cellq_ext (f := f) (g := g) h]
    exact this
  · rw [List.getElem?_set_ne hq] at hk
    exact h1 k q hk
theorem cd_Cur : CD y_Cur_init b_Cur_init 1 none 0 := ⟨co_Cur_init, in_Cur, ⟨by decide +kernel, by decide +kernel⟩, by decide +kernel⟩
theorem cd_Tree : CD y_Tree_init b_Tree_init 2 none 0 := ⟨co_Tree_init, in_Tree, ⟨by decide +kernel, by decide +kernel⟩, by decide +kernel⟩
theorem cd_TT : CD y_TT_init b_TT_init 2 none 0 := ⟨co_TT_init, in_TT, ⟨by decide +kernel, by decide +kernel⟩, by decide +kernel⟩
theorem cd_Mod : CD y_Mod_init b_Mod_init 1 none 0 := ⟨co_Mod_init, in_Mod, ⟨by decide +kernel, by decide +kernel⟩, by decide +kernel⟩
theorem xw_perm {α : Type} (L a b t0 t1 t2 c0 c1 c2 c3 c4 c5 c6 c7 : List α) : (L ++ (a ++ (b ++ (t0 ++ (t1 ++ (t2 ++ (c0 ++ (c1 ++ (c2 ++ (c3 ++ (c4 ++ (c5 ++ (c6 ++ c7))))))))))))).Perm (L ++ ((t0 ++ (t1 ++ (t2 ++ []))) ++ (c0 ++ (c1 ++ (c2 ++ (c3 ++ (c4 ++ (c5 ++ (c6 ++ (c7 ++ (a ++ (b ++ [])))))))))))) := by
  refine List.Perm.append_left L ?_
  have h := List.perm_append_comm (l₁ := a ++ b) (l₂ := t0 ++ (t1 ++ (t2 ++ (c0 ++ (c1 ++ (c2 ++ (c3 ++ (c4 ++ (c5 ++ (c6 ++ c7))))))))))
  simpa only [List.append_assoc, List.append_nil] using h

set_option maxHeartbeats 800000 in
set_option maxRecDepth 20000 in
theorem c_TT_init (l : Launch) (D : va_G) (kA : Nat → ClassId) (h : Nat) (sz : Nat) : CtA l D kA rmX 61 66215 sz y_TT_init b_TT_init 2 none [.ref h] [(h, .inr (2, [.null, .null, .int 0, .int 0, .null, .null, .int 0, .null, .null]))] (pV fun w => ∃ ad : Nat → Nat → Nat, ad 0 0 = h ∧ w = xw kA ad 0 0 0 (fun _ => T0) (fun _ => C0) (fun _ => 0) (fun _ => 0)) := by
  refine ct_ofA (by decide) (Nat.le_of_ble_eq_true rfl) rfl ?_
  intro pg en s0 m0 args below meth cod C hO hnm0 hA
  have hnm : meth.name = "<init>" := hnm0
  refine v_aload_n C d_TT_init_0 rfl ?_
  refine v_obj C ml_TT_1 d_TT_init_1 ⟨(Nat.le_of_ble_eq_true rfl), (Nat.le_of_ble_eq_true rfl)⟩ rfl ?_
  refine v_aload_n C d_TT_init_4 rfl ?_
  refine v_iconst C d_TT_init_5 (nI 3) (by decide) ?_
  refine v_newq C hA (t0 := 2) (cn := R_Tree) rfl hO.1 cl_TT_7 (by decide) (Nat.le_of_ble_eq_true rfl) (Nat.le_of_ble_eq_true rfl) d_TT_init_6 (fun qt => ?_)
  refine v_putF C hnm i_TT (ci := 2) (ws' := [(h, .inr (2, [.ref qt, .null, .int 0, .int 0, .null, .null, .int 0, .null, .null])), (qt, .inl (kA 2, 3, .inr (.inr (.inr (.inr (fun _ => none))))))]) t_TT_ok n_TT rfl 0 (by decide) ⟨0, rfl, rfl⟩ fl_TT_9 d_TT_init_9 rfl rfl rfl rfl (Nat.le_of_ble_eq_true rfl) rfl ?_
  refine v_aload_n C d_TT_init_12 rfl ?_
  refine v_bipush C d_TT_init_13 (nI 8) (by decide) ?_
  refine v_newq C hA (t0 := 3) (cn := R_Cur) rfl hO.2 cl_TT_15 (by decide) (Nat.le_of_ble_eq_true rfl) (Nat.le_of_ble_eq_true rfl) d_TT_init_15 (fun qc => ?_)
  refine v_putF C hnm i_TT (ci := 2) (ws' := [(h, .inr (2, [.ref qt, .ref qc, .int 0, .int 0, .null, .null, .int 0, .null, .null])), (qt, .inl (kA 2, 3, .inr (.inr (.inr (.inr (fun _ => none)))))), (qc, .inl (kA 3, 8, .inr (.inr (.inr (.inr (fun _ => none))))))]) t_TT_ok n_TT rfl 1 (by decide) ⟨0, rfl, rfl⟩ fl_TT_17 d_TT_init_18 rfl rfl rfl rfl (Nat.le_of_ble_eq_true rfl) rfl ?_
  refine v_aload_n C d_TT_init_21 rfl ?_
  refine v_sipush C d_TT_init_22 (nI 1500) (by decide) ?_
  refine v_newi C hA (by decide) (Nat.le_of_ble_eq_true rfl) (Nat.le_of_ble_eq_true rfl) d_TT_init_25 (fun qm => ?_)
  refine v_putF C hnm i_TT (ci := 2) (ws' := [(h, .inr (2, [.ref qt, .ref qc, .int 0, .int 0, .ref qm, .null, .int 0, .null, .null])), (qt, .inl (kA 2, 3, .inr (.inr (.inr (.inr (fun _ => none)))))), (qc, .inl (kA 3, 8, .inr (.inr (.inr (.inr (fun _ => none)))))), (qm, .inl (kA 0, 1500, .inl (fun _ => 0)))]) t_TT_ok n_TT rfl 4 (by decide) ⟨0, rfl, rfl⟩ fl_TT_21 d_TT_init_27 rfl rfl rfl rfl (Nat.le_of_ble_eq_true rfl) rfl ?_
  refine v_aload_n C d_TT_init_30 rfl ?_
  refine v_sipush C d_TT_init_31 (nI 1500) (by decide) ?_
  refine v_newi C hA (by decide) (Nat.le_of_ble_eq_true rfl) (Nat.le_of_ble_eq_true rfl) d_TT_init_34 (fun qf => ?_)
  refine v_putF C hnm i_TT (ci := 2) (ws' := [(h, .inr (2, [.ref qt, .ref qc, .int 0, .int 0, .ref qm, .ref qf, .int 0, .null, .null])), (qt, .inl (kA 2, 3, .inr (.inr (.inr (.inr (fun _ => none)))))), (qc, .inl (kA 3, 8, .inr (.inr (.inr (.inr (fun _ => none)))))), (qm, .inl (kA 0, 1500, .inl (fun _ => 0))), (qf, .inl (kA 0, 1500, .inl (fun _ => 0)))]) t_TT_ok n_TT rfl 5 (by decide) ⟨0, rfl, rfl⟩ fl_TT_25 d_TT_init_36 rfl rfl rfl rfl (Nat.le_of_ble_eq_true rfl) rfl ?_
  refine v_aload_n C d_TT_init_39 rfl ?_
  refine v_new C hA i_Cur t_Cur_ok (ci := 1) rfl cl_TT_15 it_Cur in_Cur [.int 0, .int 0, .int 0, .int 0, .null, .int 0, .int 0, .int 0, .null] (by decide) (Nat.le_of_ble_eq_true rfl) (Nat.le_of_ble_eq_true rfl) d_TT_init_40 (fun w8 => ?_)
  refine v_dup C d_TT_init_43 rfl ?_
  refine v_callIN C hO hA (w0 := [(h, .inr (2, [.ref qt, .ref qc, .int 0, .int 0, .ref qm, .ref qf, .int 0, .null, .null])), (qt, .inl (kA 2, 3, .inr (.inr (.inr (.inr (fun _ => none)))))), (qc, .inl (kA 3, 8, .inr (.inr (.inr (.inr (fun _ => none)))))), (qm, .inl (kA 0, 1500, .inl (fun _ => 0))), (qf, .inl (kA 0, 1500, .inl (fun _ => 0)))]) (wc := [(w8, .inr (1, [.int 0, .int 0, .int 0, .int 0, .null, .int 0, .int 0, .int 0, .null]))]) (fun z => c_Cur_init l D kA w8 z) ⟨rfl, rfl, (by exact Nat.le_of_ble_eq_true rfl), (by exact Nat.le_of_ble_eq_true rfl)⟩ cd_Cur rfl im_Cur_init C.2.2.2.2.2.2.2.2.2.2 d_TT_init_44 rfl ⟨(by exact Nat.le_of_ble_eq_true rfl), (by exact Nat.le_of_ble_eq_true rfl)⟩ ?_
  rintro _ ⟨aw8, rfl⟩
  refine v_ws (ws' := ([(h, .inr (2, [.ref qt, .ref qc, .int 0, .int 0, .ref qm, .ref qf, .int 0, .null, .null])), (qt, .inl (kA 2, 3, .inr (.inr (.inr (.inr (fun _ => none)))))), (qc, .inl (kA 3, 8, .inr (.inr (.inr (.inr (fun _ => none)))))), (qm, .inl (kA 0, 1500, .inl (fun _ => 0))), (qf, .inl (kA 0, 1500, .inl (fun _ => 0)))] ++ cw kA w8 aw8 C0)) (by simp only [List.append_assoc]) ?_
  refine v_putF C hnm i_TT (ci := 2) (ws' := ([(h, .inr (2, [.ref qt, .ref qc, .int 0, .int 0, .ref qm, .ref qf, .int 0, .ref w8, .null])), (qt, .inl (kA 2, 3, .inr (.inr (.inr (.inr (fun _ => none)))))), (qc, .inl (kA 3, 8, .inr (.inr (.inr (.inr (fun _ => none)))))), (qm, .inl (kA 0, 1500, .inl (fun _ => 0))), (qf, .inl (kA 0, 1500, .inl (fun _ => 0)))] ++ cw kA w8 aw8 C0)) t_TT_ok n_TT rfl 7 (by decide) ⟨0, rfl, rfl⟩ fl_TT_29 d_TT_init_47 rfl rfl rfl rfl (Nat.le_of_ble_eq_true rfl) rfl ?_
  refine v_aload_n C d_TT_init_50 rfl ?_
  refine v_new C hA i_Cur t_Cur_ok (ci := 1) rfl cl_TT_15 it_Cur in_Cur [.int 0, .int 0, .int 0, .int 0, .null, .int 0, .int 0, .int 0, .null] (by decide) (Nat.le_of_ble_eq_true rfl) (Nat.le_of_ble_eq_true rfl) d_TT_init_51 (fun w9 => ?_)
  refine v_dup C d_TT_init_54 rfl ?_
  refine v_callIN C hO hA (w0 := ([(h, .inr (2, [.ref qt, .ref qc, .int 0, .int 0, .ref qm, .ref qf, .int 0, .ref w8, .null])), (qt, .inl (kA 2, 3, .inr (.inr (.inr (.inr (fun _ => none)))))), (qc, .inl (kA 3, 8, .inr (.inr (.inr (.inr (fun _ => none)))))), (qm, .inl (kA 0, 1500, .inl (fun _ => 0))), (qf, .inl (kA 0, 1500, .inl (fun _ => 0)))] ++ cw kA w8 aw8 C0)) (wc := [(w9, .inr (1, [.int 0, .int 0, .int 0, .int 0, .null, .int 0, .int 0, .int 0, .null]))]) (fun z => c_Cur_init l D kA w9 z) ⟨rfl, rfl, (by exact Nat.le_of_ble_eq_true rfl), (by exact Nat.le_of_ble_eq_true rfl)⟩ cd_Cur rfl im_Cur_init C.2.2.2.2.2.2.2.2.2.2 d_TT_init_55 rfl ⟨(by exact Nat.le_of_ble_eq_true rfl), (by exact Nat.le_of_ble_eq_true rfl)⟩ ?_
  rintro _ ⟨aw9, rfl⟩
  refine v_ws (ws' := ([(h, .inr (2, [.ref qt, .ref qc, .int 0, .int 0, .ref qm, .ref qf, .int 0, .ref w8, .null])), (qt, .inl (kA 2, 3, .inr (.inr (.inr (.inr (fun _ => none)))))), (qc, .inl (kA 3, 8, .inr (.inr (.inr (.inr (fun _ => none)))))), (qm, .inl (kA 0, 1500, .inl (fun _ => 0))), (qf, .inl (kA 0, 1500, .inl (fun _ => 0)))] ++ (cw kA w8 aw8 C0 ++ cw kA w9 aw9 C0))) (by simp only [List.append_assoc]) ?_
  refine v_putF C hnm i_TT (ci := 2) (ws' := ([(h, .inr (2, [.ref qt, .ref qc, .int 0, .int 0, .ref qm, .ref qf, .int 0, .ref w8, .ref w9])), (qt, .inl (kA 2, 3, .inr (.inr (.inr (.inr (fun _ => none)))))), (qc, .inl (kA 3, 8, .inr (.inr (.inr (.inr (fun _ => none)))))), (qm, .inl (kA 0, 1500, .inl (fun _ => 0))), (qf, .inl (kA 0, 1500, .inl (fun _ => 0)))] ++ (cw kA w8 aw8 C0 ++ cw kA w9 aw9 C0))) t_TT_ok n_TT rfl 8 (by decide) ⟨0, rfl, rfl⟩ fl_TT_33 d_TT_init_58 rfl rfl rfl rfl (Nat.le_of_ble_eq_true rfl) rfl ?_
  refine v_iconst C d_TT_init_61 (nI 0) (by decide) ?_
  refine v_istore_n C d_TT_init_62 ⟨(Nat.le_of_ble_eq_true rfl), (Nat.le_of_ble_eq_true rfl)⟩ [.ref h, .int (nI 0)] rfl ?_
  refine v_iload_n C d_TT_init_63 rfl ?_
  refine v_iconst C d_TT_init_64 (nI 3) (by decide) ?_
  refine v_icmp_ge C d_TT_init_65 87 (by decide) (by decide) (by decide) (fun z => absurd z (by decide)) (fun _ => ?_)
  refine v_aload_n C d_TT_init_68 rfl ?_
  refine v_getf C i_TT (ci := 2) rfl 0 (by decide) (List.mem_of_getElem? (i := 0) rfl) fl_TT_9 d_TT_init_69 (.ref qt) rfl ?_
  refine v_iload_n C d_TT_init_72 rfl ?_
  refine v_new C hA i_Tree t_Tree_ok (ci := 0) rfl cl_TT_7 it_Tree in_Tree [.null, .null, .null, .null, .null, .null, .int 0, .int 0, .null, .null, .int 0, .int 0] (by decide) (Nat.le_of_ble_eq_true rfl) (Nat.le_of_ble_eq_true rfl) d_TT_init_73 (fun t0 => ?_)
  refine v_dup C d_TT_init_76 rfl ?_
  refine v_callI C hO hA (w0 := ([(h, .inr (2, [.ref qt, .ref qc, .int 0, .int 0, .ref qm, .ref qf, .int 0, .ref w8, .ref w9])), (qt, .inl (kA 2, 3, .inr (.inr (.inr (.inr (fun _ => none)))))), (qc, .inl (kA 3, 8, .inr (.inr (.inr (.inr (fun _ => none)))))), (qm, .inl (kA 0, 1500, .inl (fun _ => 0))), (qf, .inl (kA 0, 1500, .inl (fun _ => 0)))] ++ (cw kA w8 aw8 C0 ++ cw kA w9 aw9 C0))) (wc := [(t0, .inr (0, [.null, .null, .null, .null, .null, .null, .int 0, .int 0, .null, .null, .int 0, .int 0]))]) (fun z => c_Tree_init l D kA t0 z) ⟨rfl, rfl, (by exact Nat.le_of_ble_eq_true rfl), (by exact Nat.le_of_ble_eq_true rfl)⟩ cd_Tree rfl im_Tree_init ml_TT_36 d_TT_init_77 rfl ⟨(by exact Nat.le_of_ble_eq_true rfl), (by exact Nat.le_of_ble_eq_true rfl)⟩ ?_
  rintro _ ⟨at0, rfl⟩
  refine v_ws (ws' := ([(h, .inr (2, [.ref qt, .ref qc, .int 0, .int 0, .ref qm, .ref qf, .int 0, .ref w8, .ref w9])), (qt, .inl (kA 2, 3, .inr (.inr (.inr (.inr (fun _ => none)))))), (qc, .inl (kA 3, 8, .inr (.inr (.inr (.inr (fun _ => none)))))), (qm, .inl (kA 0, 1500, .inl (fun _ => 0))), (qf, .inl (kA 0, 1500, .inl (fun _ => 0)))] ++ (cw kA w8 aw8 C0 ++ (cw kA w9 aw9 C0 ++ tws kA t0 at0 T0)))) (by simp only [List.append_assoc]) ?_
  refine v_aast C (t0 := 2) (r := (R_Tree, F_Tree, 12)) (ci := 0) (ws' := ([(h, .inr (2, [.ref qt, .ref qc, .int 0, .int 0, .ref qm, .ref qf, .int 0, .ref w8, .ref w9])), (qt, .inl (kA 2, 3, .inr (.inr (.inr (.inr (va_up (fun _ => none) 0 (some t0))))))), (qc, .inl (kA 3, 8, .inr (.inr (.inr (.inr (fun _ => none)))))), (qm, .inl (kA 0, 1500, .inl (fun _ => 0))), (qf, .inl (kA 0, 1500, .inl (fun _ => 0)))] ++ (cw kA w8 aw8 C0 ++ (cw kA w9 aw9 C0 ++ tws kA t0 at0 T0)))) ⟨1, rfl, rfl⟩ rfl (List.mem_append_right _ (List.mem_append_right _ (List.mem_append_right _ (List.mem_of_getElem? (i := 0) rfl)))) rfl (by decide) (by decide) d_TT_init_80 ?_
  refine v_iinc C d_TT_init_81 rfl ⟨(Nat.le_of_ble_eq_true rfl), (Nat.le_of_ble_eq_true rfl)⟩ (nI 1) (by decide) [.ref h, .int (nI 1)] rfl ?_
  refine v_goto C d_TT_init_84 63 (by decide) ?_
  refine v_iload_n C d_TT_init_63 rfl ?_
  refine v_iconst C d_TT_init_64 (nI 3) (by decide) ?_
  refine v_icmp_ge C d_TT_init_65 87 (by decide) (by decide) (by decide) (fun z => absurd z (by decide)) (fun _ => ?_)
  refine v_aload_n C d_TT_init_68 rfl ?_
  refine v_getf C i_TT (ci := 2) rfl 0 (by decide) (List.mem_of_getElem? (i := 0) rfl) fl_TT_9 d_TT_init_69 (.ref qt) rfl ?_
  refine v_iload_n C d_TT_init_72 rfl ?_
  refine v_new C hA i_Tree t_Tree_ok (ci := 0) rfl cl_TT_7 it_Tree in_Tree [.null, .null, .null, .null, .null, .null, .int 0, .int 0, .null, .null, .int 0, .int 0] (by decide) (Nat.le_of_ble_eq_true rfl) (Nat.le_of_ble_eq_true rfl) d_TT_init_73 (fun t1 => ?_)
  refine v_dup C d_TT_init_76 rfl ?_
  refine v_callI C hO hA (w0 := ([(h, .inr (2, [.ref qt, .ref qc, .int 0, .int 0, .ref qm, .ref qf, .int 0, .ref w8, .ref w9])), (qt, .inl (kA 2, 3, .inr (.inr (.inr (.inr (va_up (fun _ => none) 0 (some t0))))))), (qc, .inl (kA 3, 8, .inr (.inr (.inr (.inr (fun _ => none)))))), (qm, .inl (kA 0, 1500, .inl (fun _ => 0))), (qf, .inl (kA 0, 1500, .inl (fun _ => 0)))] ++ (cw kA w8 aw8 C0 ++ (cw kA w9 aw9 C0 ++ tws kA t0 at0 T0)))) (wc := [(t1, .inr (0, [.null, .null, .null, .null, .null, .null, .int 0, .int 0, .null, .null, .int 0, .int 0]))]) (fun z => c_Tree_init l D kA t1 z) ⟨rfl, rfl, (by exact Nat.le_of_ble_eq_true rfl), (by exact Nat.le_of_ble_eq_true rfl)⟩ cd_Tree rfl im_Tree_init ml_TT_36 d_TT_init_77 rfl ⟨(by exact Nat.le_of_ble_eq_true rfl), (by exact Nat.le_of_ble_eq_true rfl)⟩ ?_
  rintro _ ⟨at1, rfl⟩
  refine v_ws (ws' := ([(h, .inr (2, [.ref qt, .ref qc, .int 0, .int 0, .ref qm, .ref qf, .int 0, .ref w8, .ref w9])), (qt, .inl (kA 2, 3, .inr (.inr (.inr (.inr (va_up (fun _ => none) 0 (some t0))))))), (qc, .inl (kA 3, 8, .inr (.inr (.inr (.inr (fun _ => none)))))), (qm, .inl (kA 0, 1500, .inl (fun _ => 0))), (qf, .inl (kA 0, 1500, .inl (fun _ => 0)))] ++ (cw kA w8 aw8 C0 ++ (cw kA w9 aw9 C0 ++ (tws kA t0 at0 T0 ++ tws kA t1 at1 T0))))) (by simp only [List.append_assoc]) ?_
  refine v_aast C (t0 := 2) (r := (R_Tree, F_Tree, 12)) (ci := 0) (ws' := ([(h, .inr (2, [.ref qt, .ref qc, .int 0, .int 0, .ref qm, .ref qf, .int 0, .ref w8, .ref w9])), (qt, .inl (kA 2, 3, .inr (.inr (.inr (.inr (va_up (va_up (fun _ => none) 0 (some t0)) 1 (some t1))))))), (qc, .inl (kA 3, 8, .inr (.inr (.inr (.inr (fun _ => none)))))), (qm, .inl (kA 0, 1500, .inl (fun _ => 0))), (qf, .inl (kA 0, 1500, .inl (fun _ => 0)))] ++ (cw kA w8 aw8 C0 ++ (cw kA w9 aw9 C0 ++ (tws kA t0 at0 T0 ++ tws kA t1 at1 T0))))) ⟨1, rfl, rfl⟩ rfl (List.mem_append_right _ (List.mem_append_right _ (List.mem_append_right _ (List.mem_append_right _ (List.mem_of_getElem? (i := 0) rfl))))) rfl (by decide) (by decide) d_TT_init_80 ?_
  refine v_iinc C d_TT_init_81 rfl ⟨(Nat.le_of_ble_eq_true rfl), (Nat.le_of_ble_eq_true rfl)⟩ (nI 2) (by decide) [.ref h, .int (nI 2)] rfl ?_
  refine v_goto C d_TT_init_84 63 (by decide) ?_
  refine v_iload_n C d_TT_init_63 rfl ?_
  refine v_iconst C d_TT_init_64 (nI 3) (by decide) ?_
  refine v_icmp_ge C d_TT_init_65 87 (by decide) (by decide) (by decide) (fun z => absurd z (by decide)) (fun _ => ?_)
  refine v_aload_n C d_TT_init_68 rfl ?_
  refine v_getf C i_TT (ci := 2) rfl 0 (by decide) (List.mem_of_getElem? (i := 0) rfl) fl_TT_9 d_TT_init_69 (.ref qt) rfl ?_
  refine v_iload_n C d_TT_init_72 rfl ?_
  refine v_new C hA i_Tree t_Tree_ok (ci := 0) rfl cl_TT_7 it_Tree in_Tree [.null, .null, .null, .null, .null, .null, .int 0, .int 0, .null, .null, .int 0, .int 0] (by decide) (Nat.le_of_ble_eq_true rfl) (Nat.le_of_ble_eq_true rfl) d_TT_init_73 (fun t2 => ?_)
  refine v_dup C d_TT_init_76 rfl ?_
  refine v_callI C hO hA (w0 := ([(h, .inr (2, [.ref qt, .ref qc, .int 0, .int 0, .ref qm, .ref qf, .int 0, .ref w8, .ref w9])), (qt, .inl (kA 2, 3, .inr (.inr (.inr (.inr (va_up (va_up (fun _ => none) 0 (some t0)) 1 (some t1))))))), (qc, .inl (kA 3, 8, .inr (.inr (.inr (.inr (fun _ => none)))))), (qm, .inl (kA 0, 1500, .inl (fun _ => 0))), (qf, .inl (kA 0, 1500, .inl (fun _ => 0)))] ++ (cw kA w8 aw8 C0 ++ (cw kA w9 aw9 C0 ++ (tws kA t0 at0 T0 ++ tws kA t1 at1 T0))))) (wc := [(t2, .inr (0, [.null, .null, .null, .null, .null, .null, .int 0, .int 0, .null, .null, .int 0, .int 0]))]) (fun z => c_Tree_init l D kA t2 z) ⟨rfl, rfl, (by exact Nat.le_of_ble_eq_true rfl), (by exact Nat.le_of_ble_eq_true rfl)⟩ cd_Tree rfl im_Tree_init ml_TT_36 d_TT_init_77 rfl ⟨(by exact Nat.le_of_ble_eq_true rfl), (by exact Nat.le_of_ble_eq_true rfl)⟩ ?_
  rintro _ ⟨at2, rfl⟩
  refine v_ws (ws' := ([(h, .inr (2, [.ref qt, .ref qc, .int 0, .int 0, .ref qm, .ref qf, .int 0, .ref w8, .ref w9])), (qt, .inl (kA 2, 3, .inr (.inr (.inr (.inr (va_up (va_up (fun _ => none) 0 (some t0)) 1 (some t1))))))), (qc, .inl (kA 3, 8, .inr (.inr (.inr (.inr (fun _ => none)))))), (qm, .inl (kA 0, 1500, .inl (fun _ => 0))), (qf, .inl (kA 0, 1500, .inl (fun _ => 0)))] ++ (cw kA w8 aw8 C0 ++ (cw kA w9 aw9 C0 ++ (tws kA t0 at0 T0 ++ (tws kA t1 at1 T0 ++ tws kA t2 at2 T0)))))) (by simp only [List.append_assoc]) ?_
  refine v_aast C (t0 := 2) (r := (R_Tree, F_Tree, 12)) (ci := 0) (ws' := ([(h, .inr (2, [.ref qt, .ref qc, .int 0, .int 0, .ref qm, .ref qf, .int 0, .ref w8, .ref w9])), (qt, .inl (kA 2, 3, .inr (.inr (.inr (.inr (va_up (va_up (va_up (fun _ => none) 0 (some t0)) 1 (some t1)) 2 (some t2))))))), (qc, .inl (kA 3, 8, .inr (.inr (.inr (.inr (fun _ => none)))))), (qm, .inl (kA 0, 1500, .inl (fun _ => 0))), (qf, .inl (kA 0, 1500, .inl (fun _ => 0)))] ++ (cw kA w8 aw8 C0 ++ (cw kA w9 aw9 C0 ++ (tws kA t0 at0 T0 ++ (tws kA t1 at1 T0 ++ tws kA t2 at2 T0)))))) ⟨1, rfl, rfl⟩ rfl (List.mem_append_right _ (List.mem_append_right _ (List.mem_append_right _ (List.mem_append_right _ (List.mem_append_right _ (List.mem_of_getElem? (i := 0) rfl)))))) rfl (by decide) (by decide) d_TT_init_80 ?_
  refine v_iinc C d_TT_init_81 rfl ⟨(Nat.le_of_ble_eq_true rfl), (Nat.le_of_ble_eq_true rfl)⟩ (nI 3) (by decide) [.ref h, .int (nI 3)] rfl ?_
  refine v_goto C d_TT_init_84 63 (by decide) ?_
  refine v_iload_n C d_TT_init_63 rfl ?_
  refine v_iconst C d_TT_init_64 (nI 3) (by decide) ?_
  refine v_icmp_ge C d_TT_init_65 87 (by decide) (by decide) (by decide) (fun _ => ?_) (fun z => absurd z (by decide))
  refine v_iconst C d_TT_init_87 (nI 0) (by decide) ?_
  refine v_istore_n C d_TT_init_88 ⟨(Nat.le_of_ble_eq_true rfl), (Nat.le_of_ble_eq_true rfl)⟩ [.ref h, .int (nI 0)] rfl ?_
  refine v_iload_n C d_TT_init_89 rfl ?_
  refine v_bipush C d_TT_init_90 (nI 8) (by decide) ?_
  refine v_icmp_ge C d_TT_init_92 114 (by decide) (by decide) (by decide) (fun z => absurd z (by decide)) (fun _ => ?_)
  refine v_aload_n C d_TT_init_95 rfl ?_
  refine v_getf C i_TT (ci := 2) rfl 1 (by decide) (List.mem_of_getElem? (i := 0) rfl) fl_TT_17 d_TT_init_96 (.ref qc) rfl ?_
  refine v_iload_n C d_TT_init_99 rfl ?_
  refine v_new C hA i_Cur t_Cur_ok (ci := 1) rfl cl_TT_15 it_Cur in_Cur [.int 0, .int 0, .int 0, .int 0, .null, .int 0, .int 0, .int 0, .null] (by decide) (Nat.le_of_ble_eq_true rfl) (Nat.le_of_ble_eq_true rfl) d_TT_init_100 (fun w0 => ?_)
  refine v_dup C d_TT_init_103 rfl ?_
  refine v_callIN C hO hA (w0 := ([(h, .inr (2, [.ref qt, .ref qc, .int 0, .int 0, .ref qm, .ref qf, .int 0, .ref w8, .ref w9])), (qt, .inl (kA 2, 3, .inr (.inr (.inr (.inr (va_up (va_up (va_up (fun _ => none) 0 (some t0)) 1 (some t1)) 2 (some t2))))))), (qc, .inl (kA 3, 8, .inr (.inr (.inr (.inr (fun _ => none)))))), (qm, .inl (kA 0, 1500, .inl (fun _ => 0))), (qf, .inl (kA 0, 1500, .inl (fun _ => 0)))] ++ (cw kA w8 aw8 C0 ++ (cw kA w9 aw9 C0 ++ (tws kA t0 at0 T0 ++ (tws kA t1 at1 T0 ++ tws kA t2 at2 T0)))))) (wc := [(w0, .inr (1, [.int 0, .int 0, .int 0, .int 0, .null, .int 0, .int 0, .int 0, .null]))]) (fun z => c_Cur_init l D kA w0 z) ⟨rfl, rfl, (by exact Nat.le_of_ble_eq_true rfl), (by exact Nat.le_of_ble_eq_true rfl)⟩ cd_Cur rfl im_Cur_init C.2.2.2.2.2.2.2.2.2.2 d_TT_init_104 rfl ⟨(by exact Nat.le_of_ble_eq_true rfl), (by exact Nat.le_of_ble_eq_true rfl)⟩ ?_
  rintro _ ⟨aw0, rfl⟩
  refine v_ws (ws' := ([(h, .inr (2, [.ref qt, .ref qc, .int 0, .int 0, .ref qm, .ref qf, .int 0, .ref w8, .ref w9])), (qt, .inl (kA 2, 3, .inr (.inr (.inr (.inr (va_up (va_up (va_up (fun _ => none) 0 (some t0)) 1 (some t1)) 2 (some t2))))))), (qc, .inl (kA 3, 8, .inr (.inr (.inr (.inr (fun _ => none)))))), (qm, .inl (kA 0, 1500, .inl (fun _ => 0))), (qf, .inl (kA 0, 1500, .inl (fun _ => 0)))] ++ (cw kA w8 aw8 C0 ++ (cw kA w9 aw9 C0 ++ (tws kA t0 at0 T0 ++ (tws kA t1 at1 T0 ++ (tws kA t2 at2 T0 ++ cw kA w0 aw0 C0))))))) (by simp only [List.append_assoc]) ?_
  refine v_aast C (t0 := 3) (r := (R_Cur, F_Cur, 9)) (ci := 1) (ws' := ([(h, .inr (2, [.ref qt, .ref qc, .int 0, .int 0, .ref qm, .ref qf, .int 0, .ref w8, .ref w9])), (qt, .inl (kA 2, 3, .inr (.inr (.inr (.inr (va_up (va_up (va_up (fun _ => none) 0 (some t0)) 1 (some t1)) 2 (some t2))))))), (qc, .inl (kA 3, 8, .inr (.inr (.inr (.inr (va_up (fun _ => none) 0 (some w0))))))), (qm, .inl (kA 0, 1500, .inl (fun _ => 0))), (qf, .inl (kA 0, 1500, .inl (fun _ => 0)))] ++ (cw kA w8 aw8 C0 ++ (cw kA w9 aw9 C0 ++ (tws kA t0 at0 T0 ++ (tws kA t1 at1 T0 ++ (tws kA t2 at2 T0 ++ cw kA w0 aw0 C0))))))) ⟨2, rfl, rfl⟩ rfl (List.mem_append_right _ (List.mem_append_right _ (List.mem_append_right _ (List.mem_append_right _ (List.mem_append_right _ (List.mem_append_right _ (List.mem_of_getElem? (i := 0) rfl))))))) rfl (by decide) (by decide) d_TT_init_107 ?_
  refine v_iinc C d_TT_init_108 rfl ⟨(Nat.le_of_ble_eq_true rfl), (Nat.le_of_ble_eq_true rfl)⟩ (nI 1) (by decide) [.ref h, .int (nI 1)] rfl ?_
  refine v_goto C d_TT_init_111 89 (by decide) ?_
  refine v_iload_n C d_TT_init_89 rfl ?_
  refine v_bipush C d_TT_init_90 (nI 8) (by decide) ?_
  refine v_icmp_ge C d_TT_init_92 114 (by decide) (by decide) (by decide) (fun z => absurd z (by decide)) (fun _ => ?_)
  refine v_aload_n C d_TT_init_95 rfl ?_
  refine v_getf C i_TT (ci := 2) rfl 1 (by decide) (List.mem_of_getElem? (i := 0) rfl) fl_TT_17 d_TT_init_96 (.ref qc) rfl ?_
  refine v_iload_n C d_TT_init_99 rfl ?_
  refine v_new C hA i_Cur t_Cur_ok (ci := 1) rfl cl_TT_15 it_Cur in_Cur [.int 0, .int 0, .int 0, .int 0, .null, .int 0, .int 0, .int 0, .null] (by decide) (Nat.le_of_ble_eq_true rfl) (Nat.le_of_ble_eq_true rfl) d_TT_init_100 (fun w1 => ?_)
  refine v_dup C d_TT_init_103 rfl ?_
  refine v_callIN C hO hA (w0 := ([(h, .inr (2, [.ref qt, .ref qc, .int 0, .int 0, .ref qm, .ref qf, .int 0, .ref w8, .ref w9])), (qt, .inl (kA 2, 3, .inr (.inr (.inr (.inr (va_up (va_up (va_up (fun _ => none) 0 (some t0)) 1 (some t1)) 2 (some t2))))))), (qc, .inl (kA 3, 8, .inr (.inr (.inr (.inr (va_up (fun _ => none) 0 (some w0))))))), (qm, .inl (kA 0, 1500, .inl (fun _ => 0))), (qf, .inl (kA 0, 1500, .inl (fun _ => 0)))] ++ (cw kA w8 aw8 C0 ++ (cw kA w9 aw9 C0 ++ (tws kA t0 at0 T0 ++ (tws kA t1 at1 T0 ++ (tws kA t2 at2 T0 ++ cw kA w0 aw0 C0))))))) (wc := [(w1, .inr (1, [.int 0, .int 0, .int 0, .int 0, .null, .int 0, .int 0, .int 0, .null]))]) (fun z => c_Cur_init l D kA w1 z) ⟨rfl, rfl, (by exact Nat.le_of_ble_eq_true rfl), (by exact Nat.le_of_ble_eq_true rfl)⟩ cd_Cur rfl im_Cur_init C.2.2.2.2.2.2.2.2.2.2 d_TT_init_104 rfl ⟨(by exact Nat.le_of_ble_eq_true rfl), (by exact Nat.le_of_ble_eq_true rfl)⟩ ?_
  rintro _ ⟨aw1, rfl⟩
  refine v_ws (ws' := ([(h, .inr (2, [.ref qt, .ref qc, .int 0, .int 0, .ref qm, .ref qf, .int 0, .ref w8, .ref w9])), (qt, .inl (kA 2, 3, .inr (.inr (.inr (.inr (va_up (va_up (va_up (fun _ => none) 0 (some t0)) 1 (some t1)) 2 (some t2))))))), (qc, .inl (kA 3, 8, .inr (.inr (.inr (.inr (va_up (fun _ => none) 0 (some w0))))))), (qm, .inl (kA 0, 1500, .inl (fun _ => 0))), (qf, .inl (kA 0, 1500, .inl (fun _ => 0)))] ++ (cw kA w8 aw8 C0 ++ (cw kA w9 aw9 C0 ++ (tws kA t0 at0 T0 ++ (tws kA t1 at1 T0 ++ (tws kA t2 at2 T0 ++ (cw kA w0 aw0 C0 ++ cw kA w1 aw1 C0)))))))) (by simp only [List.append_assoc]) ?_
  refine v_aast C (t0 := 3) (r := (R_Cur, F_Cur, 9)) (ci := 1) (ws' := ([(h, .inr (2, [.ref qt, .ref qc, .int 0, .int 0, .ref qm, .ref qf, .int 0, .ref w8, .ref w9])), (qt, .inl (kA 2, 3, .inr (.inr (.inr (.inr (va_up (va_up (va_up (fun _ => none) 0 (some t0)) 1 (some t1)) 2 (some t2))))))), (qc, .inl (kA 3, 8, .inr (.inr (.inr (.inr (va_up (va_up (fun _ => none) 0 (some w0)) 1 (some w1))))))), (qm, .inl (kA 0, 1500, .inl (fun _ => 0))), (qf, .inl (kA 0, 1500, .inl (fun _ => 0)))] ++ (cw kA w8 aw8 C0 ++ (cw kA w9 aw9 C0 ++ (tws kA t0 at0 T0 ++ (tws kA t1 at1 T0 ++ (tws kA t2 at2 T0 ++ (cw kA w0 aw0 C0 ++ cw kA w1 aw1 C0)))))))) ⟨2, rfl, rfl⟩ rfl (List.mem_append_right _ (List.mem_append_right _ (List.mem_append_right _ (List.mem_append_right _ (List.mem_append_right _ (List.mem_append_right _ (List.mem_append_right _ (List.mem_of_getElem? (i := 0) rfl)))))))) rfl (by decide) (by decide) d_TT_init_107 ?_
  refine v_iinc C d_TT_init_108 rfl ⟨(Nat.le_of_ble_eq_true rfl), (Nat.le_of_ble_eq_true rfl)⟩ (nI 2) (by decide) [.ref h, .int (nI 2)] rfl ?_
  refine v_goto C d_TT_init_111 89 (by decide) ?_
  refine v_iload_n C d_TT_init_89 rfl ?_
  refine v_bipush C d_TT_init_90 (nI 8) (by decide) ?_
  refine v_icmp_ge C d_TT_init_92 114 (by decide) (by decide) (by decide) (fun z => absurd z (by decide)) (fun _ => ?_)
  refine v_aload_n C d_TT_init_95 rfl ?_
  refine v_getf C i_TT (ci := 2) rfl 1 (by decide) (List.mem_of_getElem? (i := 0) rfl) fl_TT_17 d_TT_init_96 (.ref qc) rfl ?_
  refine v_iload_n C d_TT_init_99 rfl ?_
  refine v_new C hA i_Cur t_Cur_ok (ci := 1) rfl cl_TT_15 it_Cur in_Cur [.int 0, .int 0, .int 0, .int 0, .null, .int 0, .int 0, .int 0, .null] (by decide) (Nat.le_of_ble_eq_true rfl) (Nat.le_of_ble_eq_true rfl) d_TT_init_100 (fun w2 => ?_)
  refine v_dup C d_TT_init_103 rfl ?_
  refine v_callIN C hO hA (w0 := ([(h, .inr (2, [.ref qt, .ref qc, .int 0, .int 0, .ref qm, .ref qf, .int 0, .ref w8, .ref w9])), (qt, .inl (kA 2, 3, .inr (.inr (.inr (.inr (va_up (va_up (va_up (fun _ => none) 0 (some t0)) 1 (some t1)) 2 (some t2))))))), (qc, .inl (kA 3, 8, .inr (.inr (.inr (.inr (va_up (va_up (fun _ => none) 0 (some w0)) 1 (some w1))))))), (qm, .inl (kA 0, 1500, .inl (fun _ => 0))), (qf, .inl (kA 0, 1500, .inl (fun _ => 0)))] ++ (cw kA w8 aw8 C0 ++ (cw kA w9 aw9 C0 ++ (tws kA t0 at0 T0 ++ (tws kA t1 at1 T0 ++ (tws kA t2 at2 T0 ++ (cw kA w0 aw0 C0 ++ cw kA w1 aw1 C0)))))))) (wc := [(w2, .inr (1, [.int 0, .int 0, .int 0, .int 0, .null, .int 0, .int 0, .int 0, .null]))]) (fun z => c_Cur_init l D kA w2 z) ⟨rfl, rfl, (by exact Nat.le_of_ble_eq_true rfl), (by exact Nat.le_of_ble_eq_true rfl)⟩ cd_Cur rfl im_Cur_init C.2.2.2.2.2.2.2.2.2.2 d_TT_init_104 rfl ⟨(by exact Nat.le_of_ble_eq_true rfl), (by exact Nat.le_of_ble_eq_true rfl)⟩ ?_
  rintro _ ⟨aw2, rfl⟩
  refine v_ws (ws' := ([(h, .inr (2, [.ref qt, .ref qc, .int 0, .int 0, .ref qm, .ref qf, .int 0, .ref w8, .ref w9])), (qt, .inl (kA 2, 3, .inr (.inr (.inr (.inr (va_up (va_up (va_up (fun _ => none) 0 (some t0)) 1 (some t1)) 2 (some t2))))))), (qc, .inl (kA 3, 8, .inr (.inr (.inr (.inr (va_up (va_up (fun _ => none) 0 (some w0)) 1 (some w1))))))), (qm, .inl (kA 0, 1500, .inl (fun _ => 0))), (qf, .inl (kA 0, 1500, .inl (fun _ => 0)))] ++ (cw kA w8 aw8 C0 ++ (cw kA w9 aw9 C0 ++ (tws kA t0 at0 T0 ++ (tws kA t1 at1 T0 ++ (tws kA t2 at2 T0 ++ (cw kA w0 aw0 C0 ++ (cw kA w1 aw1 C0 ++ cw kA w2 aw2 C0))))))))) (by simp only [List.append_assoc]) ?_
  refine v_aast C (t0 := 3) (r := (R_Cur, F_Cur, 9)) (ci := 1) (ws' := ([(h, .inr (2, [.ref qt, .ref qc, .int 0, .int 0, .ref qm, .ref qf, .int 0, .ref w8, .ref w9])), (qt, .inl (kA 2, 3, .inr (.inr (.inr (.inr (va_up (va_up (va_up (fun _ => none) 0 (some t0)) 1 (some t1)) 2 (some t2))))))), (qc, .inl (kA 3, 8, .inr (.inr (.inr (.inr (va_up (va_up (va_up (fun _ => none) 0 (some w0)) 1 (some w1)) 2 (some w2))))))), (qm, .inl (kA 0, 1500, .inl (fun _ => 0))), (qf, .inl (kA 0, 1500, .inl (fun _ => 0)))] ++ (cw kA w8 aw8 C0 ++ (cw kA w9 aw9 C0 ++ (tws kA t0 at0 T0 ++ (tws kA t1 at1 T0 ++ (tws kA t2 at2 T0 ++ (cw kA w0 aw0 C0 ++ (cw kA w1 aw1 C0 ++ cw kA w2 aw2 C0))))))))) ⟨2, rfl, rfl⟩ rfl (List.mem_append_right _ (List.mem_append_right _ (List.mem_append_right _ (List.mem_append_right _ (List.mem_append_right _ (List.mem_append_right _ (List.mem_append_right _ (List.mem_append_right _ (List.mem_of_getElem? (i := 0) rfl))))))))) rfl (by decide) (by decide) d_TT_init_107 ?_
  refine v_iinc C d_TT_init_108 rfl ⟨(Nat.le_of_ble_eq_true rfl), (Nat.le_of_ble_eq_true rfl)⟩ (nI 3) (by decide) [.ref h, .int (nI 3)] rfl ?_
  refine v_goto C d_TT_init_111 89 (by decide) ?_
  refine v_iload_n C d_TT_init_89 rfl ?_
  refine v_bipush C d_TT_init_90 (nI 8) (by decide) ?_
  refine v_icmp_ge C d_TT_init_92 114 (by decide) (by decide) (by decide) (fun z => absurd z (by decide)) (fun _ => ?_)
  refine v_aload_n C d_TT_init_95 rfl ?_
  refine v_getf C i_TT (ci := 2) rfl 1 (by decide) (List.mem_of_getElem? (i := 0) rfl) fl_TT_17 d_TT_init_96 (.ref qc) rfl ?_
  refine v_iload_n C d_TT_init_99 rfl ?_
  refine v_new C hA i_Cur t_Cur_ok (ci := 1) rfl cl_TT_15 it_Cur in_Cur [.int 0, .int 0, .int 0, .int 0, .null, .int 0, .int 0, .int 0, .null] (by decide) (Nat.le_of_ble_eq_true rfl) (Nat.le_of_ble_eq_true rfl) d_TT_init_100 (fun w3 => ?_)
  refine v_dup C d_TT_init_103 rfl ?_
  refine v_callIN C hO hA (w0 := ([(h, .inr (2, [.ref qt, .ref qc, .int 0, .int 0, .ref qm, .ref qf, .int 0, .ref w8, .ref w9])), (qt, .inl (kA 2, 3, .inr (.inr (.inr (.inr (va_up (va_up (va_up (fun _ => none) 0 (some t0)) 1 (some t1)) 2 (some t2))))))), (qc, .inl (kA 3, 8, .inr (.inr (.inr (.inr (va_up (va_up (va_up (fun _ => none) 0 (some w0)) 1 (some w1)) 2 (some w2))))))), (qm, .inl (kA 0, 1500, .inl (fun _ => 0))), (qf, .inl (kA 0, 1500, .inl (fun _ => 0)))] ++ (cw kA w8 aw8 C0 ++ (cw kA w9 aw9 C0 ++ (tws kA t0 at0 T0 ++ (tws kA t1 at1 T0 ++ (tws kA t2 at2 T0 ++ (cw kA w0 aw0 C0 ++ (cw kA w1 aw1 C0 ++ cw kA w2 aw2 C0))))))))) (wc := [(w3, .inr (1, [.int 0, .int 0, .int 0, .int 0, .null, .int 0, .int 0, .int 0, .null]))]) (fun z => c_Cur_init l D kA w3 z) ⟨rfl, rfl, (by exact Nat.le_of_ble_eq_true rfl), (by exact Nat.le_of_ble_eq_true rfl)⟩ cd_Cur rfl im_Cur_init C.2.2.2.2.2.2.2.2.2.2 d_TT_init_104 rfl ⟨(by exact Nat.le_of_ble_eq_true rfl), (by exact Nat.le_of_ble_eq_true rfl)⟩ ?_
  rintro _ ⟨aw3, rfl⟩
  refine v_ws (ws' := ([(h, .inr (2, [.ref qt, .ref qc, .int 0, .int 0, .ref qm, .ref qf, .int 0, .ref w8, .ref w9])), (qt, .inl (kA 2, 3, .inr (.inr (.inr (.inr (va_up (va_up (va_up (fun _ => none) 0 (some t0)) 1 (some t1)) 2 (some t2))))))), (qc, .inl (kA 3, 8, .inr (.inr (.inr (.inr (va_up (va_up (va_up (fun _ => none) 0 (some w0)) 1 (some w1)) 2 (some w2))))))), (qm, .inl (kA 0, 1500, .inl (fun _ => 0))), (qf, .inl (kA 0, 1500, .inl (fun _ => 0)))] ++ (cw kA w8 aw8 C0 ++ (cw kA w9 aw9 C0 ++ (tws kA t0 at0 T0 ++ (tws kA t1 at1 T0 ++ (tws kA t2 at2 T0 ++ (cw kA w0 aw0 C0 ++ (cw kA w1 aw1 C0 ++ (cw kA w2 aw2 C0 ++ cw kA w3 aw3 C0)))))))))) (by simp only [List.append_assoc]) ?_
  refine v_aast C (t0 := 3) (r := (R_Cur, F_Cur, 9)) (ci := 1) (ws' := ([(h, .inr (2, [.ref qt, .ref qc, .int 0, .int 0, .ref qm, .ref qf, .int 0, .ref w8, .ref w9])), (qt, .inl (kA 2, 3, .inr (.inr (.inr (.inr (va_up (va_up (va_up (fun _ => none) 0 (some t0)) 1 (some t1)) 2 (some t2))))))), (qc, .inl (kA 3, 8, .inr (.inr (.inr (.inr (va_up (va_up (va_up (va_up (fun _ => none) 0 (some w0)) 1 (some w1)) 2 (some w2)) 3 (some w3))))))), (qm, .inl (kA 0, 1500, .inl (fun _ => 0))), (qf, .inl (kA 0, 1500, .inl (fun _ => 0)))] ++ (cw kA w8 aw8 C0 ++ (cw kA w9 aw9 C0 ++ (tws kA t0 at0 T0 ++ (tws kA t1 at1 T0 ++ (tws kA t2 at2 T0 ++ (cw kA w0 aw0 C0 ++ (cw kA w1 aw1 C0 ++ (cw kA w2 aw2 C0 ++ cw kA w3 aw3 C0)))))))))) ⟨2, rfl, rfl⟩ rfl (List.mem_append_right _ (List.mem_append_right _ (List.mem_append_right _ (List.mem_append_right _ (List.mem_append_right _ (List.mem_append_right _ (List.mem_append_right _ (List.mem_append_right _ (List.mem_append_right _ (List.mem_of_getElem? (i := 0) rfl)))))))))) rfl (by decide) (by decide) d_TT_init_107 ?_
  refine v_iinc C d_TT_init_108 rfl ⟨(Nat.le_of_ble_eq_true rfl), (Nat.le_of_ble_eq_true rfl)⟩ (nI 4) (by decide) [.ref h, .int (nI 4)] rfl ?_
  refine v_goto C d_TT_init_111 89 (by decide) ?_
  refine v_iload_n C d_TT_init_89 rfl ?_
  refine v_bipush C d_TT_init_90 (nI 8) (by decide) ?_
  refine v_icmp_ge C d_TT_init_92 114 (by decide) (by decide) (by decide) (fun z => absurd z (by decide)) (fun _ => ?_)
  refine v_aload_n C d_TT_init_95 rfl ?_
  refine v_getf C i_TT (ci := 2) rfl 1 (by decide) (List.mem_of_getElem? (i := 0) rfl) fl_TT_17 d_TT_init_96 (.ref qc) rfl ?_
  refine v_iload_n C d_TT_init_99 rfl ?_
  refine v_new C hA i_Cur t_Cur_ok (ci := 1) rfl cl_TT_15 it_Cur in_Cur [.int 0, .int 0, .int 0, .int 0, .null, .int 0, .int 0, .int 0, .null] (by decide) (Nat.le_of_ble_eq_true rfl) (Nat.le_of_ble_eq_true rfl) d_TT_init_100 (fun w4 => ?_)
  refine v_dup C d_TT_init_103 rfl ?_
  refine v_callIN C hO hA (w0 := ([(h, .inr (2, [.ref qt, .ref qc, .int 0, .int 0, .ref qm, .ref qf, .int 0, .ref w8, .ref w9])), (qt, .inl (kA 2, 3, .inr (.inr (.inr (.inr (va_up (va_up (va_up (fun _ => none) 0 (some t0)) 1 (some t1)) 2 (some t2))))))), (qc, .inl (kA 3, 8, .inr (.inr (.inr (.inr (va_up (va_up (va_up (va_up (fun _ => none) 0 (some w0)) 1 (some w1)) 2 (some w2)) 3 (some w3))))))), (qm, .inl (kA 0, 1500, .inl (fun _ => 0))), (qf, .inl (kA 0, 1500, .inl (fun _ => 0)))] ++ (cw kA w8 aw8 C0 ++ (cw kA w9 aw9 C0 ++ (tws kA t0 at0 T0 ++ (tws kA t1 at1 T0 ++ (tws kA t2 at2 T0 ++ (cw kA w0 aw0 C0 ++ (cw kA w1 aw1 C0 ++ (cw kA w2 aw2 C0 ++ cw kA w3 aw3 C0)))))))))) (wc := [(w4, .inr (1, [.int 0, .int 0, .int 0, .int 0, .null, .int 0, .int 0, .int 0, .null]))]) (fun z => c_Cur_init l D kA w4 z) ⟨rfl, rfl, (by exact Nat.le_of_ble_eq_true rfl), (by exact Nat.le_of_ble_eq_true rfl)⟩ cd_Cur rfl im_Cur_init C.2.2.2.2.2.2.2.2.2.2 d_TT_init_104 rfl ⟨(by exact Nat.le_of_ble_eq_true rfl), (by exact Nat.le_of_ble_eq_true rfl)⟩ ?_
  rintro _ ⟨aw4, rfl⟩
  refine v_ws (ws' := ([(h, .inr (2, [.ref qt, .ref qc, .int 0, .int 0, .ref qm, .ref qf, .int 0, .ref w8, .ref w9])), (qt, .inl (kA 2, 3, .inr (.inr (.inr (.inr (va_up (va_up (va_up (fun _ => none) 0 (some t0)) 1 (some t1)) 2 (some t2))))))), (qc, .inl (kA 3, 8, .inr (.inr (.inr (.inr (va_up (va_up (va_up (va_up (fun _ => none) 0 (some w0)) 1 (some w1)) 2 (some w2)) 3 (some w3))))))), (qm, .inl (kA 0, 1500, .inl (fun _ => 0))), (qf, .inl (kA 0, 1500, .inl (fun _ => 0)))] ++ (cw kA w8 aw8 C0 ++ (cw kA w9 aw9 C0 ++ (tws kA t0 at0 T0 ++ (tws kA t1 at1 T0 ++ (tws kA t2 at2 T0 ++ (cw kA w0 aw0 C0 ++ (cw kA w1 aw1 C0 ++ (cw kA w2 aw2 C0 ++ (cw kA w3 aw3 C0 ++ cw kA w4 aw4 C0))))))))))) (by simp only [List.append_assoc]) ?_
  refine v_aast C (t0 := 3) (r := (R_Cur, F_Cur, 9)) (ci := 1) (ws' := ([(h, .inr (2, [.ref qt, .ref qc, .int 0, .int 0, .ref qm, .ref qf, .int 0, .ref w8, .ref w9])), (qt, .inl (kA 2, 3, .inr (.inr (.inr (.inr (va_up (va_up (va_up (fun _ => none) 0 (some t0)) 1 (some t1)) 2 (some t2))))))), (qc, .inl (kA 3, 8, .inr (.inr (.inr (.inr (va_up (va_up (va_up (va_up (va_up (fun _ => none) 0 (some w0)) 1 (some w1)) 2 (some w2)) 3 (some w3)) 4 (some w4))))))), (qm, .inl (kA 0, 1500, .inl (fun _ => 0))), (qf, .inl (kA 0, 1500, .inl (fun _ => 0)))] ++ (cw kA w8 aw8 C0 ++ (cw kA w9 aw9 C0 ++ (tws kA t0 at0 T0 ++ (tws kA t1 at1 T0 ++ (tws kA t2 at2 T0 ++ (cw kA w0 aw0 C0 ++ (cw kA w1 aw1 C0 ++ (cw kA w2 aw2 C0 ++ (cw kA w3 aw3 C0 ++ cw kA w4 aw4 C0))))))))))) ⟨2, rfl, rfl⟩ rfl (List.mem_append_right _ (List.mem_append_right _ (List.mem_append_right _ (List.mem_append_right _ (List.mem_append_right _ (List.mem_append_right _ (List.mem_append_right _ (List.mem_append_right _ (List.mem_append_right _ (List.mem_append_right _ (List.mem_of_getElem? (i := 0) rfl))))))))))) rfl (by decide) (by decide) d_TT_init_107 ?_
  refine v_iinc C d_TT_init_108 rfl ⟨(Nat.le_of_ble_eq_true rfl), (Nat.le_of_ble_eq_true rfl)⟩ (nI 5) (by decide) [.ref h, .int (nI 5)] rfl ?_
  refine v_goto C d_TT_init_111 89 (by decide) ?_
  refine v_iload_n C d_TT_init_89 rfl ?_
  refine v_bipush C d_TT_init_90 (nI 8) (by decide) ?_
  refine v_icmp_ge C d_TT_init_92 114 (by decide) (by decide) (by decide) (fun z => absurd z (by decide)) (fun _ => ?_)
  refine v_aload_n C d_TT_init_95 rfl ?_
  refine v_getf C i_TT (ci := 2) rfl 1 (by decide) (List.mem_of_getElem? (i := 0) rfl) fl_TT_17 d_TT_init_96 (.ref qc) rfl ?_
  refine v_iload_n C d_TT_init_99 rfl ?_
  refine v_new C hA i_Cur t_Cur_ok (ci := 1) rfl cl_TT_15 it_Cur in_Cur [.int 0, .int 0, .int 0, .int 0, .null, .int 0, .int 0, .int 0, .null] (by decide) (Nat.le_of_ble_eq_true rfl) (Nat.le_of_ble_eq_true rfl) d_TT_init_100 (fun w5 => ?_)
  refine v_dup C d_TT_init_103 rfl ?_
  refine v_callIN C hO hA (w0 := ([(h, .inr (2, [.ref qt, .ref qc, .int 0, .int 0, .ref qm, .ref qf, .int 0, .ref w8, .ref w9])), (qt, .inl (kA 2, 3, .inr (.inr (.inr (.inr (va_up (va_up (va_up (fun _ => none) 0 (some t0)) 1 (some t1)) 2 (some t2))))))), (qc, .inl (kA 3, 8, .inr (.inr (.inr (.inr (va_up (va_up (va_up (va_up (va_up (fun _ => none) 0 (some w0)) 1 (some w1)) 2 (some w2)) 3 (some w3)) 4 (some w4))))))), (qm, .inl (kA 0, 1500, .inl (fun _ => 0))), (qf, .inl (kA 0, 1500, .inl (fun _ => 0)))] ++ (cw kA w8 aw8 C0 ++ (cw kA w9 aw9 C0 ++ (tws kA t0 at0 T0 ++ (tws kA t1 at1 T0 ++ (tws kA t2 at2 T0 ++ (cw kA w0 aw0 C0 ++ (cw kA w1 aw1 C0 ++ (cw kA w2 aw2 C0 ++ (cw kA w3 aw3 C0 ++ cw kA w4 aw4 C0))))))))))) (wc := [(w5, .inr (1, [.int 0, .int 0, .int 0, .int 0, .null, .int 0, .int 0, .int 0, .null]))]) (fun z => c_Cur_init l D kA w5 z) ⟨rfl, rfl, (by exact Nat.le_of_ble_eq_true rfl), (by exact Nat.le_of_ble_eq_true rfl)⟩ cd_Cur rfl im_Cur_init C.2.2.2.2.2.2.2.2.2.2 d_TT_init_104 rfl ⟨(by exact Nat.le_of_ble_eq_true rfl), (by exact Nat.le_of_ble_eq_true rfl)⟩ ?_
  rintro _ ⟨aw5, rfl⟩
  refine v_ws (ws' := ([(h, .inr (2, [.ref qt, .ref qc, .int 0, .int 0, .ref qm, .ref qf, .int 0, .ref w8, .ref w9])), (qt, .inl (kA 2, 3, .inr (.inr (.inr (.inr (va_up (va_up (va_up (fun _ => none) 0 (some t0)) 1 (some t1)) 2 (some t2))))))), (qc, .inl (kA 3, 8, .inr (.inr (.inr (.inr (va_up (va_up (va_up (va_up (va_up (fun _ => none) 0 (some w0)) 1 (some w1)) 2 (some w2)) 3 (some w3)) 4 (some w4))))))), (qm, .inl (kA 0, 1500, .inl (fun _ => 0))), (qf, .inl (kA 0, 1500, .inl (fun _ => 0)))] ++ (cw kA w8 aw8 C0 ++ (cw kA w9 aw9 C0 ++ (tws kA t0 at0 T0 ++ (tws kA t1 at1 T0 ++ (tws kA t2 at2 T0 ++ (cw kA w0 aw0 C0 ++ (cw kA w1 aw1 C0 ++ (cw kA w2 aw2 C0 ++ (cw kA w3 aw3 C0 ++ (cw kA w4 aw4 C0 ++ cw kA w5 aw5 C0)))))))))))) (by simp only [List.append_assoc]) ?_
  refine v_aast C (t0 := 3) (r := (R_Cur, F_Cur, 9)) (ci := 1) (ws' := ([(h, .inr (2, [.ref qt, .ref qc, .int 0, .int 0, .ref qm, .ref qf, .int 0, .ref w8, .ref w9])), (qt, .inl (kA 2, 3, .inr (.inr (.inr (.inr (va_up (va_up (va_up (fun _ => none) 0 (some t0)) 1 (some t1)) 2 (some t2))))))), (qc, .inl (kA 3, 8, .inr (.inr (.inr (.inr (va_up (va_up (va_up (va_up (va_up (va_up (fun _ => none) 0 (some w0)) 1 (some w1)) 2 (some w2)) 3 (some w3)) 4 (some w4)) 5 (some w5))))))), (qm, .inl (kA 0, 1500, .inl (fun _ => 0))), (qf, .inl (kA 0, 1500, .inl (fun _ => 0)))] ++ (cw kA w8 aw8 C0 ++ (cw kA w9 aw9 C0 ++ (tws kA t0 at0 T0 ++ (tws kA t1 at1 T0 ++ (tws kA t2 at2 T0 ++ (cw kA w0 aw0 C0 ++ (cw kA w1 aw1 C0 ++ (cw kA w2 aw2 C0 ++ (cw kA w3 aw3 C0 ++ (cw kA w4 aw4 C0 ++ cw kA w5 aw5 C0)))))))))))) ⟨2, rfl, rfl⟩ rfl (List.mem_append_right _ (List.mem_append_right _ (List.mem_append_right _ (List.mem_append_right _ (List.mem_append_right _ (List.mem_append_right _ (List.mem_append_right _ (List.mem_append_right _ (List.mem_append_right _ (List.mem_append_right _ (List.mem_append_right _ (List.mem_of_getElem? (i := 0) rfl)))))))))))) rfl (by decide) (by decide) d_TT_init_107 ?_
  refine v_iinc C d_TT_init_108 rfl ⟨(Nat.le_of_ble_eq_true rfl), (Nat.le_of_ble_eq_true rfl)⟩ (nI 6) (by decide) [.ref h, .int (nI 6)] rfl ?_
  refine v_goto C d_TT_init_111 89 (by decide) ?_
  refine v_iload_n C d_TT_init_89 rfl ?_
  refine v_bipush C d_TT_init_90 (nI 8) (by decide) ?_
  refine v_icmp_ge C d_TT_init_92 114 (by decide) (by decide) (by decide) (fun z => absurd z (by decide)) (fun _ => ?_)
  refine v_aload_n C d_TT_init_95 rfl ?_
  refine v_getf C i_TT (ci := 2) rfl 1 (by decide) (List.mem_of_getElem? (i := 0) rfl) fl_TT_17 d_TT_init_96 (.ref qc) rfl ?_
  refine v_iload_n C d_TT_init_99 rfl ?_
  refine v_new C hA i_Cur t_Cur_ok (ci := 1) rfl cl_TT_15 it_Cur in_Cur [.int 0, .int 0, .int 0, .int 0, .null, .int 0, .int 0, .int 0, .null] (by decide) (Nat.le_of_ble_eq_true rfl) (Nat.le_of_ble_eq_true rfl) d_TT_init_100 (fun w6 => ?_)
  refine v_dup C d_TT_init_103 rfl ?_
  refine v_callIN C hO hA (w0 := ([(h, .inr (2, [.ref qt, .ref qc, .int 0, .int 0, .ref qm, .ref qf, .int 0, .ref w8, .ref w9])), (qt, .inl (kA 2, 3, .inr (.inr (.inr (.inr (va_up (va_up (va_up (fun _ => none) 0 (some t0)) 1 (some t1)) 2 (some t2))))))), (qc, .inl (kA 3, 8, .inr (.inr (.inr (.inr (va_up (va_up (va_up (va_up (va_up (va_up (fun _ => none) 0 (some w0)) 1 (some w1)) 2 (some w2)) 3 (some w3)) 4 (some w4)) 5 (some w5))))))), (qm, .inl (kA 0, 1500, .inl (fun _ => 0))), (qf, .inl (kA 0, 1500, .inl (fun _ => 0)))] ++ (cw kA w8 aw8 C0 ++ (cw kA w9 aw9 C0 ++ (tws kA t0 at0 T0 ++ (tws kA t1 at1 T0 ++ (tws kA t2 at2 T0 ++ (cw kA w0 aw0 C0 ++ (cw kA w1 aw1 C0 ++ (cw kA w2 aw2 C0 ++ (cw kA w3 aw3 C0 ++ (cw kA w4 aw4 C0 ++ cw kA w5 aw5 C0)))))))))))) (wc := [(w6, .inr (1, [.int 0, .int 0, .int 0, .int 0, .null, .int 0, .int 0, .int 0, .null]))]) (fun z => c_Cur_init l D kA w6 z) ⟨rfl, rfl, (by exact Nat.le_of_ble_eq_true rfl), (by exact Nat.le_of_ble_eq_true rfl)⟩ cd_Cur rfl im_Cur_init C.2.2.2.2.2.2.2.2.2.2 d_TT_init_104 rfl ⟨(by exact Nat.le_of_ble_eq_true rfl), (by exact Nat.le_of_ble_eq_true rfl)⟩ ?_
  rintro _ ⟨aw6, rfl⟩
  refine v_ws (ws' := ([(h, .inr (2, [.ref qt, .ref qc, .int 0, .int 0, .ref qm, .ref qf, .int 0, .ref w8, .ref w9])), (qt, .inl (kA 2, 3, .inr (.inr (.inr (.inr (va_up (va_up (va_up (fun _ => none) 0 (some t0)) 1 (some t1)) 2 (some t2))))))), (qc, .inl (kA 3, 8, .inr (.inr (.inr (.inr (va_up (va_up (va_up (va_up (va_up (va_up (fun _ => none) 0 (some w0)) 1 (some w1)) 2 (some w2)) 3 (some w3)) 4 (some w4)) 5 (some w5))))))), (qm, .inl (kA 0, 1500, .inl (fun _ => 0))), (qf, .inl (kA 0, 1500, .inl (fun _ => 0)))] ++ (cw kA w8 aw8 C0 ++ (cw kA w9 aw9 C0 ++ (tws kA t0 at0 T0 ++ (tws kA t1 at1 T0 ++ (tws kA t2 at2 T0 ++ (cw kA w0 aw0 C0 ++ (cw kA w1 aw1 C0 ++ (cw kA w2 aw2 C0 ++ (cw kA w3 aw3 C0 ++ (cw kA w4 aw4 C0 ++ (cw kA w5 aw5 C0 ++ cw kA w6 aw6 C0))))))))))))) (by simp only [List.append_assoc]) ?_
  refine v_aast C (t0 := 3) (r := (R_Cur, F_Cur, 9)) (ci := 1) (ws' := ([(h, .inr (2, [.ref qt, .ref qc, .int 0, .int 0, .ref qm, .ref qf, .int 0, .ref w8, .ref w9])), (qt, .inl (kA 2, 3, .inr (.inr (.inr (.inr (va_up (va_up (va_up (fun _ => none) 0 (some t0)) 1 (some t1)) 2 (some t2))))))), (qc, .inl (kA 3, 8, .inr (.inr (.inr (.inr (va_up (va_up (va_up (va_up (va_up (va_up (va_up (fun _ => none) 0 (some w0)) 1 (some w1)) 2 (some w2)) 3 (some w3)) 4 (some w4)) 5 (some w5)) 6 (some w6))))))), (qm, .inl (kA 0, 1500, .inl (fun _ => 0))), (qf, .inl (kA 0, 1500, .inl (fun _ => 0)))] ++ (cw kA w8 aw8 C0 ++ (cw kA w9 aw9 C0 ++ (tws kA t0 at0 T0 ++ (tws kA t1 at1 T0 ++ (tws kA t2 at2 T0 ++ (cw kA w0 aw0 C0 ++ (cw kA w1 aw1 C0 ++ (cw kA w2 aw2 C0 ++ (cw kA w3 aw3 C0 ++ (cw kA w4 aw4 C0 ++ (cw kA w5 aw5 C0 ++ cw kA w6 aw6 C0))))))))))))) ⟨2, rfl, rfl⟩ rfl (List.mem_append_right _ (List.mem_append_right _ (List.mem_append_right _ (List.mem_append_right _ (List.mem_append_right _ (List.mem_append_right _ (List.mem_append_right _ (List.mem_append_right _ (List.mem_append_right _ (List.mem_append_right _ (List.mem_append_right _ (List.mem_append_right _ (List.mem_of_getElem? (i := 0) rfl))))))))))))) rfl (by decide) (by decide) d_TT_init_107 ?_
  refine v_iinc C d_TT_init_108 rfl ⟨(Nat.le_of_ble_eq_true rfl), (Nat.le_of_ble_eq_true rfl)⟩ (nI 7) (by decide) [.ref h, .int (nI 7)] rfl ?_
  refine v_goto C d_TT_init_111 89 (by decide) ?_
  refine v_iload_n C d_TT_init_89 rfl ?_
  refine v_bipush C d_TT_init_90 (nI 8) (by decide) ?_
  refine v_icmp_ge C d_TT_init_92 114 (by decide) (by decide) (by decide) (fun z => absurd z (by decide)) (fun _ => ?_)
  refine v_aload_n C d_TT_init_95 rfl ?_
  refine v_getf C i_TT (ci := 2) rfl 1 (by decide) (List.mem_of_getElem? (i := 0) rfl) fl_TT_17 d_TT_init_96 (.ref qc) rfl ?_
  refine v_iload_n C d_TT_init_99 rfl ?_
  refine v_new C hA i_Cur t_Cur_ok (ci := 1) rfl cl_TT_15 it_Cur in_Cur [.int 0, .int 0, .int 0, .int 0, .null, .int 0, .int 0, .int 0, .null] (by decide) (Nat.le_of_ble_eq_true rfl) (Nat.le_of_ble_eq_true rfl) d_TT_init_100 (fun w7 => ?_)
  refine v_dup C d_TT_init_103 rfl ?_
  refine v_callIN C hO hA (w0 := ([(h, .inr (2, [.ref qt, .ref qc, .int 0, .int 0, .ref qm, .ref qf, .int 0, .ref w8, .ref w9])), (qt, .inl (kA 2, 3, .inr (.inr (.inr (.inr (va_up (va_up (va_up (fun _ => none) 0 (some t0)) 1 (some t1)) 2 (some t2))))))), (qc, .inl (kA 3, 8, .inr (.inr (.inr (.inr (va_up (va_up (va_up (va_up (va_up (va_up (va_up (fun _ => none) 0 (some w0)) 1 (some w1)) 2 (some w2)) 3 (some w3)) 4 (some w4)) 5 (some w5)) 6 (some w6))))))), (qm, .inl (kA 0, 1500, .inl (fun _ => 0))), (qf, .inl (kA 0, 1500, .inl (fun _ => 0)))] ++ (cw kA w8 aw8 C0 ++ (cw kA w9 aw9 C0 ++ (tws kA t0 at0 T0 ++ (tws kA t1 at1 T0 ++ (tws kA t2 at2 T0 ++ (cw kA w0 aw0 C0 ++ (cw kA w1 aw1 C0 ++ (cw kA w2 aw2 C0 ++ (cw kA w3 aw3 C0 ++ (cw kA w4 aw4 C0 ++ (cw kA w5 aw5 C0 ++ cw kA w6 aw6 C0))))))))))))) (wc := [(w7, .inr (1, [.int 0, .int 0, .int 0, .int 0, .null, .int 0, .int 0, .int 0, .null]))]) (fun z => c_Cur_init l D kA w7 z) ⟨rfl, rfl, (by exact Nat.le_of_ble_eq_true rfl), (by exact Nat.le_of_ble_eq_true rfl)⟩ cd_Cur rfl im_Cur_init C.2.2.2.2.2.2.2.2.2.2 d_TT_init_104 rfl ⟨(by exact Nat.le_of_ble_eq_true rfl), (by exact Nat.le_of_ble_eq_true rfl)⟩ ?_
  rintro _ ⟨aw7, rfl⟩
  refine v_ws (ws' := ([(h, .inr (2, [.ref qt, .ref qc, .int 0, .int 0, .ref qm, .ref qf, .int 0, .ref w8, .ref w9])), (qt, .inl (kA 2, 3, .inr (.inr (.inr (.inr (va_up (va_up (va_up (fun _ => none) 0 (some t0)) 1 (some t1)) 2 (some t2))))))), (qc, .inl (kA 3, 8, .inr (.inr (.inr (.inr (va_up (va_up (va_up (va_up (va_up (va_up (va_up (fun _ => none) 0 (some w0)) 1 (some w1)) 2 (some w2)) 3 (some w3)) 4 (some w4)) 5 (some w5)) 6 (some w6))))))), (qm, .inl (kA 0, 1500, .inl (fun _ => 0))), (qf, .inl (kA 0, 1500, .inl (fun _ => 0)))] ++ (cw kA w8 aw8 C0 ++ (cw kA w9 aw9 C0 ++ (tws kA t0 at0 T0 ++ (tws kA t1 at1 T0 ++ (tws kA t2 at2 T0 ++ (cw kA w0 aw0 C0 ++ (cw kA w1 aw1 C0 ++ (cw kA w2 aw2 C0 ++ (cw kA w3 aw3 C0 ++ (cw kA w4 aw4 C0 ++ (cw kA w5 aw5 C0 ++ (cw kA w6 aw6 C0 ++ cw kA w7 aw7 C0)))))))))))))) (by simp only [List.append_assoc]) ?_
  refine v_aast C (t0 := 3) (r := (R_Cur, F_Cur, 9)) (ci := 1) (ws' := ([(h, .inr (2, [.ref qt, .ref qc, .int 0, .int 0, .ref qm, .ref qf, .int 0, .ref w8, .ref w9])), (qt, .inl (kA 2, 3, .inr (.inr (.inr (.inr (va_up (va_up (va_up (fun _ => none) 0 (some t0)) 1 (some t1)) 2 (some t2))))))), (qc, .inl (kA 3, 8, .inr (.inr (.inr (.inr (va_up (va_up (va_up (va_up (va_up (va_up (va_up (va_up (fun _ => none) 0 (some w0)) 1 (some w1)) 2 (some w2)) 3 (some w3)) 4 (some w4)) 5 (some w5)) 6 (some w6)) 7 (some w7))))))), (qm, .inl (kA 0, 1500, .inl (fun _ => 0))), (qf, .inl (kA 0, 1500, .inl (fun _ => 0)))] ++ (cw kA w8 aw8 C0 ++ (cw kA w9 aw9 C0 ++ (tws kA t0 at0 T0 ++ (tws kA t1 at1 T0 ++ (tws kA t2 at2 T0 ++ (cw kA w0 aw0 C0 ++ (cw kA w1 aw1 C0 ++ (cw kA w2 aw2 C0 ++ (cw kA w3 aw3 C0 ++ (cw kA w4 aw4 C0 ++ (cw kA w5 aw5 C0 ++ (cw kA w6 aw6 C0 ++ cw kA w7 aw7 C0)))))))))))))) ⟨2, rfl, rfl⟩ rfl (List.mem_append_right _ (List.mem_append_right _ (List.mem_append_right _ (List.mem_append_right _ (List.mem_append_right _ (List.mem_append_right _ (List.mem_append_right _ (List.mem_append_right _ (List.mem_append_right _ (List.mem_append_right _ (List.mem_append_right _ (List.mem_append_right _ (List.mem_append_right _ (List.mem_of_getElem? (i := 0) rfl)))))))))))))) rfl (by decide) (by decide) d_TT_init_107 ?_
  refine v_iinc C d_TT_init_108 rfl ⟨(Nat.le_of_ble_eq_true rfl), (Nat.le_of_ble_eq_true rfl)⟩ (nI 8) (by decide) [.ref h, .int (nI 8)] rfl ?_
  refine v_goto C d_TT_init_111 89 (by decide) ?_
  refine v_iload_n C d_TT_init_89 rfl ?_
  refine v_bipush C d_TT_init_90 (nI 8) (by decide) ?_
  refine v_icmp_ge C d_TT_init_92 114 (by decide) (by decide) (by decide) (fun _ => ?_) (fun z => absurd z (by decide))
  refine v_arrq (ws' := ([(h, .inr (2, [.ref qt, .ref qc, .int 0, .int 0, .ref qm, .ref qf, .int 0, .ref w8, .ref w9])), (qt, .inl (kA 2, 3, .inr (.inr (.inr (.inr (fun t => some (fn3 t0 t1 t2 t))))))), (qc, .inl (kA 3, 8, .inr (.inr (.inr (.inr (va_up (va_up (va_up (va_up (va_up (va_up (va_up (va_up (fun _ => none) 0 (some w0)) 1 (some w1)) 2 (some w2)) 3 (some w3)) 4 (some w4)) 5 (some w5)) 6 (some w6)) 7 (some w7))))))), (qm, .inl (kA 0, 1500, .inl (fun _ => 0))), (qf, .inl (kA 0, 1500, .inl (fun _ => 0)))] ++ (cw kA w8 aw8 C0 ++ (cw kA w9 aw9 C0 ++ (tws kA t0 at0 T0 ++ (tws kA t1 at1 T0 ++ (tws kA t2 at2 T0 ++ (cw kA w0 aw0 C0 ++ (cw kA w1 aw1 C0 ++ (cw kA w2 aw2 C0 ++ (cw kA w3 aw3 C0 ++ (cw kA w4 aw4 C0 ++ (cw kA w5 aw5 C0 ++ (cw kA w6 aw6 C0 ++ cw kA w7 aw7 C0)))))))))))))) ⟨1, rfl, rfl⟩ (fun j hj => ?_) ?_
  · rcases (show j = 0 ∨ j = 1 ∨ j = 2 by omega) with rfl | rfl | rfl <;> rfl
  refine v_arrq (ws' := ([(h, .inr (2, [.ref qt, .ref qc, .int 0, .int 0, .ref qm, .ref qf, .int 0, .ref w8, .ref w9])), (qt, .inl (kA 2, 3, .inr (.inr (.inr (.inr (fun t => some (fn3 t0 t1 t2 t))))))), (qc, .inl (kA 3, 8, .inr (.inr (.inr (.inr (fun t => some (fn10 w0 w1 w2 w3 w4 w5 w6 w7 w8 w9 t))))))), (qm, .inl (kA 0, 1500, .inl (fun _ => 0))), (qf, .inl (kA 0, 1500, .inl (fun _ => 0)))] ++ (cw kA w8 aw8 C0 ++ (cw kA w9 aw9 C0 ++ (tws kA t0 at0 T0 ++ (tws kA t1 at1 T0 ++ (tws kA t2 at2 T0 ++ (cw kA w0 aw0 C0 ++ (cw kA w1 aw1 C0 ++ (cw kA w2 aw2 C0 ++ (cw kA w3 aw3 C0 ++ (cw kA w4 aw4 C0 ++ (cw kA w5 aw5 C0 ++ (cw kA w6 aw6 C0 ++ cw kA w7 aw7 C0)))))))))))))) ⟨2, rfl, rfl⟩ (fun j hj => ?_) ?_
  · rcases (show j = 0 ∨ j = 1 ∨ j = 2 ∨ j = 3 ∨ j = 4 ∨ j = 5 ∨ j = 6 ∨ j = 7 by omega) with rfl | rfl | rfl | rfl | rfl | rfl | rfl | rfl <;> rfl
  refine v_perm (xw_perm _ _ _ _ _ _ _ _ _ _ _ _ _ _) ?_
  exact v_vretA C rfl d_TT_init_114 ⟨rfl, (adX h qt qc qm qf (fn3 t0 t1 t2) (fn10 w0 w1 w2 w3 w4 w5 w6 w7 w8 w9) (fn3 at0 at1 at2) (fn10 aw0 aw1 aw2 aw3 aw4 aw5 aw6 aw7 aw8 aw9)), rfl, rfl⟩
