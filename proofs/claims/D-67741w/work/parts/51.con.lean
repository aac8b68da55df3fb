/-! constructors -/
/-- the code of three zeros -/
theorem ZK_ex : ∃ z, dc z = (fun _ => 0) ∧ z < TOP := ⟨enc 0 0 0, by
  funext i
  by_cases h0 : i = 0
  · subst h0; exact dc_enc0 _ _ _
  · by_cases h1 : i = 1
    · subst h1; exact dc_enc1 _ _ _
    · exact dc_enc2 _ _ _ _ h0 h1, enc_lt _ _ _⟩
noncomputable def ZK : Nat := Classical.choose ZK_ex
theorem ZK_dc : dc ZK = fun _ => 0 := (Classical.choose_spec ZK_ex).1
theorem ZK_lt : ZK < TOP := (Classical.choose_spec ZK_ex).2
noncomputable def C0 : Nat → Nat := cu 0 0 0 0 ZK 0 0 0 ZK
def two2 (a b : Nat) : Nat → Nat
  | 0 => a
  | _ => b
theorem cw0 (kA : Nat → ClassId) (h : Nat) (ca : Nat → Nat) : cw kA h ca C0 = [(h, .inr (1, [.int 0, .int 0, .int 0, .int 0, .ref (ca 0), .int 0, .int 0, .int 0, .ref (ca 1)])), (ca 0, .inl (kA 0, 3, .inl (fun _ => 0))), (ca 1, .inl (kA 0, 3, .inl (fun _ => 0)))] := by
  unfold cw
  rw [show C0 4 = ZK from rfl, show C0 8 = ZK from rfl, ZK_dc]
  rfl
abbrev rmC : Room := { frames := 1, cells := 2, slots := 6, locals := 20 }
abbrev rmT : Room := { frames := 4, cells := 8, slots := 21006, locals := 200 }
abbrev rmM : Room := { frames := 1, cells := 8, slots := 9163, locals := 20 }
abbrev rmX : Room := { frames := 6, cells := 61, slots := 66215, locals := 300 }

set_option maxHeartbeats 800000 in
set_option maxRecDepth 20000 in
theorem c_Cur_init (l : Launch) (D : va_G) (kA : Nat → ClassId) (h : Nat) (sz : Nat) : CtA l D kA rmC 2 6 sz y_Cur_init b_Cur_init 1 none [.ref h] [(h, .inr (1, [.int 0, .int 0, .int 0, .int 0, .null, .int 0, .int 0, .int 0, .null]))] (pV fun w => ∃ ca : Nat → Nat, w = cw kA h ca C0) := by
  refine ct_ofA (by decide) (Nat.le_of_ble_eq_true rfl) rfl ?_
  intro pg en s0 m0 args below meth cod C hO hnm0 hA
  have hnm : meth.name = "<init>" := hnm0
  refine v_aload_n C d_Cur_init_0 rfl ?_
  refine v_obj C ml_Cur_1 d_Cur_init_1 ⟨(Nat.le_of_ble_eq_true rfl), (Nat.le_of_ble_eq_true rfl)⟩ rfl ?_
  refine v_aload_n C d_Cur_init_4 rfl ?_
  refine v_iconst C d_Cur_init_5 (nI 3) (by decide) ?_
  refine v_newi C hA (by decide) (Nat.le_of_ble_eq_true rfl) (Nat.le_of_ble_eq_true rfl) d_Cur_init_6 (fun q0 => ?_)
  refine v_putF C hnm i_Cur (ci := 1) (ws' := [(h, .inr (1, [.int 0, .int 0, .int 0, .int 0, .ref q0, .int 0, .int 0, .int 0, .null])), (q0, .inl (kA 0, 3, .inl (fun _ => 0)))]) t_Cur_ok n_Cur rfl 4 (by decide) ⟨0, rfl, rfl⟩ fl_Cur_7 d_Cur_init_8 rfl rfl rfl rfl (Nat.le_of_ble_eq_true rfl) rfl ?_
  refine v_aload_n C d_Cur_init_11 rfl ?_
  refine v_iconst C d_Cur_init_12 (nI 3) (by decide) ?_
  refine v_newi C hA (by decide) (Nat.le_of_ble_eq_true rfl) (Nat.le_of_ble_eq_true rfl) d_Cur_init_13 (fun q1 => ?_)
  refine v_putF C hnm i_Cur (ci := 1) (ws' := [(h, .inr (1, [.int 0, .int 0, .int 0, .int 0, .ref q0, .int 0, .int 0, .int 0, .ref q1])), (q0, .inl (kA 0, 3, .inl (fun _ => 0))), (q1, .inl (kA 0, 3, .inl (fun _ => 0)))]) t_Cur_ok n_Cur rfl 8 (by decide) ⟨0, rfl, rfl⟩ fl_Cur_13 d_Cur_init_15 rfl rfl rfl rfl (Nat.le_of_ble_eq_true rfl) rfl ?_
  exact v_vretA C rfl d_Cur_init_18 ⟨rfl, two2 q0 q1, (cw0 kA h (two2 q0 q1)).symm⟩

def fn8 (a b c d e f g h : Nat) : Nat → Nat
  | 0 => a
  | 1 => b
  | 2 => c
  | 3 => d
  | 4 => e
  | 5 => f
  | 6 => g
  | _ => h
theorem mw0 (kA : Nat → ClassId) (h : Nat) (a : Nat → Nat) : mw kA h a (fun _ => 0) 0 0 (fun _ => 0) (fun _ => 0) (fun _ => 0) (fun _ => 0) (fun _ => 1) (fun _ => 0) (fun _ => 0) 0 = [(h, .inr (3, [.ref (a 0), .int 0, .int 0, .ref (a 1), .ref (a 2), .ref (a 3), .ref (a 4), .ref (a 5), .ref (a 6), .ref (a 7), .int 0])), (a 0, .inl (kA 0, 6303, .inl (fun _ => 0))), (a 1, .inl (kA 1, 8, .inl (fun _ => 0))), (a 2, .inl (kA 1, 8, .inl (fun _ => 0))), (a 3, .inl (kA 0, 8, .inl (fun _ => 0))), (a 4, .inl (kA 0, 24, .inl (fun _ => 0))), (a 5, .inl (kA 0, 8, .inl (fun _ => 0))), (a 6, .inl (kA 0, 1402, .inl (fun _ => 0))), (a 7, .inl (kA 0, 1402, .inl (fun _ => 0)))] := by
  have e : (fun j : Nat => nI ((fun _ : Nat => 1) j) - nI 1) = fun _ => (0 : Int32) := funext (fun _ => (by decide : nI 1 - nI 1 = (0 : Int32)))
  unfold mw
  exact congrArg (fun f : Nat → Int32 => ([(h, .inr (3, [.ref (a 0), .int 0, .int 0, .ref (a 1), .ref (a 2), .ref (a 3), .ref (a 4), .ref (a 5), .ref (a 6), .ref (a 7), .int 0])), (a 0, .inl (kA 0, 6303, .inl (fun _ => 0))), (a 1, .inl (kA 1, 8, .inl (fun _ => 0))), (a 2, .inl (kA 1, 8, .inl (fun _ => 0))), (a 3, .inl (kA 0, 8, .inl (fun _ => 0))), (a 4, .inl (kA 0, 24, .inl (fun _ => 0))), (a 5, .inl (kA 0, 8, .inl f)), (a 6, .inl (kA 0, 1402, .inl (fun _ => 0))), (a 7, .inl (kA 0, 1402, .inl (fun _ => 0)))] : va_W)) e

set_option maxHeartbeats 800000 in
set_option maxRecDepth 20000 in
theorem c_Mod_init (l : Launch) (D : va_G) (kA : Nat → ClassId) (h : Nat) (sz : Nat) : CtA l D kA rmM 8 9163 sz y_Mod_init b_Mod_init 1 none [.ref h] [(h, .inr (3, [.null, .int 0, .int 0, .null, .null, .null, .null, .null, .null, .null, .int 0]))] (pV fun w => ∃ a : Nat → Nat, w = mw kA h a (fun _ => 0) 0 0 (fun _ => 0) (fun _ => 0) (fun _ => 0) (fun _ => 0) (fun _ => 1) (fun _ => 0) (fun _ => 0) 0) := by
  refine ct_ofA (by decide) (Nat.le_of_ble_eq_true rfl) rfl ?_
  intro pg en s0 m0 args below meth cod C hO hnm0 hA
  have hnm : meth.name = "<init>" := hnm0
  refine v_aload_n C d_Mod_init_0 rfl ?_
  refine v_obj C ml_Mod_1 d_Mod_init_1 ⟨(Nat.le_of_ble_eq_true rfl), (Nat.le_of_ble_eq_true rfl)⟩ rfl ?_
  refine v_aload_n C d_Mod_init_4 rfl ?_
  refine v_sipush C d_Mod_init_5 (nI 6303) (by decide) ?_
  refine v_newi C hA (by decide) (Nat.le_of_ble_eq_true rfl) (Nat.le_of_ble_eq_true rfl) d_Mod_init_8 (fun q0 => ?_)
  refine v_putF C hnm i_Mod (ci := 3) (ws' := [(h, .inr (3, [.ref q0, .int 0, .int 0, .null, .null, .null, .null, .null, .null, .null, .int 0])), (q0, .inl (kA 0, 6303, .inl (fun _ => 0)))]) t_Mod_ok n_Mod rfl 0 (by decide) ⟨0, rfl, rfl⟩ fl_Mod_7 d_Mod_init_10 rfl rfl rfl rfl (Nat.le_of_ble_eq_true rfl) rfl ?_
  refine v_aload_n C d_Mod_init_13 rfl ?_
  refine v_bipush C d_Mod_init_14 (nI 8) (by decide) ?_
  refine v_newz C hA (by decide) (Nat.le_of_ble_eq_true rfl) (Nat.le_of_ble_eq_true rfl) d_Mod_init_16 (fun q1 => ?_)
  refine v_putF C hnm i_Mod (ci := 3) (ws' := [(h, .inr (3, [.ref q0, .int 0, .int 0, .ref q1, .null, .null, .null, .null, .null, .null, .int 0])), (q0, .inl (kA 0, 6303, .inl (fun _ => 0))), (q1, .inl (kA 1, 8, .inl (fun _ => 0)))]) t_Mod_ok n_Mod rfl 3 (by decide) ⟨0, rfl, rfl⟩ fl_Mod_13 d_Mod_init_18 rfl rfl rfl rfl (Nat.le_of_ble_eq_true rfl) rfl ?_
  refine v_aload_n C d_Mod_init_21 rfl ?_
  refine v_bipush C d_Mod_init_22 (nI 8) (by decide) ?_
  refine v_newz C hA (by decide) (Nat.le_of_ble_eq_true rfl) (Nat.le_of_ble_eq_true rfl) d_Mod_init_24 (fun q2 => ?_)
  refine v_putF C hnm i_Mod (ci := 3) (ws' := [(h, .inr (3, [.ref q0, .int 0, .int 0, .ref q1, .ref q2, .null, .null, .null, .null, .null, .int 0])), (q0, .inl (kA 0, 6303, .inl (fun _ => 0))), (q1, .inl (kA 1, 8, .inl (fun _ => 0))), (q2, .inl (kA 1, 8, .inl (fun _ => 0)))]) t_Mod_ok n_Mod rfl 4 (by decide) ⟨0, rfl, rfl⟩ fl_Mod_17 d_Mod_init_26 rfl rfl rfl rfl (Nat.le_of_ble_eq_true rfl) rfl ?_
  refine v_aload_n C d_Mod_init_29 rfl ?_
  refine v_bipush C d_Mod_init_30 (nI 8) (by decide) ?_
  refine v_newi C hA (by decide) (Nat.le_of_ble_eq_true rfl) (Nat.le_of_ble_eq_true rfl) d_Mod_init_32 (fun q3 => ?_)
  refine v_putF C hnm i_Mod (ci := 3) (ws' := [(h, .inr (3, [.ref q0, .int 0, .int 0, .ref q1, .ref q2, .ref q3, .null, .null, .null, .null, .int 0])), (q0, .inl (kA 0, 6303, .inl (fun _ => 0))), (q1, .inl (kA 1, 8, .inl (fun _ => 0))), (q2, .inl (kA 1, 8, .inl (fun _ => 0))), (q3, .inl (kA 0, 8, .inl (fun _ => 0)))]) t_Mod_ok n_Mod rfl 5 (by decide) ⟨0, rfl, rfl⟩ fl_Mod_20 d_Mod_init_34 rfl rfl rfl rfl (Nat.le_of_ble_eq_true rfl) rfl ?_
  refine v_aload_n C d_Mod_init_37 rfl ?_
  refine v_bipush C d_Mod_init_38 (nI 24) (by decide) ?_
  refine v_newi C hA (by decide) (Nat.le_of_ble_eq_true rfl) (Nat.le_of_ble_eq_true rfl) d_Mod_init_40 (fun q4 => ?_)
  refine v_putF C hnm i_Mod (ci := 3) (ws' := [(h, .inr (3, [.ref q0, .int 0, .int 0, .ref q1, .ref q2, .ref q3, .ref q4, .null, .null, .null, .int 0])), (q0, .inl (kA 0, 6303, .inl (fun _ => 0))), (q1, .inl (kA 1, 8, .inl (fun _ => 0))), (q2, .inl (kA 1, 8, .inl (fun _ => 0))), (q3, .inl (kA 0, 8, .inl (fun _ => 0))), (q4, .inl (kA 0, 24, .inl (fun _ => 0)))]) t_Mod_ok n_Mod rfl 6 (by decide) ⟨0, rfl, rfl⟩ fl_Mod_23 d_Mod_init_42 rfl rfl rfl rfl (Nat.le_of_ble_eq_true rfl) rfl ?_
  refine v_aload_n C d_Mod_init_45 rfl ?_
  refine v_bipush C d_Mod_init_46 (nI 8) (by decide) ?_
  refine v_newi C hA (by decide) (Nat.le_of_ble_eq_true rfl) (Nat.le_of_ble_eq_true rfl) d_Mod_init_48 (fun q5 => ?_)
  refine v_putF C hnm i_Mod (ci := 3) (ws' := [(h, .inr (3, [.ref q0, .int 0, .int 0, .ref q1, .ref q2, .ref q3, .ref q4, .ref q5, .null, .null, .int 0])), (q0, .inl (kA 0, 6303, .inl (fun _ => 0))), (q1, .inl (kA 1, 8, .inl (fun _ => 0))), (q2, .inl (kA 1, 8, .inl (fun _ => 0))), (q3, .inl (kA 0, 8, .inl (fun _ => 0))), (q4, .inl (kA 0, 24, .inl (fun _ => 0))), (q5, .inl (kA 0, 8, .inl (fun _ => 0)))]) t_Mod_ok n_Mod rfl 7 (by decide) ⟨0, rfl, rfl⟩ fl_Mod_26 d_Mod_init_50 rfl rfl rfl rfl (Nat.le_of_ble_eq_true rfl) rfl ?_
  refine v_aload_n C d_Mod_init_53 rfl ?_
  refine v_sipush C d_Mod_init_54 (nI 1402) (by decide) ?_
  refine v_newi C hA (by decide) (Nat.le_of_ble_eq_true rfl) (Nat.le_of_ble_eq_true rfl) d_Mod_init_57 (fun q6 => ?_)
  refine v_putF C hnm i_Mod (ci := 3) (ws' := [(h, .inr (3, [.ref q0, .int 0, .int 0, .ref q1, .ref q2, .ref q3, .ref q4, .ref q5, .ref q6, .null, .int 0])), (q0, .inl (kA 0, 6303, .inl (fun _ => 0))), (q1, .inl (kA 1, 8, .inl (fun _ => 0))), (q2, .inl (kA 1, 8, .inl (fun _ => 0))), (q3, .inl (kA 0, 8, .inl (fun _ => 0))), (q4, .inl (kA 0, 24, .inl (fun _ => 0))), (q5, .inl (kA 0, 8, .inl (fun _ => 0))), (q6, .inl (kA 0, 1402, .inl (fun _ => 0)))]) t_Mod_ok n_Mod rfl 8 (by decide) ⟨0, rfl, rfl⟩ fl_Mod_29 d_Mod_init_59 rfl rfl rfl rfl (Nat.le_of_ble_eq_true rfl) rfl ?_
  refine v_aload_n C d_Mod_init_62 rfl ?_
  refine v_sipush C d_Mod_init_63 (nI 1402) (by decide) ?_
  refine v_newi C hA (by decide) (Nat.le_of_ble_eq_true rfl) (Nat.le_of_ble_eq_true rfl) d_Mod_init_66 (fun q7 => ?_)
  refine v_putF C hnm i_Mod (ci := 3) (ws' := [(h, .inr (3, [.ref q0, .int 0, .int 0, .ref q1, .ref q2, .ref q3, .ref q4, .ref q5, .ref q6, .ref q7, .int 0])), (q0, .inl (kA 0, 6303, .inl (fun _ => 0))), (q1, .inl (kA 1, 8, .inl (fun _ => 0))), (q2, .inl (kA 1, 8, .inl (fun _ => 0))), (q3, .inl (kA 0, 8, .inl (fun _ => 0))), (q4, .inl (kA 0, 24, .inl (fun _ => 0))), (q5, .inl (kA 0, 8, .inl (fun _ => 0))), (q6, .inl (kA 0, 1402, .inl (fun _ => 0))), (q7, .inl (kA 0, 1402, .inl (fun _ => 0)))]) t_Mod_ok n_Mod rfl 9 (by decide) ⟨0, rfl, rfl⟩ fl_Mod_32 d_Mod_init_68 rfl rfl rfl rfl (Nat.le_of_ble_eq_true rfl) rfl ?_
  refine v_aload_n C d_Mod_init_71 rfl ?_
  refine v_iconst C d_Mod_init_72 (nI 0) (by decide) ?_
  refine v_putf C i_Mod (ci := 3) (ws' := [(h, .inr (3, [.ref q0, .int (nI 0), .int 0, .ref q1, .ref q2, .ref q3, .ref q4, .ref q5, .ref q6, .ref q7, .int 0])), (q0, .inl (kA 0, 6303, .inl (fun _ => 0))), (q1, .inl (kA 1, 8, .inl (fun _ => 0))), (q2, .inl (kA 1, 8, .inl (fun _ => 0))), (q3, .inl (kA 0, 8, .inl (fun _ => 0))), (q4, .inl (kA 0, 24, .inl (fun _ => 0))), (q5, .inl (kA 0, 8, .inl (fun _ => 0))), (q6, .inl (kA 0, 1402, .inl (fun _ => 0))), (q7, .inl (kA 0, 1402, .inl (fun _ => 0)))]) t_Mod_ok n_Mod rfl 1 (by decide) ⟨0, rfl, rfl⟩ fl_Mod_35 d_Mod_init_73 rfl rfl rfl (Nat.le_of_ble_eq_true rfl) rfl ?_
  exact v_vretA C rfl d_Mod_init_76 ⟨rfl, fn8 q0 q1 q2 q3 q4 q5 q6 q7, (mw0 kA h (fn8 q0 q1 q2 q3 q4 q5 q6 q7)).symm⟩

noncomputable def N0 : Nat → Nd := fun j => nd (fun _ => ZK) (fun _ => 0) 0 0 (j + 1) 0
noncomputable def T0 : TS := (uN N0 0 (nd (fun _ => ZK) (fun _ => 0) 0 1 NONE 0), scf 1 0 ZK ZK 0 0)
theorem tw0 (kA : Nat → ClassId) (h : Nat) (a : Nat → Nat) : tw kA h a N0 0 0 ZK ZK 0 0 = [(h, .inr (0, [.ref (a 0), .ref (a 1), .ref (a 2), .ref (a 3), .ref (a 4), .ref (a 5), .int (nI 0), .int 0, .ref (a 6), .ref (a 7), .int 0, .int 0])), (a 0, .inl (kA 0, 13500, .inl (fun _ => 0))), (a 1, .inl (kA 0, 5500, .inl (fun _ => 0))), (a 2, .inl (kA 0, 500, .inl (fun _ => 0))), (a 3, .inl (kA 1, 500, .inl (fun _ => 0))), (a 4, .inl (kA 0, 500, .inl (fun j => nI (j + 1)))), (a 5, .inl (kA 0, 500, .inl (fun _ => 0))), (a 6, .inl (kA 0, 3, .inl (fun _ => 0))), (a 7, .inl (kA 0, 3, .inl (fun _ => 0)))] := by
  unfold tw
  rw [ZK_dc, show keysF N0 = fun _ => 0 from by funext j; unfold keysF; rw [show nK (N0 (j / 27)) (j % 27 / 3) = ZK from rfl, ZK_dc]]
  rfl
theorem FL_rng {N : Nat → Nd} (hN : ∀ j, 0 < j → nx (N j) = j + 1) : ∀ (n a : Nat), 0 < a → a + n = 500 → FL N a (List.range' a n)
  | 0, a, _, h => by show a = 500; omega
  | n + 1, a, h0, h => ⟨rfl, by rw [hN a h0]; exact FL_rng hN n (a + 1) (by omega) (by omega)⟩
theorem T0_TI : TI T0.1 (T0.2 0) (T0.2 1) 0 [] := by
  have e0 : T0.1 0 = nd (fun _ => ZK) (fun _ => 0) 0 1 NONE 0 := (uN_self : uN N0 0 (nd (fun _ => ZK) (fun _ => 0) 0 1 NONE 0) 0 = nd (fun _ => ZK) (fun _ => 0) 0 1 NONE 0)
  refine ⟨?_, ?_, List.range' 1 499, FL_rng (fun j hj => ?_) 499 1 (by decide) (by decide), ?_, fun m hm => ?_, ?_⟩
  · show nl (T0.1 0) = 1 ∧ _ ≤ nc (T0.1 0) ∧ nc (T0.1 0) ≤ 7 ∧ ns (T0.1 0) = nc (T0.1 0) ∧ nx (T0.1 0) = NONE ∧ (∀ k, k < nc (T0.1 0) → 0 ≤ nK (T0.1 0) k ∧ nK (T0.1 0) k < TOP) ∧ ∀ k, k + 1 < nc (T0.1 0) → nK (T0.1 0) k < nK (T0.1 0) (k + 1)
    rw [e0]
    exact ⟨rfl, Nat.le_refl _, Nat.zero_le _, rfl, rfl, fun k hk => absurd hk (Nat.not_lt_zero k), fun k hk => absurd hk (Nat.not_lt_zero _)⟩
  · show ksO T0.1 0 = []
    unfold ksO
    rw [e0]; rfl
  · show nx (uN N0 0 _ j) = j + 1
    rw [uN_ne (by omega)]; rfl
  · show ([0] ++ List.range' 1 499).Nodup
    exact List.nodup_range' (s := 0) (n := 500)
  · have hm : m ∈ List.range' 0 500 := hm
    rw [List.mem_range'_1] at hm
    omega
  · show ([0] ++ List.range' 1 499).length = 500
    simp
theorem v_arr {p : Program} {l : Launch} {e : Env} {R : Room} {s : State} {m : MethodId} {args : Array Value} {below : List Frame} {meth : Method} {c : Code} {D : va_G} {A : Nat → Prop} {nL cells slots : Nat} {Q : State → Prop} {pc : Nat} {vs st : List Value} {ws ws' : va_W} {a N : Nat} {cA : ClassId} {f g : Nat → Int32} (he : Wset ws a (.inl (cA, N, .inl f)) (.inl (cA, N, .inl g)) ws') (h : ∀ j, j < N → g j = f j) (kk : V p l e R s m args below meth c D A nL cells slots Q pc vs st ws') : V p l e R s m args below meth c D A nL cells slots Q pc vs st ws := fun H locs ls h1 h2 h3 h4 => by
  obtain ⟨q0, h0, rfl⟩ := he
  have hl := (List.getElem?_eq_some_iff.mp h0).1
  refine kk H locs ls (fun k q hk => ?_) (h2.set h0) h3 h4
  by_cases hq : q0 = k
  · subst hq
    rw [List.getElem?_set_self hl] at hk
    cases hk
    have := h1 q0 _ h0
    show H[a]? = some (vp_cell _ _)
    rw [← cell_ext (f := f) (g := g) h]
    exact this
  · rw [List.getElem?_set_ne hq] at hk
    exact h1 k q hk

set_option maxHeartbeats 800000 in
set_option maxRecDepth 20000 in
theorem c_Tree_init (l : Launch) (D : va_G) (kA : Nat → ClassId) (h : Nat) (sz : Nat) : CtA l D kA rmT 8 21006 sz y_Tree_init b_Tree_init 2 none [.ref h] [(h, .inr (0, [.null, .null, .null, .null, .null, .null, .int 0, .int 0, .null, .null, .int 0, .int 0]))] (pV fun w => ∃ a : Nat → Nat, w = tws kA h a T0) := by
  refine ct_ofA (by decide) (Nat.le_of_ble_eq_true rfl) rfl ?_
  intro pg en s0 m0 args below meth cod C hO hnm0 hA
  have hnm : meth.name = "<init>" := hnm0
  refine v_aload_n C d_Tree_init_0 rfl ?_
  refine v_obj C ml_Tree_3 d_Tree_init_1 ⟨(Nat.le_of_ble_eq_true rfl), (Nat.le_of_ble_eq_true rfl)⟩ rfl ?_
  refine v_aload_n C d_Tree_init_4 rfl ?_
  refine v_sipush C d_Tree_init_5 (nI 13500) (by decide) ?_
  refine v_newi C hA (by decide) (Nat.le_of_ble_eq_true rfl) (Nat.le_of_ble_eq_true rfl) d_Tree_init_8 (fun q0 => ?_)
  refine v_putF C hnm i_Tree (ci := 0) (ws' := [(h, .inr (0, [.ref q0, .null, .null, .null, .null, .null, .int 0, .int 0, .null, .null, .int 0, .int 0])), (q0, .inl (kA 0, 13500, .inl (fun _ => 0)))]) t_Tree_ok n_Tree rfl 0 (by decide) ⟨0, rfl, rfl⟩ fl_Tree_9 d_Tree_init_10 rfl rfl rfl rfl (Nat.le_of_ble_eq_true rfl) rfl ?_
  refine v_aload_n C d_Tree_init_13 rfl ?_
  refine v_sipush C d_Tree_init_14 (nI 5500) (by decide) ?_
  refine v_newi C hA (by decide) (Nat.le_of_ble_eq_true rfl) (Nat.le_of_ble_eq_true rfl) d_Tree_init_17 (fun q1 => ?_)
  refine v_putF C hnm i_Tree (ci := 0) (ws' := [(h, .inr (0, [.ref q0, .ref q1, .null, .null, .null, .null, .int 0, .int 0, .null, .null, .int 0, .int 0])), (q0, .inl (kA 0, 13500, .inl (fun _ => 0))), (q1, .inl (kA 0, 5500, .inl (fun _ => 0)))]) t_Tree_ok n_Tree rfl 1 (by decide) ⟨0, rfl, rfl⟩ fl_Tree_15 d_Tree_init_19 rfl rfl rfl rfl (Nat.le_of_ble_eq_true rfl) rfl ?_
  refine v_aload_n C d_Tree_init_22 rfl ?_
  refine v_sipush C d_Tree_init_23 (nI 500) (by decide) ?_
  refine v_newi C hA (by decide) (Nat.le_of_ble_eq_true rfl) (Nat.le_of_ble_eq_true rfl) d_Tree_init_26 (fun q2 => ?_)
  refine v_putF C hnm i_Tree (ci := 0) (ws' := [(h, .inr (0, [.ref q0, .ref q1, .ref q2, .null, .null, .null, .int 0, .int 0, .null, .null, .int 0, .int 0])), (q0, .inl (kA 0, 13500, .inl (fun _ => 0))), (q1, .inl (kA 0, 5500, .inl (fun _ => 0))), (q2, .inl (kA 0, 500, .inl (fun _ => 0)))]) t_Tree_ok n_Tree rfl 2 (by decide) ⟨0, rfl, rfl⟩ fl_Tree_18 d_Tree_init_28 rfl rfl rfl rfl (Nat.le_of_ble_eq_true rfl) rfl ?_
  refine v_aload_n C d_Tree_init_31 rfl ?_
  refine v_sipush C d_Tree_init_32 (nI 500) (by decide) ?_
  refine v_newz C hA (by decide) (Nat.le_of_ble_eq_true rfl) (Nat.le_of_ble_eq_true rfl) d_Tree_init_35 (fun q3 => ?_)
  refine v_putF C hnm i_Tree (ci := 0) (ws' := [(h, .inr (0, [.ref q0, .ref q1, .ref q2, .ref q3, .null, .null, .int 0, .int 0, .null, .null, .int 0, .int 0])), (q0, .inl (kA 0, 13500, .inl (fun _ => 0))), (q1, .inl (kA 0, 5500, .inl (fun _ => 0))), (q2, .inl (kA 0, 500, .inl (fun _ => 0))), (q3, .inl (kA 1, 500, .inl (fun _ => 0)))]) t_Tree_ok n_Tree rfl 3 (by decide) ⟨0, rfl, rfl⟩ fl_Tree_21 d_Tree_init_37 rfl rfl rfl rfl (Nat.le_of_ble_eq_true rfl) rfl ?_
  refine v_aload_n C d_Tree_init_40 rfl ?_
  refine v_sipush C d_Tree_init_41 (nI 500) (by decide) ?_
  refine v_newi C hA (by decide) (Nat.le_of_ble_eq_true rfl) (Nat.le_of_ble_eq_true rfl) d_Tree_init_44 (fun q4 => ?_)
  refine v_putF C hnm i_Tree (ci := 0) (ws' := [(h, .inr (0, [.ref q0, .ref q1, .ref q2, .ref q3, .ref q4, .null, .int 0, .int 0, .null, .null, .int 0, .int 0])), (q0, .inl (kA 0, 13500, .inl (fun _ => 0))), (q1, .inl (kA 0, 5500, .inl (fun _ => 0))), (q2, .inl (kA 0, 500, .inl (fun _ => 0))), (q3, .inl (kA 1, 500, .inl (fun _ => 0))), (q4, .inl (kA 0, 500, .inl (fun _ => 0)))]) t_Tree_ok n_Tree rfl 4 (by decide) ⟨0, rfl, rfl⟩ fl_Tree_25 d_Tree_init_46 rfl rfl rfl rfl (Nat.le_of_ble_eq_true rfl) rfl ?_
  refine v_aload_n C d_Tree_init_49 rfl ?_
  refine v_sipush C d_Tree_init_50 (nI 500) (by decide) ?_
  refine v_newi C hA (by decide) (Nat.le_of_ble_eq_true rfl) (Nat.le_of_ble_eq_true rfl) d_Tree_init_53 (fun q5 => ?_)
  refine v_putF C hnm i_Tree (ci := 0) (ws' := [(h, .inr (0, [.ref q0, .ref q1, .ref q2, .ref q3, .ref q4, .ref q5, .int 0, .int 0, .null, .null, .int 0, .int 0])), (q0, .inl (kA 0, 13500, .inl (fun _ => 0))), (q1, .inl (kA 0, 5500, .inl (fun _ => 0))), (q2, .inl (kA 0, 500, .inl (fun _ => 0))), (q3, .inl (kA 1, 500, .inl (fun _ => 0))), (q4, .inl (kA 0, 500, .inl (fun _ => 0))), (q5, .inl (kA 0, 500, .inl (fun _ => 0)))]) t_Tree_ok n_Tree rfl 5 (by decide) ⟨0, rfl, rfl⟩ fl_Tree_28 d_Tree_init_55 rfl rfl rfl rfl (Nat.le_of_ble_eq_true rfl) rfl ?_
  refine v_aload_n C d_Tree_init_58 rfl ?_
  refine v_iconst C d_Tree_init_59 (nI 3) (by decide) ?_
  refine v_newi C hA (by decide) (Nat.le_of_ble_eq_true rfl) (Nat.le_of_ble_eq_true rfl) d_Tree_init_60 (fun q6 => ?_)
  refine v_putF C hnm i_Tree (ci := 0) (ws' := [(h, .inr (0, [.ref q0, .ref q1, .ref q2, .ref q3, .ref q4, .ref q5, .int 0, .int 0, .ref q6, .null, .int 0, .int 0])), (q0, .inl (kA 0, 13500, .inl (fun _ => 0))), (q1, .inl (kA 0, 5500, .inl (fun _ => 0))), (q2, .inl (kA 0, 500, .inl (fun _ => 0))), (q3, .inl (kA 1, 500, .inl (fun _ => 0))), (q4, .inl (kA 0, 500, .inl (fun _ => 0))), (q5, .inl (kA 0, 500, .inl (fun _ => 0))), (q6, .inl (kA 0, 3, .inl (fun _ => 0)))]) t_Tree_ok n_Tree rfl 8 (by decide) ⟨0, rfl, rfl⟩ fl_Tree_31 d_Tree_init_62 rfl rfl rfl rfl (Nat.le_of_ble_eq_true rfl) rfl ?_
  refine v_aload_n C d_Tree_init_65 rfl ?_
  refine v_iconst C d_Tree_init_66 (nI 3) (by decide) ?_
  refine v_newi C hA (by decide) (Nat.le_of_ble_eq_true rfl) (Nat.le_of_ble_eq_true rfl) d_Tree_init_67 (fun q7 => ?_)
  refine v_putF C hnm i_Tree (ci := 0) (ws' := [(h, .inr (0, [.ref q0, .ref q1, .ref q2, .ref q3, .ref q4, .ref q5, .int 0, .int 0, .ref q6, .ref q7, .int 0, .int 0])), (q0, .inl (kA 0, 13500, .inl (fun _ => 0))), (q1, .inl (kA 0, 5500, .inl (fun _ => 0))), (q2, .inl (kA 0, 500, .inl (fun _ => 0))), (q3, .inl (kA 1, 500, .inl (fun _ => 0))), (q4, .inl (kA 0, 500, .inl (fun _ => 0))), (q5, .inl (kA 0, 500, .inl (fun _ => 0))), (q6, .inl (kA 0, 3, .inl (fun _ => 0))), (q7, .inl (kA 0, 3, .inl (fun _ => 0)))]) t_Tree_ok n_Tree rfl 9 (by decide) ⟨0, rfl, rfl⟩ fl_Tree_34 d_Tree_init_69 rfl rfl rfl rfl (Nat.le_of_ble_eq_true rfl) rfl ?_
  refine v_iconst C d_Tree_init_72 (nI 0) (by decide) ?_
  refine v_istore_n C d_Tree_init_73 ⟨(Nat.le_of_ble_eq_true rfl), (Nat.le_of_ble_eq_true rfl)⟩ [.ref h, .int (nI 0)] rfl ?_
  refine v_arr (ws' := [(h, .inr (0, [.ref q0, .ref q1, .ref q2, .ref q3, .ref q4, .ref q5, .int 0, .int 0, .ref q6, .ref q7, .int 0, .int 0])), (q0, .inl (kA 0, 13500, .inl (fun _ => 0))), (q1, .inl (kA 0, 5500, .inl (fun _ => 0))), (q2, .inl (kA 0, 500, .inl (fun _ => 0))), (q3, .inl (kA 1, 500, .inl (fun _ => 0))), (q4, .inl (kA 0, 500, .inl (fun j => if j < 0 then nI (j + 1) else 0))), (q5, .inl (kA 0, 500, .inl (fun _ => 0))), (q6, .inl (kA 0, 3, .inl (fun _ => 0))), (q7, .inl (kA 0, 3, .inl (fun _ => 0)))]) ⟨5, rfl, rfl⟩ (fun j _ => by rw [if_neg (Nat.not_lt_zero j)]) ?_
  refine v_cells (a := 8) (b := 21006) rfl rfl ?_
  have lp : ∀ (t9 k : Nat), 500 - k < t9 → k ≤ 500 → V pg l en rmT s0 m0 args below meth cod D (va_A [(h, .inr (0, [.null, .null, .null, .null, .null, .null, .int 0, .int 0, .null, .null, .int 0, .int 0]))] sz) 2 8 21006 (MQ below (QA D [(h, .inr (0, [.null, .null, .null, .null, .null, .null, .int 0, .int 0, .null, .null, .int 0, .int 0]))] sz (pV fun w => ∃ a : Nat → Nat, w = tws kA h a T0)) args s0 8 21006 (va_A [(h, .inr (0, [.null, .null, .null, .null, .null, .null, .int 0, .int 0, .null, .null, .int 0, .int 0]))] sz)) 74 [.ref h, .int (nI k)] [] [(h, .inr (0, [.ref q0, .ref q1, .ref q2, .ref q3, .ref q4, .ref q5, .int 0, .int 0, .ref q6, .ref q7, .int 0, .int 0])), (q0, .inl (kA 0, 13500, .inl (fun _ => 0))), (q1, .inl (kA 0, 5500, .inl (fun _ => 0))), (q2, .inl (kA 0, 500, .inl (fun _ => 0))), (q3, .inl (kA 1, 500, .inl (fun _ => 0))), (q4, .inl (kA 0, 500, .inl (fun j => if j < k then nI (j + 1) else 0))), (q5, .inl (kA 0, 500, .inl (fun _ => 0))), (q6, .inl (kA 0, 3, .inl (fun _ => 0))), (q7, .inl (kA 0, 3, .inl (fun _ => 0)))] := by
    intro t9
    induction t9 with
    | zero => intro k hk; omega
    | succ t9 ih =>
      intro k hk hk5
      refine v_iload_n C d_Tree_init_74 rfl ?_
      refine v_aload_n C d_Tree_init_75 rfl ?_
      refine v_getf C i_Tree (ci := 0) rfl 4 (by decide) (List.mem_of_getElem? (i := 0) rfl) fl_Tree_25 d_Tree_init_76 (.ref q4) rfl ?_
      refine v_alen C (N := 500) (List.mem_of_getElem? (i := 5) rfl) (t0 := 0) rfl rfl d_Tree_init_79 ?_
      refine v_icmp_ge C d_Tree_init_80 98 (by decide) (by omega) (by decide) (fun ck => ?_) (fun ck => ?_)
      · obtain rfl : k = 500 := by omega
        refine v_arr (ws' := [(h, .inr (0, [.ref q0, .ref q1, .ref q2, .ref q3, .ref q4, .ref q5, .int 0, .int 0, .ref q6, .ref q7, .int 0, .int 0])), (q0, .inl (kA 0, 13500, .inl (fun _ => 0))), (q1, .inl (kA 0, 5500, .inl (fun _ => 0))), (q2, .inl (kA 0, 500, .inl (fun _ => 0))), (q3, .inl (kA 1, 500, .inl (fun _ => 0))), (q4, .inl (kA 0, 500, .inl (fun j => nI (j + 1)))), (q5, .inl (kA 0, 500, .inl (fun _ => 0))), (q6, .inl (kA 0, 3, .inl (fun _ => 0))), (q7, .inl (kA 0, 3, .inl (fun _ => 0)))]) ⟨5, rfl, rfl⟩ (fun j hj => by rw [if_pos hj]) ?_
        refine v_aload_n C d_Tree_init_98 rfl ?_
        refine v_iconst C d_Tree_init_99 (nI 0) (by decide) ?_
        refine v_putf C i_Tree (ci := 0) (ws' := [(h, .inr (0, [.ref q0, .ref q1, .ref q2, .ref q3, .ref q4, .ref q5, .int (nI 0), .int 0, .ref q6, .ref q7, .int 0, .int 0])), (q0, .inl (kA 0, 13500, .inl (fun _ => 0))), (q1, .inl (kA 0, 5500, .inl (fun _ => 0))), (q2, .inl (kA 0, 500, .inl (fun _ => 0))), (q3, .inl (kA 1, 500, .inl (fun _ => 0))), (q4, .inl (kA 0, 500, .inl (fun j => nI (j + 1)))), (q5, .inl (kA 0, 500, .inl (fun _ => 0))), (q6, .inl (kA 0, 3, .inl (fun _ => 0))), (q7, .inl (kA 0, 3, .inl (fun _ => 0)))]) t_Tree_ok n_Tree rfl 6 (by decide) ⟨0, rfl, rfl⟩ fl_Tree_37 d_Tree_init_100 rfl rfl rfl (Nat.le_of_ble_eq_true rfl) rfl ?_
        refine v_aload_n C d_Tree_init_103 rfl ?_
        refine v_aload_n C d_Tree_init_104 rfl ?_
        refine v_iconst C d_Tree_init_105 (nI 1) (by decide) ?_
        refine v_ws (ws' := [] ++ (tw kA h (fn8 q0 q1 q2 q3 q4 q5 q6 q7) N0 0 0 ZK ZK 0 0 ++ [])) (by rw [List.nil_append, List.append_nil, tw0]; rfl) ?_
        refine v_callV C (As := [.int (nI 1)]) (st := [.ref h]) (c_Tree_make l D kA h (fn8 q0 q1 q2 q3 q4 q5 q6 q7) N0 0 0 ZK ZK 0 0 1 (by decide) (by decide)) cv_Tree_make.1 cv_Tree_make.2.1 cv_Tree_make.2.2 ml_Tree_41 d_Tree_init_106 ⟨(Nat.le_of_ble_eq_true rfl), (Nat.le_of_ble_eq_true rfl)⟩ tw_rcv rfl rfl (okSt.to rfl) ⟨(Nat.le_of_ble_eq_true rfl), (Nat.le_of_ble_eq_true rfl)⟩ (fun r w hr => ?_)
        obtain ⟨x, rfl, rfl, rfl⟩ := hr
        refine v_ws (ws' := tw kA h (fn8 q0 q1 q2 q3 q4 q5 q6 q7) T0.1 1 0 ZK ZK 0 0) (by rw [List.nil_append, List.append_nil]; rfl) ?_
        refine v_putf C i_Tree (ci := 0) (ws' := tw kA h (fn8 q0 q1 q2 q3 q4 q5 q6 q7) T0.1 1 0 ZK ZK 0 0) t_Tree_ok n_Tree rfl 7 (by decide) ⟨0, rfl, rfl⟩ fl_Tree_45 d_Tree_init_109 rfl rfl rfl (Nat.le_of_ble_eq_true rfl) rfl ?_
        exact v_vretA C rfl d_Tree_init_112 ⟨rfl, (fn8 q0 q1 q2 q3 q4 q5 q6 q7), rfl⟩
      · refine v_aload_n C d_Tree_init_83 rfl ?_
        refine v_getf C i_Tree (ci := 0) rfl 4 (by decide) (List.mem_of_getElem? (i := 0) rfl) fl_Tree_25 d_Tree_init_84 (.ref q4) rfl ?_
        refine v_iload_n C d_Tree_init_87 rfl ?_
        refine v_iload_n C d_Tree_init_88 rfl ?_
        refine v_iconst C d_Tree_init_89 (nI 1) (by decide) ?_
        refine v_iadd C d_Tree_init_90 ?_
        refine v_iast C (ws' := [(h, .inr (0, [.ref q0, .ref q1, .ref q2, .ref q3, .ref q4, .ref q5, .int 0, .int 0, .ref q6, .ref q7, .int 0, .int 0])), (q0, .inl (kA 0, 13500, .inl (fun _ => 0))), (q1, .inl (kA 0, 5500, .inl (fun _ => 0))), (q2, .inl (kA 0, 500, .inl (fun _ => 0))), (q3, .inl (kA 1, 500, .inl (fun _ => 0))), (q4, .inl (kA 0, 500, .inl (fun j => if j < (k + 1) then nI (j + 1) else 0))), (q5, .inl (kA 0, 500, .inl (fun _ => 0))), (q6, .inl (kA 0, 3, .inl (fun _ => 0))), (q7, .inl (kA 0, 3, .inl (fun _ => 0)))]) ⟨5, rfl, rfl⟩ ck (by decide) d_Tree_init_91 (fun j hj => ?_) ?_
        · by_cases e : j = k
          · subst e; rw [if_pos rfl, if_pos (by omega)]
          · rw [if_neg e]
            by_cases e2 : j < k
            · rw [if_pos e2, if_pos (by omega)]
            · rw [if_neg e2, if_neg (by omega)]
        refine v_iinc C d_Tree_init_92 rfl ⟨(Nat.le_of_ble_eq_true rfl), (Nat.le_of_ble_eq_true rfl)⟩ (nI (k + 1)) (inc1 _) [.ref h, .int (nI (k + 1))] rfl ?_
        refine v_goto C d_Tree_init_95 74 (by decide) ?_
        exact ih (k + 1) (by omega) (by omega)
  exact lp 501 0 (by omega) (by omega)
