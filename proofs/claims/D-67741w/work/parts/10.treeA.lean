section TWS
variable {kA : Nat → ClassId} {h : Nat} {a : Nat → Nat} {N : Nat → Nd} {fr rt ky up fl fp n k v : Nat}
theorem tw_sK : Wset (tw kA h a N fr rt ky up fl fp) (a 0) (.inl (kA 0, 13500, .inl (keysF N))) (.inl (kA 0, 13500, .inl (keysF (sK N n k v)))) (tw kA h a (sK N n k v) fr rt ky up fl fp) := ⟨1, rfl, by simp only [tw, List.set, kidsF_sK, cntF_sK, leafF_sK, nxtF_sK, sizF_sK]⟩
theorem tw_sC : Wset (tw kA h a N fr rt ky up fl fp) (a 1) (.inl (kA 0, 5500, .inl (kidsF N))) (.inl (kA 0, 5500, .inl (kidsF (sC N n k v)))) (tw kA h a (sC N n k v) fr rt ky up fl fp) := ⟨2, rfl, by simp only [tw, List.set, keysF_sC, cntF_sC, leafF_sC, nxtF_sC, sizF_sC]⟩
theorem tw_sc : Wset (tw kA h a N fr rt ky up fl fp) (a 2) (.inl (kA 0, 500, .inl (cntF N))) (.inl (kA 0, 500, .inl (cntF (sc N n v)))) (tw kA h a (sc N n v) fr rt ky up fl fp) := ⟨3, rfl, by simp only [tw, List.set, keysF_sc, kidsF_sc, leafF_sc, nxtF_sc, sizF_sc]⟩
theorem tw_sl : Wset (tw kA h a N fr rt ky up fl fp) (a 3) (.inl (kA 1, 500, .inl (leafF N))) (.inl (kA 1, 500, .inl (leafF (sl N n v)))) (tw kA h a (sl N n v) fr rt ky up fl fp) := ⟨4, rfl, by simp only [tw, List.set, keysF_sl, kidsF_sl, cntF_sl, nxtF_sl, sizF_sl]⟩
theorem tw_sx : Wset (tw kA h a N fr rt ky up fl fp) (a 4) (.inl (kA 0, 500, .inl (nxtF N))) (.inl (kA 0, 500, .inl (nxtF (sx N n v)))) (tw kA h a (sx N n v) fr rt ky up fl fp) := ⟨5, rfl, by simp only [tw, List.set, keysF_sx, kidsF_sx, cntF_sx, leafF_sx, sizF_sx]⟩
theorem tw_ss : Wset (tw kA h a N fr rt ky up fl fp) (a 5) (.inl (kA 0, 500, .inl (sizF N))) (.inl (kA 0, 500, .inl (sizF (ss N n v)))) (tw kA h a (ss N n v) fr rt ky up fl fp) := ⟨6, rfl, by simp only [tw, List.set, keysF_ss, kidsF_ss, cntF_ss, leafF_ss, nxtF_ss]⟩
end TWS
theorem keysF_cp {N : Nat → Nd} {f i t j : Nat} (hi : i < 9) (hj : j < 9) (q : Nat) : keysF (sK N t j (nK (N f) i)) q = va_cpy (keysF N) (keysF N) (27 * f + 3 * i) (27 * t + 3 * j) 3 q := by
  rw [keysF_sK hj]
  unfold va_cpy
  split
  · next h => rw [keysF_at hi (by omega)]
  · rfl
theorem keysF_pt {N : Nat → Nd} {n k v : Nat} (hk : k < 9) (q : Nat) : keysF (sK N n k v) q = va_cpy (dc v) (keysF N) 0 (27 * n + 3 * k) 3 q := by
  rw [keysF_sK hk]
  unfold va_cpy
  split
  · rw [Nat.zero_add]
  · rfl
theorem dc_w0 (x : Int32) (ky : Nat) (j : Nat) (hj : j < 3) : dc (enc x (dc ky 1) (dc ky 2)) j = if j = 0 then x else dc ky j := by
  rcases (show j = 0 ∨ j = 1 ∨ j = 2 by omega) with rfl | rfl | rfl
  · simp [dc_enc0]
  · simp [dc_enc1]
  · simp [dc_enc2]
theorem dc_w1 (x y : Int32) (ky : Nat) (j : Nat) (hj : j < 3) : dc (enc x y (dc ky 2)) j = if j = 1 then y else dc (enc x (dc ky 1) (dc ky 2)) j := by
  rcases (show j = 0 ∨ j = 1 ∨ j = 2 by omega) with rfl | rfl | rfl
  · simp [dc_enc0]
  · simp [dc_enc1]
  · simp [dc_enc2]
theorem dc_w2 (x y z : Int32) (ky : Nat) (j : Nat) (hj : j < 3) : dc (enc x y z) j = if j = 2 then z else dc (enc x y (dc ky 2)) j := by
  rcases (show j = 0 ∨ j = 1 ∨ j = 2 by omega) with rfl | rfl | rfl
  · simp [dc_enc0]
  · simp [dc_enc1]
  · simp [dc_enc2]

set_option maxHeartbeats 4000000 in
set_option maxRecDepth 20000 in
theorem c_Tree_place (l : Launch) (D : va_G) (kA : Nat → ClassId) (h : Nat) (a : Nat → Nat) (N : Nat → Nd) (fr rt ky up fl fp : Nat) (n k : Nat) : Ct l D kA 0 y_Tree_place b_Tree_place 3 (some .int) [.ref h, .int (nI n), .int (nI k)] (tw kA h a N fr rt ky up fl fp) (pI fun x w => x = nI (27 * n + 3 * k) ∧ w = (tw kA h a N fr rt ky up fl fp)) := by
  refine ct_of (by decide) (Nat.le_of_ble_eq_true rfl) rfl ?_
  intro p e s m args below meth c C
  refine v_bipush C d_Tree_place_0 (nI 27) (by decide) ?_
  refine v_iload_n C d_Tree_place_2 rfl ?_
  refine v_imul C d_Tree_place_3 ?_
  refine v_iconst C d_Tree_place_4 (nI 3) (by decide) ?_
  refine v_iload_n C d_Tree_place_5 rfl ?_
  refine v_imul C d_Tree_place_6 ?_
  refine v_iadd C d_Tree_place_7 ?_
  refine v_top (y := nI (27 * n + 3 * k)) (congrArg nI (show (27 * n) + (3 * k) = 27 * n + 3 * k from rfl)) ?_
  exact v_iret C rfl d_Tree_place_8 (⟨_, rfl, rfl, rfl⟩)

set_option maxHeartbeats 4000000 in
set_option maxRecDepth 20000 in
theorem c_Tree_kid (l : Launch) (D : va_G) (kA : Nat → ClassId) (h : Nat) (a : Nat → Nat) (N : Nat → Nd) (fr rt ky up fl fp : Nat) (n k : Nat) (hn : n < 500) (hk : k < 11) : Ct l D kA 0 y_Tree_kid b_Tree_kid 3 (some .int) [.ref h, .int (nI n), .int (nI k)] (tw kA h a N fr rt ky up fl fp) (pI fun x w => x = nI (nC (N n) k) ∧ w = (tw kA h a N fr rt ky up fl fp)) := by
  refine ct_of (by decide) (Nat.le_of_ble_eq_true rfl) rfl ?_
  intro p e s m args below meth c C
  refine v_aload_n C d_Tree_kid_0 rfl ?_
  refine v_getf C i_Tree (ci := 0) rfl 1 (by decide) (List.mem_of_getElem? (i := 0) rfl) fl_Tree_15 d_Tree_kid_1 (.ref (a 1)) rfl ?_
  refine v_bipush C d_Tree_kid_4 (nI 11) (by decide) ?_
  refine v_iload_n C d_Tree_kid_6 rfl ?_
  refine v_imul C d_Tree_kid_7 ?_
  refine v_iload_n C d_Tree_kid_8 rfl ?_
  refine v_iadd C d_Tree_kid_9 ?_
  refine v_iald C (List.mem_of_getElem? (i := 2) rfl) (by omega) (by decide) d_Tree_kid_10 (nI (nC (N n) k)) (kidsF_at (by omega)) ?_
  exact v_iret C rfl d_Tree_kid_11 (⟨_, rfl, rfl, rfl⟩)

set_option maxHeartbeats 4000000 in
set_option maxRecDepth 20000 in
theorem c_Tree_part (l : Launch) (D : va_G) (kA : Nat → ClassId) (h : Nat) (a : Nat → Nat) (N : Nat → Nd) (fr rt ky up fl fp : Nat) (n k i : Nat) (hn : n < 500) (hk : k < 9) (hi : i < 3) : Ct l D kA 1 y_Tree_part b_Tree_part 4 (some .int) [.ref h, .int (nI n), .int (nI k), .int (nI i)] (tw kA h a N fr rt ky up fl fp) (pI fun x w => x = dc (nK (N n) k) i ∧ w = (tw kA h a N fr rt ky up fl fp)) := by
  refine ct_of (by decide) (Nat.le_of_ble_eq_true rfl) rfl ?_
  intro p e s m args below meth c C
  refine v_aload_n C d_Tree_part_0 rfl ?_
  refine v_getf C i_Tree (ci := 0) rfl 0 (by decide) (List.mem_of_getElem? (i := 0) rfl) fl_Tree_9 d_Tree_part_1 (.ref (a 0)) rfl ?_
  refine v_aload_n C d_Tree_part_4 rfl ?_
  refine v_iload_n C d_Tree_part_5 rfl ?_
  refine v_iload_n C d_Tree_part_6 rfl ?_
  refine v_cI C (As := [.int (nI n), .int (nI k)]) (st := [.ref (a 0)]) (c_Tree_place l D kA h a N fr rt ky up fl fp n k) cv_Tree_place ml_Tree_48 d_Tree_part_7 ⟨by omega, by decide⟩ tw_rcv ⟨rfl, rfl⟩ rfl ?_
  rintro _ _ ⟨rfl, rfl⟩
  refine v_iload_n C d_Tree_part_10 rfl ?_
  refine v_iadd C d_Tree_part_11 ?_
  refine v_iald C (List.mem_of_getElem? (i := 1) rfl) (by omega) (by decide) d_Tree_part_12 (dc (nK (N n) k) i) (keysF_at (by omega) (by omega)) ?_
  exact v_iret C rfl d_Tree_part_13 (⟨_, rfl, rfl, rfl⟩)

set_option maxHeartbeats 4000000 in
set_option maxRecDepth 20000 in
theorem c_Tree_compare (l : Launch) (D : va_G) (kA : Nat → ClassId) (h : Nat) (a : Nat → Nat) (N : Nat → Nd) (fr rt ky up fl fp : Nat) (n k : Nat) (hn : n < 500) (hk : k < 9) (hK : nK (N n) k < TOP) (hky : ky < TOP) : Ct l D kA 1 y_Tree_compare b_Tree_compare 5 (some .int) [.ref h, .int (nI n), .int (nI k)] (tw kA h a N fr rt ky up fl fp) (pI fun x w => x = cmpI (nK (N n) k) ky ∧ w = (tw kA h a N fr rt ky up fl fp)) := by
  refine ct_of (by decide) (Nat.le_of_ble_eq_true rfl) rfl ?_
  intro p e s m args below meth c C
  refine v_aload_n C d_Tree_compare_0 rfl ?_
  refine v_iload_n C d_Tree_compare_1 rfl ?_
  refine v_iload_n C d_Tree_compare_2 rfl ?_
  refine v_cI C (As := [.int (nI n), .int (nI k)]) (st := []) (c_Tree_place l D kA h a N fr rt ky up fl fp n k) cv_Tree_place ml_Tree_48 d_Tree_compare_3 ⟨by omega, by decide⟩ tw_rcv ⟨rfl, rfl⟩ rfl ?_
  rintro _ _ ⟨rfl, rfl⟩
  refine v_istore_n C d_Tree_compare_6 ⟨Nat.le_of_ble_eq_true rfl, Nat.le_of_ble_eq_true rfl⟩ [.ref h, .int (nI n), .int (nI k), .int (nI (27 * n + 3 * k))] rfl ?_
  refine v_iconst C d_Tree_compare_7 (nI 0) (by decide) ?_
  refine v_istore C d_Tree_compare_8 ⟨Nat.le_of_ble_eq_true rfl, Nat.le_of_ble_eq_true rfl⟩ [.ref h, .int (nI n), .int (nI k), .int (nI (27 * n + 3 * k)), .int (nI 0)] rfl ?_
  have stp : ∀ i : Nat, i < 3 → (∀ j, j < i → dc (nK (N n) k) j = dc ky j) → (dc (nK (N n) k) i = dc ky i → V p l e (rmk 1) s m args below meth c D (qA (tw kA h a N fr rt ky up fl fp)) 5 0 0 (MQ below (QC D (tw kA h a N fr rt ky up fl fp) (pI fun x w => x = cmpI (nK (N n) k) ky ∧ w = (tw kA h a N fr rt ky up fl fp))) args s 0 0 (qA (tw kA h a N fr rt ky up fl fp))) 10 [.ref h, .int (nI n), .int (nI k), .int (nI (27 * n + 3 * k)), .int (nI (i + 1))] [] (tw kA h a N fr rt ky up fl fp)) → V p l e (rmk 1) s m args below meth c D (qA (tw kA h a N fr rt ky up fl fp)) 5 0 0 (MQ below (QC D (tw kA h a N fr rt ky up fl fp) (pI fun x w => x = cmpI (nK (N n) k) ky ∧ w = (tw kA h a N fr rt ky up fl fp))) args s 0 0 (qA (tw kA h a N fr rt ky up fl fp))) 10 [.ref h, .int (nI n), .int (nI k), .int (nI (27 * n + 3 * k)), .int (nI i)] [] (tw kA h a N fr rt ky up fl fp) := by
    intro i hi hj kn
    refine v_iload C d_Tree_compare_10 rfl ?_
    refine v_iconst C d_Tree_compare_12 (nI 3) (by decide) ?_
    refine v_icmp_ge C d_Tree_compare_13 66 (by decide) (by omega) (by omega) (fun c_1 => ?_) (fun c_1 => ?_)
    · omega
    · refine v_aload_n C d_Tree_compare_16 rfl ?_
      refine v_getf C i_Tree (ci := 0) rfl 0 (by decide) (List.mem_of_getElem? (i := 0) rfl) fl_Tree_9 d_Tree_compare_17 (.ref (a 0)) rfl ?_
      refine v_iload_n C d_Tree_compare_20 rfl ?_
      refine v_iload C d_Tree_compare_21 rfl ?_
      refine v_iadd C d_Tree_compare_23 ?_
      refine v_iald C (List.mem_of_getElem? (i := 1) rfl) (by omega) (by decide) d_Tree_compare_24 (dc (nK (N n) k) i) (keysF_at (by omega) (by omega)) ?_
      refine v_aload_n C d_Tree_compare_25 rfl ?_
      refine v_getf C i_Tree (ci := 0) rfl 8 (by decide) (List.mem_of_getElem? (i := 0) rfl) fl_Tree_31 d_Tree_compare_26 (.ref (a 6)) rfl ?_
      refine v_iload C d_Tree_compare_29 rfl ?_
      refine v_iald C (List.mem_of_getElem? (i := 7) rfl) (by omega) (by decide) d_Tree_compare_31 (dc ky i) (rfl) ?_
      refine v_icmp_eqR C d_Tree_compare_32 60 (by decide) (fun ce => ?_) (fun ce => ?_)
      · refine v_iinc C d_Tree_compare_60 rfl ⟨Nat.le_of_ble_eq_true rfl, Nat.le_of_ble_eq_true rfl⟩ (nI (i + 1)) (inc1 _) [.ref h, .int (nI n), .int (nI k), .int (nI (27 * n + 3 * k)), .int (nI (i + 1))] rfl ?_
        refine v_goto C d_Tree_compare_63 10 (by decide) ?_
        exact kn ce
      · have hf := dc_first hK hky hi hj ce
        refine v_aload_n C d_Tree_compare_35 rfl ?_
        refine v_getf C i_Tree (ci := 0) rfl 0 (by decide) (List.mem_of_getElem? (i := 0) rfl) fl_Tree_9 d_Tree_compare_36 (.ref (a 0)) rfl ?_
        refine v_iload_n C d_Tree_compare_39 rfl ?_
        refine v_iload C d_Tree_compare_40 rfl ?_
        refine v_iadd C d_Tree_compare_42 ?_
        refine v_iald C (List.mem_of_getElem? (i := 1) rfl) (by omega) (by decide) d_Tree_compare_43 (dc (nK (N n) k) i) (keysF_at (by omega) (by omega)) ?_
        refine v_aload_n C d_Tree_compare_44 rfl ?_
        refine v_getf C i_Tree (ci := 0) rfl 8 (by decide) (List.mem_of_getElem? (i := 0) rfl) fl_Tree_31 d_Tree_compare_45 (.ref (a 6)) rfl ?_
        refine v_iload C d_Tree_compare_48 rfl ?_
        refine v_iald C (List.mem_of_getElem? (i := 7) rfl) (by omega) (by decide) d_Tree_compare_50 (dc ky i) (rfl) ?_
        refine v_icmp_geR C d_Tree_compare_51 58 (by decide) (fun cg => ?_) (fun cg => ?_)
        · refine v_iconst C d_Tree_compare_58 (nI 1) (by decide) ?_
          exact v_iret C rfl d_Tree_compare_59 (⟨_, rfl, by unfold cmpI; rw [if_neg (fun q => Int32.not_lt.mpr cg (hf.1.mp q)), if_neg hf.2]; rfl, rfl⟩)
        · refine v_iconst C d_Tree_compare_54 (-1) (by decide) ?_
          refine v_goto C d_Tree_compare_55 59 (by decide) ?_
          exact v_iret C rfl d_Tree_compare_59 (⟨_, rfl, by unfold cmpI; rw [if_pos (hf.1.mpr (Int32.not_le.mp cg))], rfl⟩)
  refine stp 0 (by decide) (fun j hj => absurd hj (Nat.not_lt_zero j)) (fun e0 => ?_)
  refine stp 1 (by decide) (lt_s lt_0 e0) (fun e1 => ?_)
  refine stp 2 (by decide) (lt_s (lt_s lt_0 e0) e1) (fun e2 => ?_)
  refine v_iload C d_Tree_compare_10 rfl ?_
  refine v_iconst C d_Tree_compare_12 (nI 3) (by decide) ?_
  refine v_icmp_ge C d_Tree_compare_13 66 (by decide) (by decide) (by decide) (fun c_2 => ?_) (fun c_2 => ?_)
  · refine v_iconst C d_Tree_compare_66 (nI 0) (by decide) ?_
    exact v_iret C rfl d_Tree_compare_67 (⟨_, rfl, by unfold cmpI; have := dc_eq hK hky (fun i hi => by rcases (show i = 0 ∨ i = 1 ∨ i = 2 by omega) with rfl | rfl | rfl <;> assumption); rw [if_neg (by omega), if_pos this]; rfl, rfl⟩)
  · omega

set_option maxHeartbeats 4000000 in
set_option maxRecDepth 20000 in
theorem c_Tree_below (l : Launch) (D : va_G) (kA : Nat → ClassId) (h : Nat) (a : Nat → Nat) (N : Nat → Nd) (fr rt ky up fl fp : Nat) (n : Nat) (hn : n < 500) (hc : nc (N n) ≤ 8) (hK : ∀ k, k < nc (N n) → nK (N n) k < TOP) (hky : ky < TOP) : Ct l D kA 2 y_Tree_below b_Tree_below 3 (some .int) [.ref h, .int (nI n)] (tw kA h a N fr rt ky up fl fp) (pI fun x w => ∃ b, x = nI b ∧ b ≤ nc (N n) ∧ (∀ j, j < b → nK (N n) j < ky) ∧ (b < nc (N n) → ky ≤ nK (N n) b) ∧ w = (tw kA h a N fr rt ky up fl fp)) := by
  refine ct_of (by decide) (Nat.le_of_ble_eq_true rfl) rfl ?_
  intro p e s m args below meth c C
  refine v_iconst C d_Tree_below_0 (nI 0) (by decide) ?_
  refine v_istore_n C d_Tree_below_1 ⟨Nat.le_of_ble_eq_true rfl, Nat.le_of_ble_eq_true rfl⟩ [.ref h, .int (nI n), .int (nI 0)] rfl ?_
  have loop : ∀ t b : Nat, nc (N n) - b < t → b ≤ nc (N n) → (∀ j, j < b → nK (N n) j < ky) → V p l e (rmk 2) s m args below meth c D (qA (tw kA h a N fr rt ky up fl fp)) 3 0 0 (MQ below (QC D (tw kA h a N fr rt ky up fl fp) (pI fun x w => ∃ b, x = nI b ∧ b ≤ nc (N n) ∧ (∀ j, j < b → nK (N n) j < ky) ∧ (b < nc (N n) → ky ≤ nK (N n) b) ∧ w = (tw kA h a N fr rt ky up fl fp))) args s 0 0 (qA (tw kA h a N fr rt ky up fl fp))) 2 [.ref h, .int (nI n), .int (nI b)] [] (tw kA h a N fr rt ky up fl fp) := by
    intro t
    induction t with
    | zero => intro b hb; omega
    | succ t ih =>
      intro b hb hle hj
      refine v_iload_n C d_Tree_below_2 rfl ?_
      refine v_aload_n C d_Tree_below_3 rfl ?_
      refine v_getf C i_Tree (ci := 0) rfl 2 (by decide) (List.mem_of_getElem? (i := 0) rfl) fl_Tree_18 d_Tree_below_4 (.ref (a 2)) rfl ?_
      refine v_iload_n C d_Tree_below_7 rfl ?_
      refine v_iald C (List.mem_of_getElem? (i := 3) rfl) (by omega) (by decide) d_Tree_below_8 (nI (nc (N n))) (rfl) ?_
      refine v_icmp_ge C d_Tree_below_9 27 (by decide) (by omega) (by omega) (fun cb => ?_) (fun cb => ?_)
      · refine v_iload_n C d_Tree_below_27 rfl ?_
        exact v_iret C rfl d_Tree_below_28 (⟨_, rfl, b, rfl, by omega, hj, fun q => by omega, rfl⟩)
      · refine v_aload_n C d_Tree_below_12 rfl ?_
        refine v_iload_n C d_Tree_below_13 rfl ?_
        refine v_iload_n C d_Tree_below_14 rfl ?_
        refine v_cI C (As := [.int (nI n), .int (nI b)]) (st := []) (c_Tree_compare l D kA h a N fr rt ky up fl fp n b hn (by omega) (hK b cb) hky) cv_Tree_compare ml_Tree_58 d_Tree_below_15 ⟨by omega, by decide⟩ tw_rcv ⟨rfl, rfl⟩ rfl ?_
        rintro _ _ ⟨rfl, rfl⟩
        refine v_if_geR C d_Tree_below_18 27 (by decide) (fun cc => ?_) (fun cc => ?_)
        · refine v_iload_n C d_Tree_below_27 rfl ?_
          exact v_iret C rfl d_Tree_below_28 (⟨_, rfl, b, rfl, by omega, hj, fun _ => by have := mt cmpI_lt.mpr (Int32.not_lt.mpr cc); omega, rfl⟩)
        · refine v_iinc C d_Tree_below_21 rfl ⟨Nat.le_of_ble_eq_true rfl, Nat.le_of_ble_eq_true rfl⟩ (nI (b + 1)) (inc1 _) [.ref h, .int (nI n), .int (nI (b + 1))] rfl ?_
          refine v_goto C d_Tree_below_24 2 (by decide) ?_
          exact ih (b + 1) (by omega) (by omega) (lt_s hj (cmpI_lt.mp (Int32.not_le.mp cc)))
  exact loop (nc (N n) - 0 + 1) 0 (by omega) (by omega) lt_0

set_option maxHeartbeats 4000000 in
set_option maxRecDepth 20000 in
theorem c_Tree_way (l : Launch) (D : va_G) (kA : Nat → ClassId) (h : Nat) (a : Nat → Nat) (N : Nat → Nd) (fr rt ky up fl fp : Nat) (n : Nat) (hn : n < 500) (hc : nc (N n) ≤ 8) (hK : ∀ k, k < nc (N n) → nK (N n) k < TOP) (hky : ky < TOP) : Ct l D kA 2 y_Tree_way b_Tree_way 3 (some .int) [.ref h, .int (nI n)] (tw kA h a N fr rt ky up fl fp) (pI fun x w => ∃ b, x = nI b ∧ b ≤ nc (N n) ∧ (∀ j, j < b → nK (N n) j ≤ ky) ∧ (b < nc (N n) → ky < nK (N n) b) ∧ w = (tw kA h a N fr rt ky up fl fp)) := by
  refine ct_of (by decide) (Nat.le_of_ble_eq_true rfl) rfl ?_
  intro p e s m args below meth c C
  refine v_iconst C d_Tree_way_0 (nI 0) (by decide) ?_
  refine v_istore_n C d_Tree_way_1 ⟨Nat.le_of_ble_eq_true rfl, Nat.le_of_ble_eq_true rfl⟩ [.ref h, .int (nI n), .int (nI 0)] rfl ?_
  have loop : ∀ t b : Nat, nc (N n) - b < t → b ≤ nc (N n) → (∀ j, j < b → nK (N n) j ≤ ky) → V p l e (rmk 2) s m args below meth c D (qA (tw kA h a N fr rt ky up fl fp)) 3 0 0 (MQ below (QC D (tw kA h a N fr rt ky up fl fp) (pI fun x w => ∃ b, x = nI b ∧ b ≤ nc (N n) ∧ (∀ j, j < b → nK (N n) j ≤ ky) ∧ (b < nc (N n) → ky < nK (N n) b) ∧ w = (tw kA h a N fr rt ky up fl fp))) args s 0 0 (qA (tw kA h a N fr rt ky up fl fp))) 2 [.ref h, .int (nI n), .int (nI b)] [] (tw kA h a N fr rt ky up fl fp) := by
    intro t
    induction t with
    | zero => intro b hb; omega
    | succ t ih =>
      intro b hb hle hj
      refine v_iload_n C d_Tree_way_2 rfl ?_
      refine v_aload_n C d_Tree_way_3 rfl ?_
      refine v_getf C i_Tree (ci := 0) rfl 2 (by decide) (List.mem_of_getElem? (i := 0) rfl) fl_Tree_18 d_Tree_way_4 (.ref (a 2)) rfl ?_
      refine v_iload_n C d_Tree_way_7 rfl ?_
      refine v_iald C (List.mem_of_getElem? (i := 3) rfl) (by omega) (by decide) d_Tree_way_8 (nI (nc (N n))) (rfl) ?_
      refine v_icmp_ge C d_Tree_way_9 27 (by decide) (by omega) (by omega) (fun cb => ?_) (fun cb => ?_)
      · refine v_iload_n C d_Tree_way_27 rfl ?_
        exact v_iret C rfl d_Tree_way_28 (⟨_, rfl, b, rfl, by omega, hj, fun q => by omega, rfl⟩)
      · refine v_aload_n C d_Tree_way_12 rfl ?_
        refine v_iload_n C d_Tree_way_13 rfl ?_
        refine v_iload_n C d_Tree_way_14 rfl ?_
        refine v_cI C (As := [.int (nI n), .int (nI b)]) (st := []) (c_Tree_compare l D kA h a N fr rt ky up fl fp n b hn (by omega) (hK b cb) hky) cv_Tree_compare ml_Tree_58 d_Tree_way_15 ⟨by omega, by decide⟩ tw_rcv ⟨rfl, rfl⟩ rfl ?_
        rintro _ _ ⟨rfl, rfl⟩
        refine v_if_gtR C d_Tree_way_18 27 (by decide) (fun cc => ?_) (fun cc => ?_)
        · refine v_iload_n C d_Tree_way_27 rfl ?_
          exact v_iret C rfl d_Tree_way_28 (⟨_, rfl, b, rfl, by omega, hj, fun _ => cmpI_gt.mp cc, rfl⟩)
        · refine v_iinc C d_Tree_way_21 rfl ⟨Nat.le_of_ble_eq_true rfl, Nat.le_of_ble_eq_true rfl⟩ (nI (b + 1)) (inc1 _) [.ref h, .int (nI n), .int (nI (b + 1))] rfl ?_
          refine v_goto C d_Tree_way_24 2 (by decide) ?_
          exact ih (b + 1) (by omega) (by omega) (lt_s hj (by have := mt cmpI_gt.mpr cc; omega))
  exact loop (nc (N n) - 0 + 1) 0 (by omega) (by omega) lt_0

set_option maxHeartbeats 4000000 in
set_option maxRecDepth 20000 in
theorem c_Tree_copy (l : Launch) (D : va_G) (kA : Nat → ClassId) (h : Nat) (a : Nat → Nat) (N : Nat → Nd) (fr rt ky up fl fp : Nat) (f i t j : Nat) (hf : f < 500) (hi : i < 9) (ht : t < 500) (hj : j < 9) : Ct l D kA 1 y_Tree_copy b_Tree_copy 5 none [.ref h, .int (nI f), .int (nI i), .int (nI t), .int (nI j)] (tw kA h a N fr rt ky up fl fp) (pV fun w => w = (tw kA h a (sK N t j (nK (N f) i)) fr rt ky up fl fp)) := by
  refine ct_of (by decide) (Nat.le_of_ble_eq_true rfl) rfl ?_
  intro p e s m args below meth c C
  refine v_aload_n C d_Tree_copy_0 rfl ?_
  refine v_getf C i_Tree (ci := 0) rfl 0 (by decide) (List.mem_of_getElem? (i := 0) rfl) fl_Tree_9 d_Tree_copy_1 (.ref (a 0)) rfl ?_
  refine v_aload_n C d_Tree_copy_4 rfl ?_
  refine v_iload_n C d_Tree_copy_5 rfl ?_
  refine v_iload_n C d_Tree_copy_6 rfl ?_
  refine v_cI C (As := [.int (nI f), .int (nI i)]) (st := [.ref (a 0)]) (c_Tree_place l D kA h a N fr rt ky up fl fp f i) cv_Tree_place ml_Tree_48 d_Tree_copy_7 ⟨by omega, by decide⟩ tw_rcv ⟨rfl, rfl⟩ rfl ?_
  rintro _ _ ⟨rfl, rfl⟩
  refine v_aload_n C d_Tree_copy_10 rfl ?_
  refine v_getf C i_Tree (ci := 0) rfl 0 (by decide) (List.mem_of_getElem? (i := 0) rfl) fl_Tree_9 d_Tree_copy_11 (.ref (a 0)) rfl ?_
  refine v_aload_n C d_Tree_copy_14 rfl ?_
  refine v_iload_n C d_Tree_copy_15 rfl ?_
  refine v_iload C d_Tree_copy_16 rfl ?_
  refine v_cI C (As := [.int (nI t), .int (nI j)]) (st := [.ref (a 0), .int (nI (27 * f + 3 * i)), .ref (a 0)]) (c_Tree_place l D kA h a N fr rt ky up fl fp t j) cv_Tree_place ml_Tree_48 d_Tree_copy_18 ⟨by omega, by decide⟩ tw_rcv ⟨rfl, rfl⟩ rfl ?_
  rintro _ _ ⟨rfl, rfl⟩
  refine v_iconst C d_Tree_copy_21 (nI 3) (by decide) ?_
  refine v_cpy C (ws' := (tw kA h a (sK N t j (nK (N f) i)) fr rt ky up fl fp)) ml_Tree_52 ⟨by decide, by decide⟩ (by decide) (fun v hv => absurd hv List.not_mem_nil) (List.mem_of_getElem? (i := 1) rfl) (tw_sK) (by omega) (by omega) (by decide) (by decide) d_Tree_copy_22 (fun q _ => keysF_cp (by omega) (by omega) q) ?_
  exact v_vret C rfl d_Tree_copy_25 (⟨rfl, rfl⟩)

set_option maxHeartbeats 4000000 in
set_option maxRecDepth 20000 in
theorem c_Tree_put (l : Launch) (D : va_G) (kA : Nat → ClassId) (h : Nat) (a : Nat → Nat) (N : Nat → Nd) (fr rt ky up fl fp : Nat) (n k q v : Nat) (hn : n < 500) (hk : k < 9) (hq : (q, .inl (kA 0, 3, .inl (dc v))) ∈ (tw kA h a N fr rt ky up fl fp)) : Ct l D kA 1 y_Tree_put b_Tree_put 4 none [.ref h, .int (nI n), .int (nI k), .ref q] (tw kA h a N fr rt ky up fl fp) (pV fun w => w = (tw kA h a (sK N n k v) fr rt ky up fl fp)) := by
  refine ct_of (by decide) (Nat.le_of_ble_eq_true rfl) rfl ?_
  intro p e s m args below meth c C
  refine v_aload_n C d_Tree_put_0 rfl ?_
  refine v_iconst C d_Tree_put_1 (nI 0) (by decide) ?_
  refine v_aload_n C d_Tree_put_2 rfl ?_
  refine v_getf C i_Tree (ci := 0) rfl 0 (by decide) (List.mem_of_getElem? (i := 0) rfl) fl_Tree_9 d_Tree_put_3 (.ref (a 0)) rfl ?_
  refine v_aload_n C d_Tree_put_6 rfl ?_
  refine v_iload_n C d_Tree_put_7 rfl ?_
  refine v_iload_n C d_Tree_put_8 rfl ?_
  refine v_cI C (As := [.int (nI n), .int (nI k)]) (st := [.ref (a 0), .int (nI 0), .ref q]) (c_Tree_place l D kA h a N fr rt ky up fl fp n k) cv_Tree_place ml_Tree_48 d_Tree_put_9 ⟨by omega, by decide⟩ tw_rcv ⟨rfl, rfl⟩ rfl ?_
  rintro _ _ ⟨rfl, rfl⟩
  refine v_iconst C d_Tree_put_12 (nI 3) (by decide) ?_
  refine v_cpy C (ws' := (tw kA h a (sK N n k v) fr rt ky up fl fp)) ml_Tree_52 ⟨by decide, by decide⟩ (by decide) (fun v hv => absurd hv List.not_mem_nil) hq (tw_sK) (by omega) (by omega) (by decide) (by decide) d_Tree_put_13 (fun j _ => keysF_pt (by omega) j) ?_
  exact v_vret C rfl d_Tree_put_16 (⟨rfl, rfl⟩)

set_option maxHeartbeats 4000000 in
set_option maxRecDepth 20000 in
theorem c_Tree_tell (l : Launch) (D : va_G) (kA : Nat → ClassId) (h : Nat) (a : Nat → Nat) (N : Nat → Nd) (fr rt ky up fl fp : Nat) (x y z : Int32) : Ct l D kA 0 y_Tree_tell b_Tree_tell 4 none [.ref h, .int x, .int y, .int z] (tw kA h a N fr rt ky up fl fp) (pV fun w => w = (tw kA h a N fr rt (enc x y z) up fl fp)) := by
  refine ct_of (by decide) (Nat.le_of_ble_eq_true rfl) rfl ?_
  intro p e s m args below meth c C
  refine v_aload_n C d_Tree_tell_0 rfl ?_
  refine v_getf C i_Tree (ci := 0) rfl 8 (by decide) (List.mem_of_getElem? (i := 0) rfl) fl_Tree_31 d_Tree_tell_1 (.ref (a 6)) rfl ?_
  refine v_iconst C d_Tree_tell_4 (nI 0) (by decide) ?_
  refine v_iload_n C d_Tree_tell_5 rfl ?_
  refine v_iast C (ws' := (tw kA h a N fr rt (enc x (dc ky 1) (dc ky 2)) up fl fp)) ⟨7, rfl, rfl⟩ (by omega) (by decide) d_Tree_tell_6 (dc_w0 _ _) ?_
  refine v_aload_n C d_Tree_tell_7 rfl ?_
  refine v_getf C i_Tree (ci := 0) rfl 8 (by decide) (List.mem_of_getElem? (i := 0) rfl) fl_Tree_31 d_Tree_tell_8 (.ref (a 6)) rfl ?_
  refine v_iconst C d_Tree_tell_11 (nI 1) (by decide) ?_
  refine v_iload_n C d_Tree_tell_12 rfl ?_
  refine v_iast C (ws' := (tw kA h a N fr rt (enc x y (dc ky 2)) up fl fp)) ⟨7, rfl, rfl⟩ (by omega) (by decide) d_Tree_tell_13 (dc_w1 _ _ _) ?_
  refine v_aload_n C d_Tree_tell_14 rfl ?_
  refine v_getf C i_Tree (ci := 0) rfl 8 (by decide) (List.mem_of_getElem? (i := 0) rfl) fl_Tree_31 d_Tree_tell_15 (.ref (a 6)) rfl ?_
  refine v_iconst C d_Tree_tell_18 (nI 2) (by decide) ?_
  refine v_iload_n C d_Tree_tell_19 rfl ?_
  refine v_iast C (ws' := (tw kA h a N fr rt (enc x y z) up fl fp)) ⟨7, rfl, rfl⟩ (by omega) (by decide) d_Tree_tell_20 (dc_w2 _ _ _ _) ?_
  exact v_vret C rfl d_Tree_tell_21 (⟨rfl, rfl⟩)

theorem mk_eq {N : Nat → Nd} {n lf : Nat} : sx (sl (ss (sc N n 0) n 0) n lf) n NONE = uN N n (nd (nK (N n)) (nC (N n)) 0 lf NONE 0) := by
  simp only [sx, sl, ss, sc, uN_self, uN_uN, nK_nd, nC_nd, nc_nd, nl_nd, nx_nd, ns_nd]

set_option maxHeartbeats 4000000 in
set_option maxRecDepth 20000 in
theorem c_Tree_make (l : Launch) (D : va_G) (kA : Nat → ClassId) (h : Nat) (a : Nat → Nat) (N : Nat → Nd) (fr rt ky up fl fp : Nat) (lf : Nat) (hfr : fr < 500) (hlf : lf ≤ 1) : Ct l D kA 0 y_Tree_make b_Tree_make 3 (some .int) [.ref h, .int (nI lf)] (tw kA h a N fr rt ky up fl fp) (pI fun x w => x = nI fr ∧ w = (tw kA h a (uN N fr (nd (nK (N fr)) (nC (N fr)) 0 lf NONE 0)) (nx (N fr)) rt ky up fl fp)) := by
  refine ct_of (by decide) (Nat.le_of_ble_eq_true rfl) rfl ?_
  intro p e s m args below meth c C
  refine v_aload_n C d_Tree_make_0 rfl ?_
  refine v_getf C i_Tree (ci := 0) rfl 6 (by decide) (List.mem_of_getElem? (i := 0) rfl) fl_Tree_37 d_Tree_make_1 (.int (nI fr)) rfl ?_
  refine v_istore_n C d_Tree_make_4 ⟨Nat.le_of_ble_eq_true rfl, Nat.le_of_ble_eq_true rfl⟩ [.ref h, .int (nI lf), .int (nI fr)] rfl ?_
  refine v_aload_n C d_Tree_make_5 rfl ?_
  refine v_aload_n C d_Tree_make_6 rfl ?_
  refine v_getf C i_Tree (ci := 0) rfl 4 (by decide) (List.mem_of_getElem? (i := 0) rfl) fl_Tree_25 d_Tree_make_7 (.ref (a 4)) rfl ?_
  refine v_iload_n C d_Tree_make_10 rfl ?_
  refine v_iald C (List.mem_of_getElem? (i := 5) rfl) (by omega) (by decide) d_Tree_make_11 (nI (nx (N fr))) (rfl) ?_
  refine v_putf C i_Tree (ci := 0) (ws' := (tw kA h a N (nx (N fr)) rt ky up fl fp)) t_Tree_ok n_Tree rfl 6 (by decide) ⟨0, rfl, rfl⟩ fl_Tree_37 d_Tree_make_12 rfl (rfl) (rfl) (Nat.le_of_ble_eq_true rfl) rfl ?_
  refine v_aload_n C d_Tree_make_15 rfl ?_
  refine v_getf C i_Tree (ci := 0) rfl 2 (by decide) (List.mem_of_getElem? (i := 0) rfl) fl_Tree_18 d_Tree_make_16 (.ref (a 2)) rfl ?_
  refine v_iload_n C d_Tree_make_19 rfl ?_
  refine v_iconst C d_Tree_make_20 (nI 0) (by decide) ?_
  refine v_iast C (ws' := (tw kA h a (sc N fr 0) (nx (N fr)) rt ky up fl fp)) (tw_sc) (by omega) (by decide) d_Tree_make_21 (fun j _ => cntF_sc j) ?_
  refine v_aload_n C d_Tree_make_22 rfl ?_
  refine v_getf C i_Tree (ci := 0) rfl 5 (by decide) (List.mem_of_getElem? (i := 0) rfl) fl_Tree_28 d_Tree_make_23 (.ref (a 5)) rfl ?_
  refine v_iload_n C d_Tree_make_26 rfl ?_
  refine v_iconst C d_Tree_make_27 (nI 0) (by decide) ?_
  refine v_iast C (ws' := (tw kA h a (ss (sc N fr 0) fr 0) (nx (N fr)) rt ky up fl fp)) (tw_ss) (by omega) (by decide) d_Tree_make_28 (fun j _ => sizF_ss j) ?_
  refine v_aload_n C d_Tree_make_29 rfl ?_
  refine v_getf C i_Tree (ci := 0) rfl 3 (by decide) (List.mem_of_getElem? (i := 0) rfl) fl_Tree_21 d_Tree_make_30 (.ref (a 3)) rfl ?_
  refine v_iload_n C d_Tree_make_33 rfl ?_
  refine v_iload_n C d_Tree_make_34 rfl ?_
  refine v_zast C (ws' := (tw kA h a (sl (ss (sc N fr 0) fr 0) fr lf) (nx (N fr)) rt ky up fl fp)) tw_sl (by omega) (by decide) d_Tree_make_35 (by rcases (show lf = 0 ∨ lf = 1 by omega) with rfl | rfl <;> decide) (fun j _ => leafF_sl j) ?_
  refine v_aload_n C d_Tree_make_36 rfl ?_
  refine v_getf C i_Tree (ci := 0) rfl 4 (by decide) (List.mem_of_getElem? (i := 0) rfl) fl_Tree_25 d_Tree_make_37 (.ref (a 4)) rfl ?_
  refine v_iload_n C d_Tree_make_40 rfl ?_
  refine v_iconst C d_Tree_make_41 (-1) (by decide) ?_
  refine v_iast C (ws' := (tw kA h a (sx (sl (ss (sc N fr 0) fr 0) fr lf) fr NONE) (nx (N fr)) rt ky up fl fp)) (tw_sx) (by omega) (by decide) d_Tree_make_42 (fun j _ => nxtF_sx j) ?_
  refine v_iload_n C d_Tree_make_43 rfl ?_
  rw [mk_eq]
  exact v_iret C rfl d_Tree_make_44 (⟨_, rfl, rfl, rfl⟩)

set_option maxHeartbeats 4000000 in
set_option maxRecDepth 20000 in
theorem c_Tree_drop (l : Launch) (D : va_G) (kA : Nat → ClassId) (h : Nat) (a : Nat → Nat) (N : Nat → Nd) (fr rt ky up fl fp : Nat) (n : Nat) (hn : n < 500) : Ct l D kA 0 y_Tree_drop b_Tree_drop 2 none [.ref h, .int (nI n)] (tw kA h a N fr rt ky up fl fp) (pV fun w => w = (tw kA h a (sx N n fr) n rt ky up fl fp)) := by
  refine ct_of (by decide) (Nat.le_of_ble_eq_true rfl) rfl ?_
  intro p e s m args below meth c C
  refine v_aload_n C d_Tree_drop_0 rfl ?_
  refine v_getf C i_Tree (ci := 0) rfl 4 (by decide) (List.mem_of_getElem? (i := 0) rfl) fl_Tree_25 d_Tree_drop_1 (.ref (a 4)) rfl ?_
  refine v_iload_n C d_Tree_drop_4 rfl ?_
  refine v_aload_n C d_Tree_drop_5 rfl ?_
  refine v_getf C i_Tree (ci := 0) rfl 6 (by decide) (List.mem_of_getElem? (i := 0) rfl) fl_Tree_37 d_Tree_drop_6 (.int (nI fr)) rfl ?_
  refine v_iast C (ws' := (tw kA h a (sx N n fr) fr rt ky up fl fp)) (tw_sx) (by omega) (by decide) d_Tree_drop_9 (fun j _ => nxtF_sx j) ?_
  refine v_aload_n C d_Tree_drop_10 rfl ?_
  refine v_iload_n C d_Tree_drop_11 rfl ?_
  refine v_putf C i_Tree (ci := 0) (ws' := (tw kA h a (sx N n fr) n rt ky up fl fp)) t_Tree_ok n_Tree rfl 6 (by decide) ⟨0, rfl, rfl⟩ fl_Tree_37 d_Tree_drop_12 rfl (rfl) (rfl) (Nat.le_of_ble_eq_true rfl) rfl ?_
  exact v_vret C rfl d_Tree_drop_15 (⟨rfl, rfl⟩)
