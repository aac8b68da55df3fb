/-! matches of a pattern's first parts lie together -/
def MN : Int32 := -2147483648
def en3 (f : Nat → Int32) : Nat := enc (f 0) (f 1) (f 2)
theorem dc_en3 (f : Nat → Int32) {i : Nat} (hi : i < 3) : dc (en3 f) i = f i := by
  unfold en3
  rcases (show i = 0 ∨ i = 1 ∨ i = 2 by omega) with rfl | rfl | rfl
  · exact dc_enc0 _ _ _
  · exact dc_enc1 _ _ _
  · exact dc_enc2 _ _ _ _ (by decide) (by decide)
theorem en3_dc {x : Nat} (h : x < TOP) : en3 (dc x) = x := enc_dc h
theorem en3_lt (f : Nat → Int32) : en3 f < TOP := enc_lt _ _ _
def lowk (td K : Nat) : Nat := en3 (fun i => if i < td then dc K i else MN)
theorem lowk_un (td K : Nat) : lowk td K = enc (if 0 < td then dc K 0 else MN) (if 1 < td then dc K 1 else MN) (if 2 < td then dc K 2 else MN) := rfl
def pm (td K x : Nat) : Prop := ∀ i, i < td → dc x i = dc K i
def pm_dec (td K x : Nat) : Decidable (pm td K x) := Nat.decidableBallLT td (fun i _ => dc x i = dc K i)
theorem eI_MN : eI MN = 0 := by decide
def wM (td : Nat) : Nat := if td = 0 then 79228162514264337593543950336 else if td = 1 then 18446744073709551616 else if td = 2 then 4294967296 else 1
theorem pm_0 (K x : Nat) : pm 0 K x ↔ True := ⟨fun _ => trivial, fun _ i hi => absurd hi (Nat.not_lt_zero i)⟩
theorem pm_s (td K x : Nat) : pm (td + 1) K x ↔ pm td K x ∧ dc x td = dc K td :=
  ⟨fun h => ⟨fun i hi => h i (by omega), h td (by omega)⟩, fun h i hi => by
    by_cases e : i = td
    · rw [e]; exact h.2
    · exact h.1 i (by omega)⟩
theorem pm_1 (K x : Nat) : pm 1 K x ↔ dc x 0 = dc K 0 := by rw [pm_s, pm_0, true_and]
theorem pm_2 (K x : Nat) : pm 2 K x ↔ dc x 0 = dc K 0 ∧ dc x 1 = dc K 1 := by rw [pm_s, pm_1]
theorem pm_3 (K x : Nat) : pm 3 K x ↔ (dc x 0 = dc K 0 ∧ dc x 1 = dc K 1) ∧ dc x 2 = dc K 2 := by rw [pm_s, pm_2]
theorem dc0_iff {x K : Nat} (hx : x < TOP) (hK : K < TOP) : dc x 0 = dc K 0 ↔ x / 18446744073709551616 = K / 18446744073709551616 :=
  ⟨fun h => by rw [← eI_dc0 hx, ← eI_dc0 hK, h], fun h => eI_inj (by rw [eI_dc0 hx, eI_dc0 hK, h])⟩
theorem dc1_iff (x K : Nat) : dc x 1 = dc K 1 ↔ x / 4294967296 % 4294967296 = K / 4294967296 % 4294967296 :=
  ⟨fun h => by rw [← eI_dc1 x, ← eI_dc1 K, h], fun h => eI_inj (by rw [eI_dc1, eI_dc1, h])⟩
theorem dc2_iff (x K : Nat) : dc x 2 = dc K 2 ↔ x % 4294967296 = K % 4294967296 :=
  ⟨fun h => by rw [← eI_dc2 x, ← eI_dc2 K, h], fun h => eI_inj (by rw [eI_dc2, eI_dc2, h])⟩
theorem pm_div {td K x : Nat} (ht : td ≤ 3) (hx : x < TOP) (hK : K < TOP) : pm td K x ↔ x / wM td = K / wM td := by
  rcases (show td = 0 ∨ td = 1 ∨ td = 2 ∨ td = 3 by omega) with rfl | rfl | rfl | rfl
  · rw [pm_0]
    refine iff_of_true trivial ?_
    show x / 79228162514264337593543950336 = K / 79228162514264337593543950336
    rw [Nat.div_eq_of_lt hx, Nat.div_eq_of_lt hK]
  · rw [pm_1, dc0_iff hx hK]; rfl
  · rw [pm_2, dc0_iff hx hK, dc1_iff]
    show _ ↔ x / 4294967296 = K / 4294967296
    omega
  · rw [pm_3, dc0_iff hx hK, dc1_iff, dc2_iff]
    show _ ↔ x / 1 = K / 1
    omega
theorem wM_0 : wM 0 = 79228162514264337593543950336 := rfl
theorem wM_1 : wM 1 = 18446744073709551616 := rfl
theorem wM_2 : wM 2 = 4294967296 := rfl
theorem wM_3 : wM 3 = 1 := rfl
theorem lowk_eq {td K : Nat} (ht : td ≤ 3) (hK : K < TOP) : lowk td K = K / wM td * wM td := by
  have h0 := eI_dc0 hK
  have h1 := eI_dc1 K
  have h2 := eI_dc2 K
  have h3 := eI_MN
  rcases (show td = 0 ∨ td = 1 ∨ td = 2 ∨ td = 3 by omega) with rfl | rfl | rfl | rfl
  · rw [lowk_un, if_neg (show ¬ (0 : Nat) < 0 by decide), if_neg (show ¬ (1 : Nat) < 0 by decide), if_neg (show ¬ (2 : Nat) < 0 by decide), wM_0]
    unfold enc
    have h4 : K / 79228162514264337593543950336 = 0 := Nat.div_eq_of_lt hK
    simp only [h3, h4, Nat.zero_mul, Nat.add_zero]
  · rw [lowk_un, if_pos (show (0 : Nat) < 1 by decide), if_neg (show ¬ (1 : Nat) < 1 by decide), if_neg (show ¬ (2 : Nat) < 1 by decide), wM_1]
    unfold enc
    rw [h3, h0]; omega
  · rw [lowk_un, if_pos (show (0 : Nat) < 2 by decide), if_pos (show (1 : Nat) < 2 by decide), if_neg (show ¬ (2 : Nat) < 2 by decide), wM_2]
    unfold enc
    rw [h3, h0, h1]; omega
  · rw [lowk_un, if_pos (show (0 : Nat) < 3 by decide), if_pos (show (1 : Nat) < 3 by decide), if_pos (show (2 : Nat) < 3 by decide), wM_3]
    unfold enc
    rw [h0, h1, h2]; omega
theorem wM_pos (td : Nat) : 0 < wM td := by
  unfold wM; split
  · decide
  · split
    · decide
    · split <;> decide
theorem pm_low {td K x : Nat} (ht : td ≤ 3) (hx : x < TOP) (hK : K < TOP) (h : pm td K x) : lowk td K ≤ x := by
  rw [lowk_eq ht hK, ← (pm_div ht hx hK).mp h]
  exact Nat.div_mul_le_self _ _
theorem pm_mid {td K x y : Nat} (ht : td ≤ 3) (hy : y < TOP) (hK : K < TOP) (h1 : lowk td K ≤ x) (h2 : x ≤ y) (h : pm td K y) : pm td K x := by
  rw [pm_div ht (Nat.lt_of_le_of_lt h2 hy) hK]
  rw [lowk_eq ht hK] at h1
  have a := (Nat.le_div_iff_mul_le (wM_pos td)).mpr h1
  have b := Nat.div_le_div_right (c := wM td) h2
  rw [(pm_div ht hy hK).mp h] at b
  exact Nat.le_antisymm b a
/-- how many parts a mask tells -/
def bcn (m : Nat) : Nat := m % 2 + m / 2 % 2 + m / 4 % 2
theorem bcn_le (m : Nat) : bcn m ≤ 3 := by unfold bcn; omega
theorem mT_pm {m : Nat} (hm : m < 8) (s p o : Int32) (x : Nat) : mT (oo m) m s p o x = true ↔ pm (bcn m) (ec (oo m) s p o) x := by
  rw [mT_iff]
  have e0 : ∀ t i, t < 3 → i < 3 → dc (ec t s p o) i = sel ((t + i) % 3) s p o := fun t i ht hi => ec_dc ht hi s p o
  rcases (show m = 0 ∨ m = 1 ∨ m = 2 ∨ m = 3 ∨ m = 4 ∨ m = 5 ∨ m = 6 ∨ m = 7 by omega) with rfl | rfl | rfl | rfl | rfl | rfl | rfl | rfl
  · exact iff_of_true ⟨Or.inl rfl, Or.inl rfl, Or.inl rfl⟩ ((pm_0 _ _).mpr trivial)
  · show _ ↔ pm 1 (ec 0 s p o) x
    rw [pm_1, e0 0 0 (by decide) (by decide)]; simp [po, sel, oo]
  · show _ ↔ pm 1 (ec 1 s p o) x
    rw [pm_1, e0 1 0 (by decide) (by decide)]; simp [po, sel, oo]
  · show _ ↔ pm 2 (ec 0 s p o) x
    rw [pm_2, e0 0 0 (by decide) (by decide), e0 0 1 (by decide) (by decide)]; simp [po, sel, oo]
  · show _ ↔ pm 1 (ec 2 s p o) x
    rw [pm_1, e0 2 0 (by decide) (by decide)]; simp [po, sel, oo]
  · show _ ↔ pm 2 (ec 2 s p o) x
    rw [pm_2, e0 2 0 (by decide) (by decide), e0 2 1 (by decide) (by decide)]; simp [po, sel, oo, and_comm]
  · show _ ↔ pm 2 (ec 1 s p o) x
    rw [pm_2, e0 1 0 (by decide) (by decide), e0 1 1 (by decide) (by decide)]; simp [po, sel, oo]
  · show _ ↔ pm 3 (ec 0 s p o) x
    rw [pm_3, e0 0 0 (by decide) (by decide), e0 0 1 (by decide) (by decide), e0 0 2 (by decide) (by decide)]; simp [po, sel, oo, and_assoc]
/-- places below and above a key -/
theorem blw_ex {L : List Nat} (k : Nat) : ∀ n, n ≤ L.length → (∀ i, i < n → lg L i < k) ∨ ∃ j, j < n ∧ (∀ i, i < j → lg L i < k) ∧ k ≤ lg L j
  | 0, _ => Or.inl (fun i hi => absurd hi (Nat.not_lt_zero i))
  | n + 1, h => by
    rcases blw_ex (L := L) k n (by omega) with h1 | ⟨j, hj, h2⟩
    · by_cases hk : lg L n < k
      · refine Or.inl (fun i hi => ?_)
        by_cases e : i = n
        · rw [e]; exact hk
        · exact h1 i (by omega)
      · exact Or.inr ⟨n, by omega, h1, by omega⟩
    · exact Or.inr ⟨j, by omega, h2⟩
theorem blw_sp {L : List Nat} (hs : Srt L) (k : Nat) : (∀ i, i < blw L k → lg L i < k) ∧ ∀ i, blw L k ≤ i → i < L.length → k ≤ lg L i := by
  obtain ⟨j, hj, h1, h2⟩ : ∃ j, j ≤ L.length ∧ (∀ i, i < j → lg L i < k) ∧ (j < L.length → k ≤ lg L j) := by
    rcases blw_ex (L := L) k L.length (Nat.le_refl _) with h | ⟨j, hj, h1, h2⟩
    · exact ⟨L.length, Nat.le_refl _, h, fun q => absurd q (Nat.lt_irrefl _)⟩
    · exact ⟨j, Nat.le_of_lt hj, h1, fun _ => h2⟩
  have e := (blw_at hs hj h1 h2).1
  rw [e]
  refine ⟨h1, fun i hi hl => ?_⟩
  have := h2 (by omega)
  by_cases he : i = j
  · rw [he]; exact this
  · have := lg_srt hs (show j < i by omega) hl; omega
/-- from the first place on: a match at i means matches all the way -/
theorem pm_from {L : List Nat} {td K i j : Nat} (hs : Srt L) (hT : ∀ x ∈ L, x < TOP) (ht : td ≤ 3) (hK : K < TOP) (hj : blw L (lowk td K) ≤ j) (hij : j ≤ i) (hi : i < L.length) (h : pm td K (lg L i)) : pm td K (lg L j) := by
  refine pm_mid ht (hT _ (lg_mem hi)) hK ((blw_sp hs _).2 j hj (by omega)) ?_ h
  by_cases e : j = i
  · rw [e]; exact Nat.le_refl _
  · exact Nat.le_of_lt (lg_srt hs (show j < i by omega) hi)
/-- no match before the first place -/
theorem pm_bef {L : List Nat} {td K i : Nat} (hs : Srt L) (hT : ∀ x ∈ L, x < TOP) (ht : td ≤ 3) (hK : K < TOP) (hi : i < blw L (lowk td K)) : ¬ pm td K (lg L i) := fun h => by
  have hl : i < L.length := Nat.lt_of_lt_of_le hi (blw_le _ _)
  have := pm_low ht (hT _ (lg_mem hl)) hK h
  have := (blw_sp hs (lowk td K)).1 i hi
  omega
/-- the key at a position -/
theorem ps_lg {N : Nat → Nd} {fr rt d : Nat} {L A B : List Nat} {lf pl : Nat} (hT : TI N fr rt d L) (hl : lvO N d rt = A ++ lf :: B) (hp : pl < nc (N lf)) : (A.flatMap (ksO N)).length + pl < L.length ∧ lg L ((A.flatMap (ksO N)).length + pl) = nK (N lf) pl := by
  have e : A.flatMap (ksO N) ++ (ksO N lf ++ B.flatMap (ksO N)) = L := by
    rw [← hT.lvs, hl, List.flatMap_append, List.flatMap_cons]
  have g : L[(A.flatMap (ksO N)).length + pl]? = some (nK (N lf) pl) := by
    rw [← e, List.getElem?_append_right (by omega), Nat.add_sub_cancel_left, List.getElem?_append_left (by rw [ks_len]; exact hp)]
    unfold ksO
    rw [seg_at _ hp, List.getElem?_append_right (by rw [seg_one_len]; omega), seg_one_len]
    simp
  have hl := (List.getElem?_eq_some_iff.mp g).1
  exact ⟨hl, Option.some.inj ((lg_get hl).symm.trans g)⟩
theorem ps_end {N : Nat → Nd} {fr rt d : Nat} {L A : List Nat} {lf : Nat} (hT : TI N fr rt d L) (hl : lvO N d rt = A ++ [lf]) : (A.flatMap (ksO N)).length + nc (N lf) = L.length := by
  rw [← hT.lvs, hl, List.flatMap_append, List.length_append, List.flatMap_cons, List.flatMap_nil, List.append_nil, ks_len]
/-- leaf, then below: the position of a key -/
theorem ps_blw {x : TS} {d : Nat} {L A B : List Nat} {ky n b : Nat} (hT : TI x.1 (x.2 0) (x.2 1) d L) (hl : lvO x.1 d (x.2 1) = A ++ n :: B) (hA : ∀ y ∈ A.flatMap (ksO x.1), y < ky) (hB : ∀ y ∈ B.flatMap (ksO x.1), ky < y) (hb : b ≤ nc (x.1 n)) (h1 : ∀ j, j < b → nK (x.1 n) j < ky) (h2 : b < nc (x.1 n) → ky ≤ nK (x.1 n) b) : ps x d L n b (blw L ky) := by
  refine Or.inr ⟨A, B, hl, hb, ?_⟩
  have e : A.flatMap (ksO x.1) ++ (ksO x.1 n ++ B.flatMap (ksO x.1)) = L := by
    rw [← hT.lvs, hl, List.flatMap_append, List.flatMap_cons]
  have hlen : (A.flatMap (ksO x.1)).length + nc (x.1 n) ≤ L.length := by
    rw [← e, List.length_append, List.length_append, ks_len]; omega
  have hs := hT.srt.1
  refine (blw_at hs (j := (A.flatMap (ksO x.1)).length + b) (by omega) (fun i hi => ?_) (fun hi => ?_)).1
  · by_cases hq : i < (A.flatMap (ksO x.1)).length
    · have g : L[i]? = some (lg L i) := lg_get (by omega)
      rw [← e, List.getElem?_append_left hq] at g
      exact hA _ (List.mem_of_getElem? (by rw [e] at g; exact g))
    · have := (ps_lg hT hl (pl := i - (A.flatMap (ksO x.1)).length) (by omega)).2
      rw [show (A.flatMap (ksO x.1)).length + (i - (A.flatMap (ksO x.1)).length) = i by omega] at this
      rw [this]
      exact h1 _ (by omega)
  · by_cases hq : b < nc (x.1 n)
    · rw [(ps_lg hT hl hq).2]; exact h2 hq
    · have g : L[(A.flatMap (ksO x.1)).length + b]? = some (lg L ((A.flatMap (ksO x.1)).length + b)) := lg_get hi
      have hm : lg L ((A.flatMap (ksO x.1)).length + b) ∈ B.flatMap (ksO x.1) := by
        have g2 := g
        rw [← e, List.getElem?_append_right (by omega), Nat.add_sub_cancel_left, List.getElem?_append_right (by rw [ks_len]; omega)] at g2
        exact List.mem_of_getElem? (by rw [e] at g2; exact g2)
      exact Nat.le_of_lt (hB _ hm)
