/-! PURE: a node's kids, one more, one less, one other -/
theorem hd_fr {N N' : Nat → Nd} {d : Nat} {C : Nat → Nat} {i : Nat} (h : ∀ q ∈ fpO N d (C i), N' q = N q) : hdO N' d (C i) = hdO N d (C i) := frame_hd h
section KK
variable {N N' : Nat → Nd} {d c lo hi e b u m q s mb : Nat} {K C K' C' : Nat → Nat}
theorem kI (hb : b ≤ c) (h : ∀ i, i ≤ c → i ≠ b → okT N d (C i) (bdO lo hi K c i) (bdO lo hi K c (i + 1)) (heO N d C c e (i + 1)) 3) (hfr : ∀ i, i ≤ c → i ≠ b → ∀ q ∈ fpO N d (C i), N' q = N q) (hhd : hdO N' d (C b) = hdO N d (C b))
    (k1 : okT N' d (C b) (bdO lo hi K c b) u (hdO N' d m) 3) (k2 : okT N' d m u (bdO lo hi K c (b + 1)) (heO N d C c e (b + 1)) 3) (hK : ∀ i, i ≤ c → K' i = insA K b u i) (hC : ∀ i, i ≤ c + 1 → C' i = insA C (b + 1) m i) :
    kOK N' d K' C' (c + 1) lo hi e (fun _ => 3) := by
  have hall : ∀ i, i ≤ c → hdO N' d (C i) = hdO N d (C i) := fun i hi' => by
    by_cases hx : i = b
    · rw [hx]; exact hhd
    · exact frame_hd (hfr i hi' hx)
  have B1 : ∀ i, i ≤ b → bdO lo hi K' (c + 1) i = bdO lo hi K c i := fun i hi' => by
    cases i with
    | zero => rw [bd_0, bd_0]
    | succ i => rw [bd_s (by omega), bd_s (by omega), hK i (by omega), insA_lt (by omega)]
  have B2 : bdO lo hi K' (c + 1) (b + 1) = u := by rw [bd_s (by omega), hK b hb, insA_eq]
  have B3 : ∀ i, b < i → i ≤ c + 1 → bdO lo hi K' (c + 1) (i + 1) = bdO lo hi K c i := fun i h1 h2 => by
    by_cases hx : i = c + 1
    · subst hx; rw [bd_t, bd_t]
    · obtain ⟨j, rfl⟩ : ∃ j, i = j + 1 := ⟨i - 1, by omega⟩
      rw [bd_s (by omega), bd_s (by omega), hK (j + 1) (by omega), insA_gt (by omega), Nat.add_sub_cancel]
  intro i hi'
  rcases Nat.lt_trichotomy i b with hx | hx | hx
  · rw [hC i (by omega), insA_lt (by omega), B1 i (by omega), B1 (i + 1) (by omega), he_s (by omega), hC (i + 1) (by omega), insA_lt (by omega), hall _ (by omega)]
    have := frame_ok d (C i) (hfr i (by omega) (by omega)) (h i (by omega) (by omega))
    rw [he_s (by omega)] at this
    exact this
  · subst hx
    rw [hC i (by omega), insA_lt (by omega), B1 i (by omega), B2, he_s (by omega), hC (i + 1) (by omega), insA_eq]
    exact k1
  · by_cases hy : i = b + 1
    · subst hy
      rw [hC _ (by omega), insA_eq, B2, B3 _ (by omega) (by omega)]
      by_cases hz : b = c
      · subst hz; rw [he_t] at k2 ⊢; exact k2
      · rw [he_s (by omega), hC _ (by omega), insA_gt (by omega), Nat.add_sub_cancel, hall _ (by omega)]
        rw [he_s (by omega)] at k2; exact k2
    · obtain ⟨j, rfl⟩ : ∃ j, i = j + 1 := ⟨i - 1, by omega⟩
      rw [hC _ (by omega), insA_gt (by omega), Nat.add_sub_cancel, B3 j (by omega) (by omega), B3 (j + 1) (by omega) (by omega)]
      have := frame_ok d (C j) (hfr j (by omega) (by omega)) (h j (by omega) (by omega))
      by_cases hz : j = c
      · subst hz; rw [he_t] at this ⊢; exact this
      · rw [he_s (by omega), hC _ (by omega), insA_gt (by omega), Nat.add_sub_cancel, hall _ (by omega)]
        rw [he_s (by omega)] at this; exact this
theorem kU (hb : b ≤ c) (h : ∀ i, i ≤ c → i ≠ b → okT N d (C i) (bdO lo hi K c i) (bdO lo hi K c (i + 1)) (heO N d C c e (i + 1)) 3) (hfr : ∀ i, i ≤ c → i ≠ b → ∀ q ∈ fpO N d (C i), N' q = N q) (hhd : hdO N' d (C b) = hdO N d (C b))
    (k1 : okT N' d (C b) (bdO lo hi K c b) (bdO lo hi K c (b + 1)) (heO N d C c e (b + 1)) mb) : kOK N' d K C c lo hi e (fun i => if i = b then mb else 3) := by
  have hall : ∀ i, i ≤ c → hdO N' d (C i) = hdO N d (C i) := fun i hi' => by
    by_cases hx : i = b
    · rw [hx]; exact hhd
    · exact frame_hd (hfr i hi' hx)
  have he : ∀ i, i ≤ c → heO N' d C c e (i + 1) = heO N d C c e (i + 1) := fun i hi' => by
    by_cases hz : i = c
    · subst hz; rw [he_t, he_t]
    · rw [he_s (by omega), he_s (by omega), hall _ (by omega)]
  intro i hi'
  rw [he i hi']
  by_cases hx : i = b
  · subst hx
    simp only [if_true]
    exact k1
  · simp only [hx, if_false]
    exact frame_ok d (C i) (hfr i hi' hx) (h i hi' hx)
theorem kS (h : kOK N d K C 8 lo hi e (fun _ => 3)) : kOK N d K C 4 lo (K 4) (hdO N d (C 5)) (fun _ => 3) ∧ kOK N d (fun i => K (i + 5)) (fun i => C (i + 5)) 3 (K 4) hi e (fun _ => 3) := by
  refine ⟨fun i hi' => ?_, fun i hi' => ?_⟩
  · have := h i (by omega)
    have b1 : bdO lo (K 4) K 4 i = bdO lo hi K 8 i := by
      cases i with
      | zero => rw [bd_0, bd_0]
      | succ i => rw [bd_s (by omega), bd_s (by omega)]
    have b2 : bdO lo (K 4) K 4 (i + 1) = bdO lo hi K 8 (i + 1) := by
      rw [bd_s (show i < 8 by omega)]
      by_cases hx : i = 4
      · subst hx; rw [bd_t]
      · rw [bd_s (by omega)]
    have e1 : heO N d C 4 (hdO N d (C 5)) (i + 1) = heO N d C 8 e (i + 1) := by
      rw [he_s (show i < 8 by omega)]
      by_cases hx : i = 4
      · subst hx; rw [he_t]
      · rw [he_s (by omega)]
    rw [b1, b2, e1]; exact this
  · have := h (i + 5) (by omega)
    have b1 : bdO (K 4) hi (fun i => K (i + 5)) 3 i = bdO lo hi K 8 (i + 5) := by
      rw [bd_s (show i + 4 < 8 by omega)]
      cases i with
      | zero => rw [bd_0]
      | succ i => rw [bd_s (by omega)]
    have b2 : bdO (K 4) hi (fun i => K (i + 5)) 3 (i + 1) = bdO lo hi K 8 (i + 5 + 1) := by
      by_cases hx : i = 3
      · subst hx; rw [bd_t, bd_t]
      · rw [bd_s (by omega), bd_s (by omega)]
    have e1 : heO N d (fun i => C (i + 5)) 3 e (i + 1) = heO N d C 8 e (i + 5 + 1) := by
      by_cases hx : i = 3
      · subst hx; rw [he_t, he_t]
      · rw [he_s (by omega), he_s (by omega), show i + 1 + 5 = i + 5 + 1 by omega]
    rw [b1, b2, e1]; exact this
theorem kJ (hq : q < c) (h : ∀ i, i ≤ c → i ≠ q → i ≠ q + 1 → okT N d (C i) (bdO lo hi K c i) (bdO lo hi K c (i + 1)) (heO N d C c e (i + 1)) 3) (hfr : ∀ i, i ≤ c → i ≠ q → i ≠ q + 1 → ∀ z ∈ fpO N d (C i), N' z = N z) (hhd : hdO N' d (C q) = hdO N d (C q))
    (k1 : okT N' d (C q) (bdO lo hi K c q) (bdO lo hi K c (q + 2)) (heO N d C c e (q + 2)) 3) (hK : ∀ i, i < c - 1 → K' i = delA K q i) (hC : ∀ i, i ≤ c - 1 → C' i = delA C (q + 1) i) : kOK N' d K' C' (c - 1) lo hi e (fun _ => 3) := by
  have hall : ∀ i, i ≤ c → i ≠ q + 1 → hdO N' d (C i) = hdO N d (C i) := fun i hi' hy => by
    by_cases hx : i = q
    · rw [hx]; exact hhd
    · exact frame_hd (hfr i hi' hx hy)
  have B1 : ∀ i, i ≤ q → bdO lo hi K' (c - 1) i = bdO lo hi K c i := fun i hi' => by
    cases i with
    | zero => rw [bd_0, bd_0]
    | succ i => rw [bd_s (by omega), bd_s (by omega), hK i (by omega), delA_lt (by omega)]
  have B3 : ∀ i, q < i → i ≤ c → bdO lo hi K' (c - 1) i = bdO lo hi K c (i + 1) := fun i h1 h2 => by
    by_cases hx : i = c
    · subst hx
      have := @bd_t lo hi (i - 1) K'
      rw [show i - 1 + 1 = i by omega] at this
      rw [bd_t, this]
    · obtain ⟨j, rfl⟩ : ∃ j, i = j + 1 := ⟨i - 1, by omega⟩
      rw [bd_s (by omega), bd_s (by omega), hK j (by omega), delA_ge (by omega)]
  have E1 : ∀ i, i < q → heO N' d C' (c - 1) e (i + 1) = heO N d C c e (i + 1) := fun i hi' => by
    rw [he_s (by omega), he_s (by omega), hC _ (by omega), delA_lt (by omega), hall _ (by omega) (by omega)]
  have E2 : ∀ i, q ≤ i → i ≤ c - 1 → heO N' d C' (c - 1) e (i + 1) = heO N d C c e (i + 2) := fun i h1 h2 => by
    by_cases hx : i = c - 1
    · subst hx
      rw [he_t, show c - 1 + 2 = c + 1 by omega, he_t]
    · rw [he_s (by omega), show i + 2 = (i + 1) + 1 by omega, he_s (by omega), hC _ (by omega), delA_ge (by omega), hall _ (by omega) (by omega)]
  intro i hi'
  rcases Nat.lt_trichotomy i q with hx | hx | hx
  · rw [hC i (by omega), delA_lt (by omega), B1 i (by omega), B1 (i + 1) (by omega), E1 i hx]
    exact frame_ok d (C i) (hfr i (by omega) (by omega) (by omega)) (h i (by omega) (by omega) (by omega))
  · subst hx
    rw [hC i (by omega), delA_lt (by omega), B1 i (by omega), B3 (i + 1) (by omega) (by omega), E2 i (by omega) (by omega)]
    exact k1
  · rw [hC i (by omega), delA_ge (by omega), B3 i (by omega) (by omega), B3 (i + 1) (by omega) (by omega), E2 i (by omega) (by omega)]
    exact frame_ok d (C (i + 1)) (hfr (i + 1) (by omega) (by omega) (by omega)) (h (i + 1) (by omega) (by omega) (by omega))
theorem kM (hq : q < c) (h : ∀ i, i ≤ c → i ≠ q → i ≠ q + 1 → okT N d (C i) (bdO lo hi K c i) (bdO lo hi K c (i + 1)) (heO N d C c e (i + 1)) 3) (hfr : ∀ i, i ≤ c → i ≠ q → i ≠ q + 1 → ∀ z ∈ fpO N d (C i), N' z = N z) (hhd : hdO N' d (C q) = hdO N d (C q))
    (k1 : okT N' d (C q) (bdO lo hi K c q) s (hdO N' d (C (q + 1))) 3) (k2 : okT N' d (C (q + 1)) s (bdO lo hi K c (q + 2)) (heO N d C c e (q + 2)) 3) : kOK N' d (va_up K q s) C c lo hi e (fun _ => 3) := by
  have hall : ∀ i, i ≤ c → i ≠ q + 1 → hdO N' d (C i) = hdO N d (C i) := fun i hi' hy => by
    by_cases hx : i = q
    · rw [hx]; exact hhd
    · exact frame_hd (hfr i hi' hx hy)
  have B1 : ∀ i, i ≠ q + 1 → i ≤ c + 1 → bdO lo hi (va_up K q s) c i = bdO lo hi K c i := fun i h1 h2 => by
    cases i with
    | zero => rw [bd_0, bd_0]
    | succ i =>
      by_cases hx : i = c
      · subst hx; rw [bd_t, bd_t]
      · rw [bd_s (by omega), bd_s (by omega), va_up_ne _ _ (by omega)]
  have B2 : bdO lo hi (va_up K q s) c (q + 1) = s := by rw [bd_s hq, va_up_self]
  have E1 : ∀ i, i ≤ c → i ≠ q → heO N' d C c e (i + 1) = heO N d C c e (i + 1) := fun i h1 h2 => by
    by_cases hx : i = c
    · subst hx; rw [he_t, he_t]
    · rw [he_s (by omega), he_s (by omega), hall _ (by omega) (by omega)]
  intro i hi'
  by_cases hx : i = q
  · subst hx
    rw [B1 i (by omega) (by omega), B2, he_s hq]; exact k1
  · by_cases hy : i = q + 1
    · subst hy
      rw [B2, B1 _ (by omega) (by omega), E1 _ (by omega) (by omega)]; exact k2
    · rw [B1 i hy (by omega), B1 (i + 1) (by omega) (by omega), E1 i hi' hx]
      exact frame_ok d (C i) (hfr i hi' hx hy) (h i hi' hx hy)
end KK
/-! no node stands twice -/
theorem seg_disj {g : Nat → List Nat} {n i j : Nat} {x : Nat} (h : (seg g 0 n).Nodup) (hi : i < n) (hj : j < n) (hij : i ≠ j) (hx : x ∈ g i) : x ∉ g j := by
  rw [seg_at g hi] at h
  obtain ⟨-, h2, h3⟩ := List.nodup_append.mp h
  obtain ⟨-, -, h5⟩ := List.nodup_append.mp h2
  intro hy
  rcases Nat.lt_or_gt_of_ne hij with hlt | hgt
  · exact h5 x hx x (seg_mem.mpr ⟨j - (i + 1), by omega, by rw [show i + 1 + (j - (i + 1)) = j by omega]; exact hy⟩) rfl
  · exact h3 x (seg_mem.mpr ⟨j, hgt, by simpa using hy⟩) x (List.mem_append_left _ hx) rfl
theorem seg_nod {g : Nat → List Nat} {n i : Nat} (h : (seg g 0 n).Nodup) (hi : i < n) : (g i).Nodup := by
  rw [seg_at g hi] at h
  exact (List.nodup_append.mp (List.nodup_append.mp h).2.1).1
theorem perm_mid {P X U Y S : List Nat} (h : X.Perm (U ++ Y)) : (P ++ (X ++ S)).Perm (U ++ (P ++ (Y ++ S))) := by
  refine ((h.append_right S).append_left P).trans ?_
  rw [List.append_assoc]
  rw [← List.append_assoc P, ← List.append_assoc U P]
  exact List.perm_append_comm.append_right _
