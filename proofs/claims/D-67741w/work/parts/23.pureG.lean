/-! PURE: a key goes out; nodes joined, keys moved over -/
theorem seg_pair {α : Type} (g : Nat → List α) {n q : Nat} (hq : q + 1 < n) : seg g 0 n = seg g 0 q ++ (g q ++ (g (q + 1) ++ seg g (q + 2) (n - (q + 2)))) := by
  rw [seg_at g (show q < n by omega), show n - (q + 1) = (n - (q + 2)) + 1 by omega, seg_s]
theorem seg_del {α : Type} {g g' : Nat → List α} {n b : Nat} (hb : b < n) (h1 : ∀ i, i < b → g' i = g i) (h2 : ∀ i, b ≤ i → i < n - 1 → g' i = g (i + 1)) : seg g' 0 (n - 1) = seg g 0 b ++ seg g (b + 1) (n - 1 - b) := by
  rw [seg_cut g' (show b ≤ n - 1 by omega), seg_congr (g' := g) b 0 0 (fun j hj => by simpa using h1 j hj), seg_congr (g' := g) (n - 1 - b) b (b + 1) (fun j hj => by rw [h2 (b + j) (by omega) (by omega), show b + j + 1 = b + 1 + j by omega])]
/-- keys of a leaf -/
def lOK (K : Nat → Nat) (c lo hi : Nat) : Prop := (∀ k, k < c → lo ≤ K k ∧ K k < hi) ∧ ∀ k, k + 1 < c → K k < K (k + 1)
theorem ok0 {N : Nat → Nd} {n lo hi e mn : Nat} : okT N 0 n lo hi e mn ↔ nl (N n) = 1 ∧ mn ≤ nc (N n) ∧ nc (N n) ≤ 7 ∧ ns (N n) = nc (N n) ∧ nx (N n) = e ∧ lOK (nK (N n)) (nc (N n)) lo hi := Iff.rfl
theorem lCat {K1 K2 K : Nat → Nat} {c1 c2 lo s hi : Nat} (h1 : lOK K1 c1 lo s) (h2 : lOK K2 c2 s hi) (hl : lo ≤ s) (hh : s ≤ hi) (e1 : ∀ i, i < c1 → K i = K1 i) (e2 : ∀ i, i < c2 → K (c1 + i) = K2 i) : lOK K (c1 + c2) lo hi := by
  refine ⟨fun k hk => ?_, fun k hk => ?_⟩
  · by_cases hx : k < c1
    · rw [e1 k hx]; have := h1.1 k hx; omega
    · obtain ⟨j, rfl⟩ : ∃ j, k = c1 + j := ⟨k - c1, by omega⟩
      rw [e2 j (by omega)]; have := h2.1 j (by omega); omega
  · by_cases hx : k + 1 < c1
    · rw [e1 k (by omega), e1 (k + 1) hx]; exact h1.2 k hx
    · by_cases hy : k + 1 = c1
      · have := e2 0 (by omega)
        rw [Nat.add_zero] at this
        rw [e1 k (by omega), hy, this]
        have := h1.1 k (by omega); have := h2.1 0 (by omega); omega
      · obtain ⟨j, rfl⟩ : ∃ j, k = c1 + j := ⟨k - c1, by omega⟩
        rw [e2 j (by omega), show c1 + j + 1 = c1 + (j + 1) by omega, e2 (j + 1) (by omega)]
        exact h2.2 j (by omega)
theorem lCut {K : Nat → Nat} {c1 c2 lo hi : Nat} (h : lOK K (c1 + c2) lo hi) (h0 : 0 < c2) : lOK K c1 lo (K c1) ∧ lOK (fun i => K (c1 + i)) c2 (K c1) hi := by
  refine ⟨⟨fun k hk => ⟨(h.1 k (by omega)).1, adj_lt h.2 hk (by omega)⟩, fun k hk => h.2 k (by omega)⟩, ⟨fun k hk => ⟨?_, (h.1 (c1 + k) (by omega)).2⟩, fun k hk => h.2 (c1 + k) (by omega)⟩⟩
  by_cases hz : k = 0
  · subst hz; exact Nat.le_refl _
  · exact Nat.le_of_lt (adj_lt h.2 (show c1 < c1 + k by omega) (by omega))
theorem lOK.congr {K K' : Nat → Nat} {c lo hi : Nat} (h : lOK K c lo hi) (e : ∀ i, i < c → K' i = K i) : lOK K' c lo hi :=
  ⟨fun k hk => by rw [e k hk]; exact h.1 k hk, fun k hk => by rw [e k (by omega), e (k + 1) hk]; exact h.2 k hk⟩
section CC
variable {N : Nat → Nd} {d lo s hi e e1 c1 c2 : Nat} {K1 C1 K2 C2 K C : Nat → Nat}
theorem kCat (h1 : kOK N d K1 C1 c1 lo s e1 (fun _ => 3)) (h2 : kOK N d K2 C2 c2 s hi e (fun _ => 3)) (he : e1 = hdO N d (C2 0)) (k1 : ∀ i, i < c1 → K i = K1 i) (k2 : K c1 = s) (k3 : ∀ i, i < c2 → K (c1 + 1 + i) = K2 i) (j1 : ∀ i, i ≤ c1 → C i = C1 i) (j2 : ∀ i, i ≤ c2 → C (c1 + 1 + i) = C2 i) :
    kOK N d K C (c1 + c2 + 1) lo hi e (fun _ => 3) := by
  have B1 : ∀ i, i ≤ c1 + 1 → bdO lo hi K (c1 + c2 + 1) i = bdO lo s K1 c1 i := fun i hi' => by
    cases i with
    | zero => rw [bd_0, bd_0]
    | succ i =>
      rw [bd_s (show i < c1 + c2 + 1 by omega)]
      by_cases hx : i = c1
      · subst hx; rw [bd_t, k2]
      · rw [bd_s (by omega), k1 i (by omega)]
  have B2 : ∀ i, i ≤ c2 + 1 → bdO lo hi K (c1 + c2 + 1) (c1 + 1 + i) = bdO s hi K2 c2 i := fun i hi' => by
    cases i with
    | zero => rw [bd_0, Nat.add_zero, B1 _ (Nat.le_refl _), bd_t]
    | succ i =>
      by_cases hx : i = c2
      · subst hx; rw [bd_t, show c1 + 1 + (i + 1) = c1 + i + 1 + 1 by omega, bd_t]
      · rw [show c1 + 1 + (i + 1) = (c1 + 1 + i) + 1 by omega, bd_s (by omega), bd_s (by omega), k3 i (by omega)]
  intro i hi'
  by_cases hx : i ≤ c1
  · have := h1 i hx
    rw [B1 i (by omega), B1 (i + 1) (by omega), j1 i hx, he_s (by omega)]
    by_cases hy : i = c1
    · subst hy
      have := j2 0 (by omega)
      rw [Nat.add_zero] at this
      rw [this, ← he]
      have h9 := h1 i (Nat.le_refl _)
      rw [he_t] at h9
      exact h9
    · rw [he_s (by omega)] at this
      rw [j1 (i + 1) (by omega)]; exact this
  · obtain ⟨j, rfl⟩ : ∃ j, i = c1 + 1 + j := ⟨i - (c1 + 1), by omega⟩
    have := h2 j (by omega)
    rw [B2 j (by omega), show c1 + 1 + j + 1 = c1 + 1 + (j + 1) by omega, B2 (j + 1) (by omega), j2 j (by omega)]
    by_cases hy : j = c2
    · subst hy
      rw [he_t] at this
      rw [show c1 + 1 + (j + 1) = c1 + j + 1 + 1 by omega, he_t]; exact this
    · rw [he_s (by omega)] at this
      rw [show c1 + 1 + (j + 1) = (c1 + 1 + j) + 1 by omega, he_s (by omega), show c1 + 1 + j + 1 = c1 + 1 + (j + 1) by omega, j2 (j + 1) (by omega)]; exact this
theorem kCut (h : kOK N d K C (c1 + c2 + 1) lo hi e (fun _ => 3)) : kOK N d K C c1 lo (K c1) (hdO N d (C (c1 + 1))) (fun _ => 3) ∧ kOK N d (fun i => K (c1 + 1 + i)) (fun i => C (c1 + 1 + i)) c2 (K c1) hi e (fun _ => 3) := by
  refine ⟨fun i hi' => ?_, fun i hi' => ?_⟩
  · have := h i (by omega)
    have b1 : bdO lo (K c1) K c1 i = bdO lo hi K (c1 + c2 + 1) i := by
      cases i with
      | zero => rw [bd_0, bd_0]
      | succ i => rw [bd_s (by omega), bd_s (by omega)]
    have b2 : bdO lo (K c1) K c1 (i + 1) = bdO lo hi K (c1 + c2 + 1) (i + 1) := by
      rw [bd_s (show i < c1 + c2 + 1 by omega)]
      by_cases hx : i = c1
      · subst hx; rw [bd_t]
      · rw [bd_s (by omega)]
    have e1 : heO N d C c1 (hdO N d (C (c1 + 1))) (i + 1) = heO N d C (c1 + c2 + 1) e (i + 1) := by
      rw [he_s (show i < c1 + c2 + 1 by omega)]
      by_cases hx : i = c1
      · subst hx; rw [he_t]
      · rw [he_s (by omega)]
    rw [b1, b2, e1]; exact this
  · have := h (c1 + 1 + i) (by omega)
    have b1 : bdO (K c1) hi (fun i => K (c1 + 1 + i)) c2 i = bdO lo hi K (c1 + c2 + 1) (c1 + 1 + i) := by
      cases i with
      | zero => rw [bd_0, Nat.add_zero, bd_s (by omega)]
      | succ i => rw [bd_s (by omega), show c1 + 1 + (i + 1) = (c1 + 1 + i) + 1 by omega, bd_s (by omega)]
    have b2 : bdO (K c1) hi (fun i => K (c1 + 1 + i)) c2 (i + 1) = bdO lo hi K (c1 + c2 + 1) (c1 + 1 + i + 1) := by
      by_cases hx : i = c2
      · subst hx; rw [bd_t, show c1 + 1 + i + 1 = c1 + i + 1 + 1 by omega, bd_t]
      · rw [bd_s (by omega), bd_s (by omega)]
    have e1 : heO N d (fun i => C (c1 + 1 + i)) c2 e (i + 1) = heO N d C (c1 + c2 + 1) e (c1 + 1 + i + 1) := by
      by_cases hx : i = c2
      · subst hx; rw [he_t, show c1 + 1 + i + 1 = c1 + i + 1 + 1 by omega, he_t]
      · rw [he_s (by omega), he_s (by omega), show c1 + 1 + (i + 1) = c1 + 1 + i + 1 by omega]
    rw [b1, b2, e1]; exact this
/-- laid end to end -/
theorem seg_cat {α : Type} {g g1 g2 : Nat → List α} (j1 : ∀ i, i ≤ c1 → g i = g1 i) (j2 : ∀ i, i ≤ c2 → g (c1 + 1 + i) = g2 i) : seg g 0 (c1 + c2 + 1 + 1) = seg g1 0 (c1 + 1) ++ seg g2 0 (c2 + 1) := by
  rw [show c1 + c2 + 1 + 1 = (c1 + 1) + (c2 + 1) by omega, seg_add g (c1 + 1) 0 (c2 + 1), seg_congr (g' := g1) (c1 + 1) 0 0 (fun j hj => by rw [Nat.zero_add]; exact j1 j (by omega)), seg_congr (g' := g2) (c2 + 1) (0 + (c1 + 1)) 0 (fun j hj => by rw [Nat.zero_add, Nat.zero_add]; exact j2 j (by omega))]
theorem xs_cat {N' : Nat → Nd} (j1 : ∀ i, i ≤ c1 → C i = C1 i) (j2 : ∀ i, i ≤ c2 → C (c1 + 1 + i) = C2 i) : xsK N' d C (c1 + c2 + 1) = xsK N' d C1 c1 ++ xsK N' d C2 c2 := seg_cat (fun i h => by rw [j1 i h]) (fun i h => by rw [j2 i h])
theorem fp_cat {N' : Nat → Nd} (j1 : ∀ i, i ≤ c1 → C i = C1 i) (j2 : ∀ i, i ≤ c2 → C (c1 + 1 + i) = C2 i) : fpK N' d C (c1 + c2 + 1) = fpK N' d C1 c1 ++ fpK N' d C2 c2 := seg_cat (fun i h => by rw [j1 i h]) (fun i h => by rw [j2 i h])
theorem seg_catL {α : Type} {g g1 g2 : Nat → List α} (j1 : ∀ i, i < c1 → g i = g1 i) (j2 : ∀ i, i < c2 → g (c1 + i) = g2 i) : seg g 0 (c1 + c2) = seg g1 0 c1 ++ seg g2 0 c2 := by
  rw [seg_add g c1 0 c2, seg_congr (g' := g1) c1 0 0 (fun j hj => by rw [Nat.zero_add]; exact j1 j hj), seg_congr (g' := g2) c2 (0 + c1) 0 (fun j hj => by rw [Nat.zero_add, Nat.zero_add]; exact j2 j hj)]
end CC
/-! two kids beside each other -/
def PJ (N N' : Nat → Nd) (d u v lo hi e : Nat) : Prop := okT N' d u lo hi e 3 ∧ xsO N' d u = xsO N d u ++ xsO N d v ∧ hdO N' d u = hdO N d u ∧ (v :: fpO N' d u).Perm (fpO N d u ++ fpO N d v)
def PS (N N' : Nat → Nd) (d u v lo hi e s : Nat) : Prop := okT N' d u lo s (hdO N' d v) 3 ∧ okT N' d v s hi e 3 ∧ xsO N' d u ++ xsO N' d v = xsO N d u ++ xsO N d v ∧ hdO N' d u = hdO N d u ∧ (fpO N' d u ++ fpO N' d v).Perm (fpO N d u ++ fpO N d v)
section PP
variable {N N' : Nat → Nd} {d u v lo s hi e mu mv : Nat}
theorem pj_l (hu : okT N 0 u lo s (hdO N 0 v) mu) (hv : okT N 0 v s hi e mv) (hl : lo ≤ s) (hh : s ≤ hi) (h3 : 3 ≤ nc (N u) + nc (N v)) (h7 : nc (N u) + nc (N v) ≤ 7)
    (a : N' u = nd (fun i => if nc (N u) ≤ i ∧ i < nc (N u) + nc (N v) then nK (N v) (i - nc (N u)) else nK (N u) i) (nC (N u)) (nc (N u) + nc (N v)) (nl (N u)) (nx (N v)) (ns (N u) + ns (N v))) : PJ N N' 0 u v lo hi e := by
  obtain ⟨u1, u2, u3, u4, u5, u6⟩ := ok0.mp hu
  obtain ⟨v1, v2, v3, v4, v5, v6⟩ := ok0.mp hv
  refine ⟨ok0.mpr ?_, ?_, rfl, List.perm_append_comm (l₁ := [v])⟩
  · rw [a]
    simp only [nK_nd, nc_nd, nl_nd, nx_nd, ns_nd]
    exact ⟨u1, h3, h7, by omega, v5, lCat u6 v6 hl hh (fun i hi' => by rw [if_neg (by omega)]) (fun i hi' => by rw [if_pos (by omega), Nat.add_sub_cancel_left])⟩
  · show seg (fun k => [nK (N' u) k]) 0 (nc (N' u)) = seg (fun k => [nK (N u) k]) 0 (nc (N u)) ++ seg (fun k => [nK (N v) k]) 0 (nc (N v))
    rw [a]
    simp only [nK_nd, nc_nd]
    exact seg_catL (fun i hi' => by rw [if_neg (by omega)]) (fun i hi' => by rw [if_pos (by omega), Nat.add_sub_cancel_left])
theorem pj_n (hu : okT N (d + 1) u lo s (hdO N (d + 1) v) mu) (hv : okT N (d + 1) v s hi e mv) (h3 : 3 ≤ nc (N u) + (nc (N v) + 1)) (h7 : nc (N u) + (nc (N v) + 1) ≤ 7)
    (a : N' u = nd (fun i => if nc (N u) + 1 ≤ i ∧ i < nc (N u) + 1 + nc (N v) then nK (N v) (i - (nc (N u) + 1)) else if i = nc (N u) then s else nK (N u) i) (fun i => if nc (N u) + 1 ≤ i ∧ i < nc (N u) + 1 + (nc (N v) + 1) then nC (N v) (i - (nc (N u) + 1)) else nC (N u) i) (nc (N u) + (nc (N v) + 1)) (nl (N u)) (nx (N u)) (ns (N u) + ns (N v)))
    (f1 : ∀ i, i ≤ nc (N u) → ∀ q ∈ fpO N d (nC (N u) i), N' q = N q) (f2 : ∀ i, i ≤ nc (N v) → ∀ q ∈ fpO N d (nC (N v) i), N' q = N q) : PJ N N' (d + 1) u v lo hi e := by
  obtain ⟨u1, u2, u3, u4, u5⟩ := okT_s.mp hu
  obtain ⟨v1, v2, v3, v4, v5⟩ := okT_s.mp hv
  have hk := kCat (kOK_frame f1 u5) (kOK_frame f2 v5) (K := nK (N' u)) (C := nC (N' u)) (by rw [frame_hd (f2 0 (by omega))]; rfl) (fun i hi' => by rw [a, nK_nd]; rw [if_neg (by omega), if_neg (by omega)]) (by rw [a, nK_nd]; rw [if_neg (by omega), if_pos rfl]) (fun i hi' => by rw [a, nK_nd]; rw [if_pos (by omega), Nat.add_sub_cancel_left]) (fun i hi' => by rw [a, nC_nd]; rw [if_neg (by omega)]) (fun i hi' => by rw [a, nC_nd]; rw [if_pos (by omega), Nat.add_sub_cancel_left])
  have j1 : ∀ i, i ≤ nc (N u) → nC (N' u) i = nC (N u) i := fun i hi' => by rw [a, nC_nd]; rw [if_neg (by omega)]
  have j2 : ∀ i, i ≤ nc (N v) → nC (N' u) (nc (N u) + 1 + i) = nC (N v) i := fun i hi' => by rw [a, nC_nd]; rw [if_pos (by omega), Nat.add_sub_cancel_left]
  have ec : nc (N' u) = nc (N u) + nc (N v) + 1 := by rw [a, nc_nd]; omega
  have hx : xsK N' d (nC (N' u)) (nc (N' u)) = xsK N d (nC (N u)) (nc (N u)) ++ xsK N d (nC (N v)) (nc (N v)) := by rw [ec, xs_cat j1 j2, xsK_frame f1, xsK_frame f2]
  refine ⟨okT_s.mpr ⟨by rw [a, nl_nd]; exact u1, by omega, by omega, ?_, by rw [ec]; exact hk⟩, hx, ?_, ?_⟩
  · rw [hx, a, ns_nd, List.length_append, u4, v4]
  · rw [hdO, hdO, j1 0 (by omega), frame_hd (f1 0 (by omega))]
  · show (v :: u :: fpK N' d (nC (N' u)) (nc (N' u))).Perm ((u :: fpK N d (nC (N u)) (nc (N u))) ++ (v :: fpK N d (nC (N v)) (nc (N v))))
    rw [ec, fp_cat j1 j2, fpK_frame f1, fpK_frame f2]
    refine List.Perm.trans ?_ List.perm_middle.symm
    rw [List.cons_append]
theorem ps_rl (hu : okT N 0 u lo s (hdO N 0 v) mu) (hv : okT N 0 v s hi e mv) (hh : s ≤ hi) (h4 : 4 ≤ nc (N u)) (h2 : 2 ≤ nc (N v)) (h7 : nc (N v) ≤ 6)
    (a : N' u = nd (nK (N u)) (nC (N u)) (nc (N u) - 1) (nl (N u)) (nx (N u)) (ns (N u) - 1)) (b : N' v = nd (fun i => if i = 0 then nK (N u) (nc (N u) - 1) else if i ≤ nc (N v) then nK (N v) (i - 1) else nK (N v) i) (fun i => if i = 0 then nC (N v) 0 else if i ≤ nc (N v) + 1 then nC (N v) (i - 1) else nC (N v) i) (nc (N v) + 1) (nl (N v)) (nx (N v)) (ns (N v) + 1)) : PS N N' 0 u v lo hi e (nK (N u) (nc (N u) - 1)) := by
  obtain ⟨u1, u2, u3, u4, u5, u6⟩ := ok0.mp hu
  obtain ⟨v1, v2, v3, v4, v5, v6⟩ := ok0.mp hv
  have ec : nc (N u) - 1 + 1 = nc (N u) := by omega
  obtain ⟨l1, l2⟩ := lCut (c1 := nc (N u) - 1) (c2 := 1) (by rw [ec]; exact u6) (by omega)
  have l3 := u6.1 (nc (N u) - 1) (by omega)
  refine ⟨ok0.mpr ?_, ok0.mpr ?_, ?_, rfl, List.Perm.refl _⟩
  · rw [a]
    simp only [nK_nd, nc_nd, nl_nd, nx_nd, ns_nd]
    exact ⟨u1, by omega, by omega, by omega, u5, l1⟩
  · rw [b]
    simp only [nK_nd, nc_nd, nl_nd, nx_nd, ns_nd]
    refine ⟨v1, by omega, by omega, by omega, v5, ?_⟩
    rw [Nat.add_comm]
    exact lCat l2 v6 (by omega) hh (fun i hi' => by rw [show i = 0 by omega]; rfl) (fun i hi' => by rw [if_neg (by omega), if_pos (by omega), Nat.add_sub_cancel_left])
  · show seg (fun k => [nK (N' u) k]) 0 (nc (N' u)) ++ seg (fun k => [nK (N' v) k]) 0 (nc (N' v)) = seg (fun k => [nK (N u) k]) 0 (nc (N u)) ++ seg (fun k => [nK (N v) k]) 0 (nc (N v))
    rw [a, b]
    simp only [nK_nd, nc_nd]
    rw [Nat.add_comm (nc (N v)) 1, seg_catL (c1 := 1) (c2 := nc (N v)) (g1 := fun k => [nK (N u) (nc (N u) - 1 + k)]) (g2 := fun k => [nK (N v) k]) (fun i hi' => by rw [show i = 0 by omega]; rfl) (fun i hi' => by rw [if_neg (by omega), if_pos (by omega), Nat.add_sub_cancel_left]), ← List.append_assoc]
    congr 1
    have := seg_add (fun k => [nK (N u) k]) (nc (N u) - 1) 0 1
    rw [ec] at this
    rw [this, seg_1, seg_1, Nat.zero_add, Nat.add_zero]
theorem ps_ll (hu : okT N 0 u lo s (hdO N 0 v) mu) (hv : okT N 0 v s hi e mv) (hl : lo ≤ s) (h4 : 4 ≤ nc (N v)) (h2 : 2 ≤ nc (N u)) (h7 : nc (N u) ≤ 6)
    (a : N' u = nd (va_up (nK (N u)) (nc (N u)) (nK (N v) 0)) (nC (N u)) (nc (N u) + 1) (nl (N u)) (nx (N u)) (ns (N u) + 1)) (b : N' v = nd (shK (nK (N v)) 0 (nc (N v) - 1)) (shC (nC (N v)) 0 (nc (N v))) (nc (N v) - 1) (nl (N v)) (nx (N v)) (ns (N v) - 1)) : PS N N' 0 u v lo hi e (nK (N v) 1) := by
  obtain ⟨u1, u2, u3, u4, u5, u6⟩ := ok0.mp hu
  obtain ⟨v1, v2, v3, v4, v5, v6⟩ := ok0.mp hv
  have ec : 1 + (nc (N v) - 1) = nc (N v) := by omega
  obtain ⟨l1, l2⟩ := lCut (c1 := 1) (c2 := nc (N v) - 1) (by rw [ec]; exact v6) (by omega)
  have l3 := v6.1 1 (by omega)
  have l4 := v6.1 0 (by omega)
  have l5 := v6.2 0 (by omega)
  have es : ∀ i, i < nc (N v) - 1 → shK (nK (N v)) 0 (nc (N v) - 1) i = nK (N v) (1 + i) := fun i hi' => by simp only [shK]; rw [if_pos ⟨Nat.zero_le _, hi'⟩, Nat.add_comm]
  refine ⟨ok0.mpr ?_, ok0.mpr ?_, ?_, rfl, List.Perm.refl _⟩
  · rw [a]
    simp only [nK_nd, nc_nd, nl_nd, nx_nd, ns_nd]
    exact ⟨u1, by omega, by omega, by omega, u5, lCat u6 l1 hl (by omega) (fun i hi' => va_up_ne _ _ (by omega)) (fun i hi' => by rw [show i = 0 by omega, Nat.add_zero, va_up_self])⟩
  · rw [b]
    simp only [nK_nd, nc_nd, nl_nd, nx_nd, ns_nd]
    exact ⟨v1, by omega, by omega, by omega, v5, l2.congr es⟩
  · show seg (fun k => [nK (N' u) k]) 0 (nc (N' u)) ++ seg (fun k => [nK (N' v) k]) 0 (nc (N' v)) = seg (fun k => [nK (N u) k]) 0 (nc (N u)) ++ seg (fun k => [nK (N v) k]) 0 (nc (N v))
    rw [a, b]
    simp only [nK_nd, nc_nd]
    rw [seg_catL (c1 := nc (N u)) (c2 := 1) (g1 := fun k => [nK (N u) k]) (g2 := fun k => [nK (N v) k]) (fun i hi' => by rw [va_up_ne _ _ (by omega)]) (fun i hi' => by rw [show i = 0 by omega, Nat.add_zero, va_up_self]), List.append_assoc]
    congr 1
    have := seg_add (fun k => [nK (N v) k]) 1 0 (nc (N v) - 1)
    rw [ec] at this
    rw [this]
    congr 1
    exact seg_congr _ _ _ (fun j hj => by rw [Nat.zero_add, es j hj, Nat.zero_add])
end PP
