/-! PURE: a key comes in, at a node with kids, one of which was parted -/
section CG
variable {N : Nat → Nd} {d c lo hi e : Nat} {K C K2 C2 mf : Nat → Nat}
theorem bd_congr (hK : ∀ i, i < c → K i = K2 i) {i : Nat} (hi' : i ≤ c + 1) : bdO lo hi K c i = bdO lo hi K2 c i := by
  unfold bdO
  split
  · rfl
  · split
    · rfl
    · exact hK _ (by omega)
theorem he_congr (hC : ∀ i, i ≤ c → C i = C2 i) {i : Nat} (hi' : i ≤ c + 1) : heO N d C c e i = heO N d C2 c e i := by
  unfold heO
  split
  · rfl
  · rw [hC i (by omega)]
theorem kOK_congr (hK : ∀ i, i < c → K i = K2 i) (hC : ∀ i, i ≤ c → C i = C2 i) (h : kOK N d K C c lo hi e mf) : kOK N d K2 C2 c lo hi e mf := fun i hi' => by
  have := h i hi'
  rw [bd_congr hK (by omega), bd_congr hK (by omega), he_congr hC (by omega), hC i hi'] at this
  exact this
theorem xsK_congr (hC : ∀ i, i ≤ c → C i = C2 i) : xsK N d C c = xsK N d C2 c := seg_congr _ _ _ (fun j hj => by rw [hC (0 + j) (by omega)])
theorem fpK_congr (hC : ∀ i, i ≤ c → C i = C2 i) : fpK N d C c = fpK N d C2 c := seg_congr _ _ _ (fun j hj => by rw [hC (0 + j) (by omega)])
theorem sm_len {N0 : Nat → Nd} {g : Nat → List Nat} : ∀ (k i : Nat), (∀ j, j < k → ns (N0 (C (i + j))) = (g (i + j)).length) → smN N0 (fun j => C (i + j)) k = (seg g i k).length
  | 0, _, _ => rfl
  | k + 1, i, h => by
    rw [smN, sm_len k i (fun j hj => h j (by omega)), h k (by omega), seg_add g k i 1, seg_1, List.length_append]
end CG
section ADDJ
variable {N N1 N2 N3 : Nat → Nd} {n d lo hi e mn ky b r u : Nat} {used frl : List Nat}
/-- the words that the two rows below share -/
def AH (N N1 N2 N3 : Nat → Nd) (n d lo hi e mn ky b r u : Nat) (used frl : List Nat) : Prop :=
  okT N (d + 1) n lo hi e mn ∧ lo ≤ ky ∧ ky < hi ∧ (fpO N (d + 1) n ++ frl).Nodup ∧ N1 n = nd (nK (N n)) (nC (N n)) (nc (N n)) (nl (N n)) (nx (N n)) (ns (N n) + 1) ∧ (∀ m, m ≠ n → N1 m = N m) ∧ b ≤ nc (N n) ∧ (∀ j, j < b → nK (N n) j ≤ ky) ∧ (b < nc (N n) → ky < nK (N n) b) ∧ (∀ m ∈ used, m ∈ frl) ∧
  AP N1 N2 (nC (N n) b) d (bdO lo hi (nK (N n)) (nc (N n)) b) (bdO lo hi (nK (N n)) (nc (N n)) (b + 1)) (heO N d (nC (N n)) (nc (N n)) e (b + 1)) 3 ky used r u ∧ r < 500 ∧
  N3 n = nd (va_up (opK (nK (N n)) b (nc (N n))) b u) (va_up (opC (nC (N n)) b (nc (N n))) (b + 1) r) (nc (N n) + 1) (nl (N n)) (nx (N n)) (ns (N n) + 1) ∧ ∀ m, m ≠ n → N3 m = N2 m
theorem add_h (H : AH N N1 N2 N3 n d lo hi e mn ky b r u used frl) :
    kOK N2 d (nK (N3 n)) (nC (N3 n)) (nc (N n) + 1) lo hi e (fun _ => 3) ∧ Ins ky (xsK N d (nC (N n)) (nc (N n))) (xsK N2 d (nC (N3 n)) (nc (N n) + 1)) ∧ (fpK N2 d (nC (N3 n)) (nc (N n) + 1)).Perm (used ++ fpK N d (nC (N n)) (nc (N n))) ∧ hdO N2 d (nC (N3 n) 0) = hdO N d (nC (N n) 0) ∧ (∀ i, i ≤ nc (N n) + 1 → ∀ q ∈ fpO N2 d (nC (N3 n) i), q ≠ n ∧ (q ∈ used ∨ q ∈ fpO N (d + 1) n)) ∧ (∀ m, m ∉ fpO N (d + 1) n → m ∉ used → N2 m = N m) ∧ n ∉ used := by
  obtain ⟨ho, hlo, hhi, hnd, q0, q1, hb, h1, h2, hu, ap, hr, r0, r1⟩ := H
  obtain ⟨v1, v2, v3, v4⟩ := add_v (K' := nK (N3 n)) (C' := nC (N3 n)) ho hlo hhi hnd q0 q1 hb h1 h2 hu ap hr (fun i hi' => by rw [r0]; exact opK_ins i hi') (fun i hi' => by rw [r0]; exact opC_ins i hi')
  obtain ⟨p1, p2, p3, p4, p5⟩ := add_pre hnd q0 q1 hb hu ap
  refine ⟨v1, v2, v3, v4, fun i hi' q hq => ?_, p4, p5⟩
  have hq2 := v3.mem_iff.mp (fpK_mem.mpr ⟨i, hi', hq⟩)
  rcases List.mem_append.mp hq2 with hq3 | hq3
  · exact ⟨fun z => p5 (z ▸ hq3), Or.inl hq3⟩
  · obtain ⟨j, hj, hq4⟩ := fpK_mem.mp hq3
    exact ⟨(p1 j hj q hq4).2.1, Or.inr (fpO_kid hj hq4)⟩
theorem add_i1 {u' : Nat} (H : AH N N1 N2 N3 n d lo hi e mn ky b r u used frl) (h8 : nc (N n) + 1 ≠ 8) : AP N N3 n (d + 1) lo hi e mn ky used NONE u' := by
  obtain ⟨v1, v2, v3, v4, v5, p4, p5⟩ := add_h H
  obtain ⟨ho, hlo, hhi, hnd, q0, q1, hb, h1, h2, hu, ap, hr, r0, r1⟩ := H
  obtain ⟨g1, g2, g3, g4, g5⟩ := okT_s.mp ho
  have fr : ∀ i, i ≤ nc (N n) + 1 → ∀ q ∈ fpO N2 d (nC (N3 n) i), N3 q = N2 q := fun i hi' q hq => r1 q (v5 i hi' q hq).1
  have ec : nc (N3 n) = nc (N n) + 1 := by rw [r0, nc_nd]
  refine ⟨fun m hm h9 => by rw [r1 m (fun z => hm (by rw [z]; exact fpO_self _ _ _)), p4 m hm h9], by have := ap.2.1; omega, ?_, Or.inl ⟨rfl, okT_s.mpr ⟨by rw [r0, nl_nd]; exact g1, by omega, by omega, ?_, ?_⟩, ?_, ?_⟩⟩
  · rw [hdO, hdO, frame_hd (fr 0 (by omega)), v4]
  · rw [ec, xsK_frame fr, v2.len, ← g4, r0, ns_nd]
  · rw [ec]; exact kOK_frame fr v1
  · show Ins ky (xsK N d (nC (N n)) (nc (N n))) (xsK N3 d (nC (N3 n)) (nc (N3 n)))
    rw [ec, xsK_frame fr]; exact v2
  · show (n :: fpK N3 d (nC (N3 n)) (nc (N3 n))).Perm (used ++ n :: fpK N d (nC (N n)) (nc (N n)))
    rw [ec, fpK_frame fr]
    exact (List.Perm.cons n v3).trans List.perm_middle.symm
theorem add_i2 {N4 : Nat → Nd} {f : Nat} (H : AH N N1 N2 N3 n d lo hi e mn ky b r u used frl) (h8 : nc (N n) + 1 = 8) (hf : f < 500) (hfm : f ∈ frl) (hfu : f ∉ used)
    (s0 : N4 n = nd (nK (N3 n)) (nC (N3 n)) 4 (nl (N3 n)) (nx (N3 n)) (smN N3 (nC (N3 n)) 5)) (s1 : N4 f = nd (fun i => if i < 3 then nK (N3 n) (i + 5) else nK (N3 f) i) (fun i => if i < 4 then nC (N3 n) (i + 5) else nC (N3 f) i) 3 0 NONE (smN N3 (fun i => nC (N3 n) (i + 5)) 4)) (s2 : ∀ q, q ≠ n → q ≠ f → N4 q = N3 q) :
    AP N N4 n (d + 1) lo hi e mn ky (used ++ [f]) f (nK (N3 n) 4) := by
  obtain ⟨v1, v2, v3, v4, v5, p4, p5⟩ := add_h H
  obtain ⟨ho, hlo, hhi, hnd, q0, q1, hb, h1, h2, hu, ap, hr, r0, r1⟩ := H
  obtain ⟨g1, g2, g3, g4, g5⟩ := okT_s.mp ho
  rw [h8] at v1 v2 v3 v5
  have hfn : f ∉ fpO N (d + 1) n := fun z => (List.nodup_append.mp hnd).2.2 f z f hfm rfl
  have el : nl (N3 n) = 0 := by rw [r0, nl_nd]; exact g1
  have fr3 : ∀ i, i ≤ 8 → ∀ q ∈ fpO N2 d (nC (N3 n) i), N3 q = N2 q := fun i hi' q hq => r1 q (v5 i hi' q hq).1
  have fr : ∀ i, i ≤ 8 → ∀ q ∈ fpO N2 d (nC (N3 n) i), N4 q = N2 q := fun i hi' q hq => by
    rw [s2 q (v5 i hi' q hq).1 (fun z => ?_), fr3 i hi' q hq]
    rcases (v5 i hi' q hq).2 with h | h
    · exact hfu (z ▸ h)
    · exact hfn (z ▸ h)
  obtain ⟨k1, k2⟩ := kS v1
  have hns : ∀ i, i ≤ 8 → ns (N3 (nC (N3 n) i)) = (xsO N2 d (nC (N3 n) i)).length := fun i hi' => by rw [fr3 i hi' _ (fpO_self _ _ _)]; exact ok_ns (v1 i hi')
  generalize nK (N3 n) = K at *
  generalize nC (N3 n) = C at *
  have fr4 : ∀ i, i ≤ 4 → ∀ q ∈ fpO N2 d (C i), N4 q = N2 q := fun i hi' => fr i (by omega)
  have fr5 : ∀ i, i ≤ 3 → ∀ q ∈ fpO N2 d ((fun i => C (i + 5)) i), N4 q = N2 q := fun i hi' => fr (i + 5) (by omega)
  have eC : ∀ i, i ≤ 3 → (fun i => C (i + 5)) i = (fun i => if i < 4 then C (i + 5) else nC (N3 f) i) i := fun i hi' => by simp only [show i < 4 by omega, if_true]
  have eK : ∀ i, i < 3 → (fun i => K (i + 5)) i = (fun i => if i < 3 then K (i + 5) else nK (N3 f) i) i := fun i hi' => by simp only [hi', if_true]
  have hx1 : xsO N4 (d + 1) n = xsK N2 d C 4 := by
    show xsK N4 d (nC (N4 n)) (nc (N4 n)) = _
    rw [s0, nC_nd, nc_nd]; exact xsK_frame fr4
  have hx2 : xsO N4 (d + 1) f = xsK N2 d (fun i => C (i + 5)) 3 := by
    show xsK N4 d (nC (N4 f)) (nc (N4 f)) = _
    rw [s1, nC_nd, nc_nd, ← xsK_congr eC]; exact xsK_frame fr5
  have hp1 : fpO N4 (d + 1) n = n :: fpK N2 d C 4 := by
    show n :: fpK N4 d (nC (N4 n)) (nc (N4 n)) = _
    rw [s0, nC_nd, nc_nd, fpK_frame fr4]
  have hp2 : fpO N4 (d + 1) f = f :: fpK N2 d (fun i => C (i + 5)) 3 := by
    show f :: fpK N4 d (nC (N4 f)) (nc (N4 f)) = _
    rw [s1, nC_nd, nc_nd, ← fpK_congr eC, fpK_frame fr5]
  have hh : hdO N4 (d + 1) f = hdO N2 d (C 5) := by rw [hdO, s1, nC_nd]; exact frame_hd (fr 5 (by omega))
  have ex : xsK N2 d C 4 ++ xsK N2 d (fun i => C (i + 5)) 3 = xsK N2 d C 8 := by
    unfold xsK
    rw [show (8 : Nat) + 1 = 5 + 4 from rfl, seg_add _ 5 0 4]
    congr 1
  have ep : fpK N2 d C 4 ++ fpK N2 d (fun i => C (i + 5)) 3 = fpK N2 d C 8 := by
    unfold fpK
    rw [show (8 : Nat) + 1 = 5 + 4 from rfl, seg_add _ 5 0 4]
    congr 1
  refine ⟨fun m hm h9 => ?_, by have := ap.2.1; rw [List.length_append]; simp; omega, ?_, Or.inr ⟨hf, okT_s.mpr ⟨by rw [s0]; exact el, by rw [s0, nc_nd]; omega, by rw [s0, nc_nd]; omega, ?_, ?_⟩, okT_s.mpr ⟨by rw [s1]; rfl, by rw [s1, nc_nd]; omega, by rw [s1, nc_nd]; omega, ?_, ?_⟩, ?_, ?_⟩⟩
  · have hmf : m ≠ f := fun z => h9 (List.mem_append_right _ (by rw [z]; exact List.mem_singleton.mpr rfl))
    have hmn : m ≠ n := fun z => hm (by rw [z]; exact fpO_self _ _ _)
    rw [s2 m hmn hmf, r1 m hmn, p4 m hm (fun z => h9 (List.mem_append_left _ z))]
  · rw [hdO, hdO, s0, nC_nd, frame_hd (fr 0 (by omega)), v4]
  · have : xsK N4 d (nC (N4 n)) (nc (N4 n)) = xsK N2 d C 4 := hx1
    rw [this, s0, ns_nd]
    have := sm_len (C := C) (N0 := N3) (g := fun i => xsO N2 d (C i)) 5 0 (fun j hj => by simp only [Nat.zero_add]; exact hns j (by omega))
    simp only [Nat.zero_add] at this
    exact this
  · rw [s0, nK_nd, nC_nd, nc_nd, hh]; exact kOK_frame fr4 k1
  · have : xsK N4 d (nC (N4 f)) (nc (N4 f)) = xsK N2 d (fun i => C (i + 5)) 3 := hx2
    rw [this, s1, ns_nd]
    have := sm_len (C := fun i => C (i + 5)) (N0 := N3) (g := fun i => xsO N2 d (C (i + 5))) 4 0 (fun j hj => by simp only [Nat.zero_add]; exact hns (j + 5) (by omega))
    simp only [Nat.zero_add] at this
    exact this
  · rw [s1, nK_nd, nC_nd, nc_nd]; exact kOK_congr eK eC (kOK_frame fr5 k2)
  · rw [hx1, hx2, ex]; exact v2
  · rw [hp1, hp2]
    refine List.Perm.trans List.perm_middle ?_
    rw [List.cons_append, ep, List.append_assoc]
    show (f :: n :: fpK N2 d C 8).Perm (used ++ (f :: n :: fpK N d (nC (N n)) (nc (N n))))
    refine List.Perm.trans ?_ List.perm_middle.symm
    exact List.Perm.cons f ((List.Perm.cons n v3).trans List.perm_middle.symm)
end ADDJ
