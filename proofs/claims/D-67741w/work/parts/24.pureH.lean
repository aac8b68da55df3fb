/-! PURE: keys moved over between nodes with kids; the node above; what removeFrom does -/
section PQ
variable {N N' : Nat → Nd} {d u v lo s hi e mu mv : Nat}
theorem ps_rn (hu : okT N (d + 1) u lo s (hdO N (d + 1) v) mu) (hv : okT N (d + 1) v s hi e mv) (h4 : 4 ≤ nc (N u)) (h2 : 2 ≤ nc (N v)) (h7 : nc (N v) ≤ 6)
    (a : N' u = nd (nK (N u)) (nC (N u)) (nc (N u) - 1) (nl (N u)) (nx (N u)) (ns (N u) - ns (N (nC (N u) (nc (N u)))))) (b : N' v = nd (fun i => if i = 0 then s else if i ≤ nc (N v) then nK (N v) (i - 1) else nK (N v) i) (fun i => if i = 0 then nC (N u) (nc (N u)) else if i ≤ nc (N v) + 1 then nC (N v) (i - 1) else nC (N v) i) (nc (N v) + 1) (nl (N v)) (nx (N v)) (ns (N v) + ns (N (nC (N u) (nc (N u))))))
    (f1 : ∀ i, i ≤ nc (N u) → ∀ q ∈ fpO N d (nC (N u) i), N' q = N q) (f2 : ∀ i, i ≤ nc (N v) → ∀ q ∈ fpO N d (nC (N v) i), N' q = N q) : PS N N' (d + 1) u v lo hi e (nK (N u) (nc (N u) - 1)) := by
  obtain ⟨u1, u2, u3, u4, u5⟩ := okT_s.mp hu
  obtain ⟨v1, v2, v3, v4, v5⟩ := okT_s.mp hv
  have ec : nc (N u) - 1 + 0 + 1 = nc (N u) := by omega
  have ec2 : nc (N u) - 1 + 1 = nc (N u) := by omega
  obtain ⟨A, B⟩ := kCut (c1 := nc (N u) - 1) (c2 := 0) (by rw [ec]; exact u5)
  rw [ec2] at A
  have f3 : ∀ i, i ≤ nc (N u) - 1 → ∀ q ∈ fpO N d (nC (N u) i), N' q = N q := fun i hi' => f1 i (by omega)
  have f4 : ∀ i, i ≤ 0 → ∀ q ∈ fpO N d ((fun i => nC (N u) (nc (N u) - 1 + 1 + i)) i), N' q = N q := fun i hi' => f1 (nc (N u) - 1 + 1 + i) (by omega)
  have j1 : ∀ i, i ≤ 0 → nC (N' v) i = (fun i => nC (N u) (nc (N u) - 1 + 1 + i)) i := fun i hi' => by rw [b, nC_nd, show i = 0 by omega, if_pos rfl]; simp only [Nat.add_zero, ec2]
  have j2 : ∀ i, i ≤ nc (N v) → nC (N' v) (0 + 1 + i) = nC (N v) i := fun i hi' => by rw [b, nC_nd, if_neg (by omega), if_pos (by omega)]; congr 1; omega
  have hk := kCat (K := nK (N' v)) (C := nC (N' v)) (kOK_frame f4 B) (kOK_frame f2 v5) (by rw [frame_hd (f2 0 (by omega))]; rfl) (fun i hi' => absurd hi' (Nat.not_lt_zero _)) (by rw [b, nK_nd, if_pos rfl]) (fun i hi' => by rw [b, nK_nd, if_neg (by omega), if_pos (by omega)]; congr 1; omega) j1 j2
  have ev : nc (N' v) = 0 + nc (N v) + 1 := by rw [b, nc_nd]; omega
  have eu : nc (N' u) = nc (N u) - 1 := by rw [a, nc_nd]
  have cu : nC (N' u) = nC (N u) := by rw [a, nC_nd]
  have x1 : xsK N' d (nC (N' u)) (nc (N' u)) = xsK N d (nC (N u)) (nc (N u) - 1) := by rw [eu, cu, xsK_frame f3]
  have x2 : xsK N' d (nC (N' v)) (nc (N' v)) = xsK N d (fun i => nC (N u) (nc (N u) - 1 + 1 + i)) 0 ++ xsK N d (nC (N v)) (nc (N v)) := by rw [ev, xs_cat j1 j2, xsK_frame f4, xsK_frame f2]
  have x3 : xsK N d (nC (N u)) (nc (N u)) = xsK N d (nC (N u)) (nc (N u) - 1) ++ xsK N d (fun i => nC (N u) (nc (N u) - 1 + 1 + i)) 0 := by
    have := xs_cat (N' := N) (d := d) (c1 := nc (N u) - 1) (c2 := 0) (C := nC (N u)) (C1 := nC (N u)) (C2 := fun i => nC (N u) (nc (N u) - 1 + 1 + i)) (fun i _ => rfl) (fun i _ => rfl)
    rw [ec] at this; rw [ec2]; exact this
  have y2 : fpK N' d (nC (N' v)) (nc (N' v)) = fpK N d (fun i => nC (N u) (nc (N u) - 1 + 1 + i)) 0 ++ fpK N d (nC (N v)) (nc (N v)) := by rw [ev, fp_cat j1 j2, fpK_frame f4, fpK_frame f2]
  have y3 : fpK N d (nC (N u)) (nc (N u)) = fpK N d (nC (N u)) (nc (N u) - 1) ++ fpK N d (fun i => nC (N u) (nc (N u) - 1 + 1 + i)) 0 := by
    have := fp_cat (N' := N) (d := d) (c1 := nc (N u) - 1) (c2 := 0) (C := nC (N u)) (C1 := nC (N u)) (C2 := fun i => nC (N u) (nc (N u) - 1 + 1 + i)) (fun i _ => rfl) (fun i _ => rfl)
    rw [ec] at this; rw [ec2]; exact this
  have xl : (xsK N d (fun i => nC (N u) (nc (N u) - 1 + 1 + i)) 0).length = ns (N (nC (N u) (nc (N u)))) := by
    rw [xsK, seg_1, Nat.add_zero, ec2, ok_ns (u5 _ (Nat.le_refl _))]
  refine ⟨okT_s.mpr ⟨by rw [a, nl_nd]; exact u1, by omega, by omega, ?_, ?_⟩, okT_s.mpr ⟨by rw [b, nl_nd]; exact v1, by omega, by omega, ?_, by rw [ev]; exact hk⟩, ?_, ?_, ?_⟩
  · rw [x1, a, ns_nd, u4, x3, List.length_append, xl]; omega
  · rw [eu, cu]
    have hh : hdO N' (d + 1) v = hdO N d (nC (N u) (nc (N u))) := by rw [hdO, j1 0 (Nat.le_refl _)]; simp only [Nat.add_zero, ec2]; exact frame_hd (f1 _ (Nat.le_refl _))
    rw [hh, show nK (N' u) = nK (N u) by rw [a, nK_nd]]
    exact kOK_frame f3 A
  · rw [x2, b, ns_nd, v4, List.length_append, xl]; omega
  · show xsK N' d (nC (N' u)) (nc (N' u)) ++ xsK N' d (nC (N' v)) (nc (N' v)) = xsK N d (nC (N u)) (nc (N u)) ++ xsK N d (nC (N v)) (nc (N v))
    rw [x1, x2, x3, List.append_assoc]
  · rw [hdO, hdO, cu, frame_hd (f1 0 (by omega))]
  · show ((u :: fpK N' d (nC (N' u)) (nc (N' u))) ++ (v :: fpK N' d (nC (N' v)) (nc (N' v)))).Perm ((u :: fpK N d (nC (N u)) (nc (N u))) ++ (v :: fpK N d (nC (N v)) (nc (N v))))
    rw [eu, cu, fpK_frame f3, y2, y3]
    refine List.perm_middle.trans (List.Perm.trans ?_ List.perm_middle.symm)
    simp [List.append_assoc]
theorem ps_ln (hu : okT N (d + 1) u lo s (hdO N (d + 1) v) mu) (hv : okT N (d + 1) v s hi e mv) (h4 : 4 ≤ nc (N v)) (h2 : 2 ≤ nc (N u)) (h7 : nc (N u) ≤ 6)
    (a : N' u = nd (va_up (nK (N u)) (nc (N u)) s) (va_up (nC (N u)) (nc (N u) + 1) (nC (N v) 0)) (nc (N u) + 1) (nl (N u)) (nx (N u)) (ns (N u) + ns (N (nC (N v) 0)))) (b : N' v = nd (shK (nK (N v)) 0 (nc (N v) - 1)) (fun i => if i < nc (N v) then nC (N v) (i + 1) else nC (N v) i) (nc (N v) - 1) (nl (N v)) (nx (N v)) (ns (N v) - ns (N (nC (N v) 0))))
    (f1 : ∀ i, i ≤ nc (N u) → ∀ q ∈ fpO N d (nC (N u) i), N' q = N q) (f2 : ∀ i, i ≤ nc (N v) → ∀ q ∈ fpO N d (nC (N v) i), N' q = N q) : PS N N' (d + 1) u v lo hi e (nK (N v) 0) := by
  obtain ⟨u1, u2, u3, u4, u5⟩ := okT_s.mp hu
  obtain ⟨v1, v2, v3, v4, v5⟩ := okT_s.mp hv
  have ec : 0 + (nc (N v) - 1) + 1 = nc (N v) := by omega
  obtain ⟨A, B⟩ := kCut (c1 := 0) (c2 := nc (N v) - 1) (by rw [ec]; exact v5)
  have f3 : ∀ i, i ≤ 0 → ∀ q ∈ fpO N d (nC (N v) i), N' q = N q := fun i hi' => f2 i (by omega)
  have f4 : ∀ i, i ≤ nc (N v) - 1 → ∀ q ∈ fpO N d ((fun i => nC (N v) (0 + 1 + i)) i), N' q = N q := fun i hi' => f2 (0 + 1 + i) (by omega)
  have j1 : ∀ i, i ≤ nc (N u) → nC (N' u) i = nC (N u) i := fun i hi' => by rw [a, nC_nd]; exact va_up_ne _ _ (by omega)
  have j2 : ∀ i, i ≤ 0 → nC (N' u) (nc (N u) + 1 + i) = nC (N v) i := fun i hi' => by rw [a, nC_nd, show i = 0 by omega, Nat.add_zero, va_up_self]
  have hk := kCat (K := nK (N' u)) (C := nC (N' u)) (kOK_frame f1 u5) (kOK_frame f3 A) (by rw [frame_hd (f2 0 (by omega))]; rfl) (fun i hi' => by rw [a, nK_nd]; exact va_up_ne _ _ (by omega)) (by rw [a, nK_nd, va_up_self]) (fun i hi' => absurd hi' (Nat.not_lt_zero _)) j1 j2
  have eu : nc (N' u) = nc (N u) + 0 + 1 := by rw [a, nc_nd]
  have ev : nc (N' v) = nc (N v) - 1 := by rw [b, nc_nd]
  have cv : ∀ i, i ≤ nc (N v) - 1 → (fun i => nC (N v) (0 + 1 + i)) i = nC (N' v) i := fun i hi' => by rw [b, nC_nd, if_pos (by omega)]; simp only []; congr 1; omega
  have kv : ∀ i, i < nc (N v) - 1 → (fun i => nK (N v) (0 + 1 + i)) i = nK (N' v) i := fun i hi' => by rw [b, nK_nd]; simp only [shK]; rw [if_pos ⟨Nat.zero_le _, hi'⟩]; congr 1; omega
  have x1 : xsK N' d (nC (N' u)) (nc (N' u)) = xsK N d (nC (N u)) (nc (N u)) ++ xsK N d (nC (N v)) 0 := by rw [eu, xs_cat j1 j2, xsK_frame f1, xsK_frame f3]
  have x2 : xsK N' d (nC (N' v)) (nc (N' v)) = xsK N d (fun i => nC (N v) (0 + 1 + i)) (nc (N v) - 1) := by rw [ev, ← xsK_congr cv, xsK_frame f4]
  have x3 : xsK N d (nC (N v)) (nc (N v)) = xsK N d (nC (N v)) 0 ++ xsK N d (fun i => nC (N v) (0 + 1 + i)) (nc (N v) - 1) := by
    have := xs_cat (N' := N) (d := d) (c1 := 0) (c2 := nc (N v) - 1) (C := nC (N v)) (C1 := nC (N v)) (C2 := fun i => nC (N v) (0 + 1 + i)) (fun i _ => rfl) (fun i _ => rfl)
    rw [ec] at this; exact this
  have y1 : fpK N' d (nC (N' u)) (nc (N' u)) = fpK N d (nC (N u)) (nc (N u)) ++ fpK N d (nC (N v)) 0 := by rw [eu, fp_cat j1 j2, fpK_frame f1, fpK_frame f3]
  have y2 : fpK N' d (nC (N' v)) (nc (N' v)) = fpK N d (fun i => nC (N v) (0 + 1 + i)) (nc (N v) - 1) := by rw [ev, ← fpK_congr cv, fpK_frame f4]
  have y3 : fpK N d (nC (N v)) (nc (N v)) = fpK N d (nC (N v)) 0 ++ fpK N d (fun i => nC (N v) (0 + 1 + i)) (nc (N v) - 1) := by
    have := fp_cat (N' := N) (d := d) (c1 := 0) (c2 := nc (N v) - 1) (C := nC (N v)) (C1 := nC (N v)) (C2 := fun i => nC (N v) (0 + 1 + i)) (fun i _ => rfl) (fun i _ => rfl)
    rw [ec] at this; exact this
  have xl : (xsK N d (nC (N v)) 0).length = ns (N (nC (N v) 0)) := by rw [xsK, seg_1, ok_ns (v5 0 (by omega))]
  refine ⟨okT_s.mpr ⟨by rw [a, nl_nd]; exact u1, by omega, by omega, ?_, ?_⟩, okT_s.mpr ⟨by rw [b, nl_nd]; exact v1, by omega, by omega, ?_, ?_⟩, ?_, ?_, ?_⟩
  · rw [x1, a, ns_nd, u4, List.length_append, xl]
  · rw [eu]
    have hh : hdO N' (d + 1) v = hdO N' d (nC (N v) (0 + 1)) := by rw [hdO, ← cv 0 (by omega)]
    rw [hh, frame_hd (f2 (0 + 1) (by omega))]
    exact hk
  · rw [x2, b, ns_nd, v4, x3, List.length_append, xl]; omega
  · rw [ev]; exact kOK_congr kv cv (kOK_frame f4 B)
  · show xsK N' d (nC (N' u)) (nc (N' u)) ++ xsK N' d (nC (N' v)) (nc (N' v)) = xsK N d (nC (N u)) (nc (N u)) ++ xsK N d (nC (N v)) (nc (N v))
    rw [x1, x2, x3, List.append_assoc]
  · rw [hdO, hdO, j1 0 (by omega), frame_hd (f1 0 (by omega))]
  · show ((u :: fpK N' d (nC (N' u)) (nc (N' u))) ++ (v :: fpK N' d (nC (N' v)) (nc (N' v)))).Perm ((u :: fpK N d (nC (N u)) (nc (N u))) ++ (v :: fpK N d (nC (N v)) (nc (N v))))
    rw [y1, y2, y3]
    refine List.perm_middle.trans (List.Perm.trans ?_ List.perm_middle.symm)
    simp [List.append_assoc]
end PQ
/-- what mend does to the node n, whose kids are of depth d -/
def MP (N N' : Nat → Nd) (n d lo hi e : Nat) (freed : List Nat) : Prop :=
  (∀ m, m ∉ fpO N (d + 1) n → N' m = N m) ∧ nl (N' n) = 0 ∧ nc (N n) - 1 ≤ nc (N' n) ∧ nc (N' n) ≤ nc (N n) ∧ ns (N' n) = ns (N n) ∧ kOK N' d (nK (N' n)) (nC (N' n)) (nc (N' n)) lo hi e (fun _ => 3) ∧ xsK N' d (nC (N' n)) (nc (N' n)) = xsK N d (nC (N n)) (nc (N n)) ∧ hdO N' d (nC (N' n) 0) = hdO N d (nC (N n) 0) ∧ (freed ++ fpO N' (d + 1) n).Perm (fpO N (d + 1) n)
section MM
variable {N N' : Nat → Nd} {n d lo hi e q s : Nat}
/-- what the two rows share -/
def MH (N N' : Nat → Nd) (n d lo hi e q : Nat) : Prop :=
  nl (N n) = 0 ∧ q < nc (N n) ∧ (∀ i, i ≤ nc (N n) → i ≠ q → i ≠ q + 1 → okT N d (nC (N n) i) (bdO lo hi (nK (N n)) (nc (N n)) i) (bdO lo hi (nK (N n)) (nc (N n)) (i + 1)) (heO N d (nC (N n)) (nc (N n)) e (i + 1)) 3) ∧ (fpO N (d + 1) n).Nodup ∧ ∀ z, z ≠ n → z ∉ fpO N d (nC (N n) q) → z ∉ fpO N d (nC (N n) (q + 1)) → N' z = N z
theorem mh_fr (H : MH N N' n d lo hi e q) : (∀ i, i ≤ nc (N n) → i ≠ q → i ≠ q + 1 → ∀ z ∈ fpO N d (nC (N n) i), N' z = N z) ∧ (∀ m, m ∉ fpO N (d + 1) n → N' m = N m) := by
  obtain ⟨h1, hq, h2, hnd, hf⟩ := H
  have hnd' : (n :: fpK N d (nC (N n)) (nc (N n))).Nodup := hnd
  obtain ⟨n1, n2⟩ := List.nodup_cons.mp hnd'
  refine ⟨fun i hi' hq1 hq2 z hz => hf z (fun w => n1 (fpK_mem.mpr ⟨i, hi', w ▸ hz⟩)) (seg_disj (g := fun i => fpO N d (nC (N n) i)) n2 (show i < nc (N n) + 1 by omega) (show q < nc (N n) + 1 by omega) hq1 hz) (seg_disj (g := fun i => fpO N d (nC (N n) i)) n2 (show i < nc (N n) + 1 by omega) (show q + 1 < nc (N n) + 1 by omega) hq2 hz), fun m hm => hf m (fun w => hm (by rw [w]; exact fpO_self _ _ _)) (fun w => hm (fpO_kid (by omega) w)) (fun w => hm (fpO_kid (by omega) w))⟩
theorem mp_j (H : MH N N' n d lo hi e q) (a : N' n = nd (shK (nK (N n)) q (nc (N n) - 1)) (shC (nC (N n)) q (nc (N n))) (nc (N n) - 1) (nl (N n)) (nx (N n)) (ns (N n))) (p : PJ N N' d (nC (N n) q) (nC (N n) (q + 1)) (bdO lo hi (nK (N n)) (nc (N n)) q) (bdO lo hi (nK (N n)) (nc (N n)) (q + 2)) (heO N d (nC (N n)) (nc (N n)) e (q + 2))) : MP N N' n d lo hi e [nC (N n) (q + 1)] := by
  obtain ⟨f1, f2⟩ := mh_fr H
  obtain ⟨h1, hq, h2, hnd, hf⟩ := H
  obtain ⟨p1, p2, p3, p4⟩ := p
  have eK : ∀ i, i < nc (N n) - 1 → nK (N' n) i = delA (nK (N n)) q i := fun i hi' => by
    rw [a, nK_nd]; simp only [shK, delA]
    repeat' split
    all_goals first | rfl | (exfalso; omega)
  have eC : ∀ i, i ≤ nc (N n) - 1 → nC (N' n) i = delA (nC (N n)) (q + 1) i := fun i hi' => by
    rw [a, nC_nd]; simp only [shC, delA]
    repeat' split
    all_goals first | rfl | (exfalso; omega)
  have ec : nc (N' n) = nc (N n) - 1 := by rw [a, nc_nd]
  have hk := kJ hq h2 f1 p3 p1 eK eC
  have c1 : ∀ i, i ≤ q → nC (N' n) i = nC (N n) i := fun i hi' => by rw [eC i (by omega), delA_lt (by omega)]
  have c2 : ∀ i, q + 1 ≤ i → i ≤ nc (N n) - 1 → nC (N' n) i = nC (N n) (i + 1) := fun i h3 h4 => by rw [eC i h4, delA_ge h3]
  have gx : ∀ {α : Type} (G G' : Nat → List α), (∀ i, i ≤ nc (N n) → i ≠ q → i ≠ q + 1 → G' (nC (N n) i) = G (nC (N n) i)) → seg (fun i => G' (nC (N' n) i)) 0 (nc (N n) - 1 + 1) = seg (fun i => G (nC (N n) i)) 0 q ++ (G' (nC (N n) q) ++ seg (fun i => G (nC (N n) i)) (q + 2) (nc (N n) + 1 - (q + 2))) := fun G G' hG => by
    rw [seg_at _ (show q < nc (N n) - 1 + 1 by omega), c1 q (Nat.le_refl _), seg_congr (g' := fun i => G (nC (N n) i)) q 0 0 (fun j hj => by rw [c1 (0 + j) (by omega)]; exact hG _ (by omega) (by omega) (by omega)), show nc (N n) - 1 + 1 - (q + 1) = nc (N n) + 1 - (q + 2) by omega, seg_congr (g' := fun i => G (nC (N n) i)) (nc (N n) + 1 - (q + 2)) (q + 1) (q + 2) (fun j hj => by rw [c2 (q + 1 + j) (by omega) (by omega), show q + 1 + j + 1 = q + 2 + j by omega]; exact hG _ (by omega) (by omega) (by omega))]
  refine ⟨f2, by rw [a, nl_nd]; exact h1, by omega, by omega, by rw [a, ns_nd], by rw [ec]; exact hk, ?_, ?_, ?_⟩
  · rw [ec, xsK, xsK, gx (xsO N d) (xsO N' d) (fun i h3 h4 h5 => frame_xs (f1 i h3 h4 h5)), p2, seg_pair _ (show q + 1 < nc (N n) + 1 by omega), List.append_assoc]
  · rw [c1 0 (by omega)]
    by_cases hz : 0 = q
    · rw [hz]; exact p3
    · exact frame_hd (f1 0 (by omega) hz (by omega))
  · show ([nC (N n) (q + 1)] ++ n :: fpK N' d (nC (N' n)) (nc (N' n))).Perm (n :: fpK N d (nC (N n)) (nc (N n)))
    refine List.Perm.trans (List.Perm.swap _ _ _) (List.Perm.cons n ?_)
    rw [ec, fpK, fpK, gx (fpO N d) (fpO N' d) (fun i h3 h4 h5 => frame_fp (f1 i h3 h4 h5)), seg_pair _ (show q + 1 < nc (N n) + 1 by omega), ← List.append_assoc (fpO N d (nC (N n) q))]
    refine List.Perm.trans List.perm_middle.symm ?_
    rw [← List.cons_append]
    exact (p4.append_right _).append_left _
theorem mp_s (H : MH N N' n d lo hi e q) (a : N' n = nd (va_up (nK (N n)) q s) (nC (N n)) (nc (N n)) (nl (N n)) (nx (N n)) (ns (N n))) (p : PS N N' d (nC (N n) q) (nC (N n) (q + 1)) (bdO lo hi (nK (N n)) (nc (N n)) q) (bdO lo hi (nK (N n)) (nc (N n)) (q + 2)) (heO N d (nC (N n)) (nc (N n)) e (q + 2)) s) : MP N N' n d lo hi e [] := by
  obtain ⟨f1, f2⟩ := mh_fr H
  obtain ⟨h1, hq, h2, hnd, hf⟩ := H
  obtain ⟨p1, p1', p2, p3, p4⟩ := p
  have hk := kM hq h2 f1 p3 p1 p1'
  have gx : ∀ {α : Type} (G G' : Nat → List α), (∀ i, i ≤ nc (N n) → i ≠ q → i ≠ q + 1 → G' (nC (N n) i) = G (nC (N n) i)) → seg (fun i => G' (nC (N n) i)) 0 (nc (N n) + 1) = seg (fun i => G (nC (N n) i)) 0 q ++ ((G' (nC (N n) q) ++ G' (nC (N n) (q + 1))) ++ seg (fun i => G (nC (N n) i)) (q + 2) (nc (N n) + 1 - (q + 2))) := fun G G' hG => by
    rw [seg_pair _ (show q + 1 < nc (N n) + 1 by omega), seg_congr (g' := fun i => G (nC (N n) i)) q 0 0 (fun j hj => hG _ (by omega) (by omega) (by omega)), seg_congr (g' := fun i => G (nC (N n) i)) (nc (N n) + 1 - (q + 2)) (q + 2) (q + 2) (fun j hj => hG _ (by omega) (by omega) (by omega)), List.append_assoc]
  have eC : nC (N' n) = nC (N n) := by rw [a, nC_nd]
  have ec : nc (N' n) = nc (N n) := by rw [a, nc_nd]
  refine ⟨f2, by rw [a, nl_nd]; exact h1, by omega, by omega, by rw [a, ns_nd], by rw [a, nK_nd, nC_nd, nc_nd]; exact hk, ?_, ?_, ?_⟩
  · rw [eC, ec, xsK, xsK, gx (xsO N d) (xsO N' d) (fun i h3 h4 h5 => frame_xs (f1 i h3 h4 h5)), p2, gx (xsO N d) (xsO N d) (fun i h3 h4 h5 => rfl)]
  · rw [eC]
    by_cases hz : 0 = q
    · rw [hz]; exact p3
    · exact frame_hd (f1 0 (by omega) hz (by omega))
  · show (n :: fpK N' d (nC (N' n)) (nc (N' n))).Perm (n :: fpK N d (nC (N n)) (nc (N n)))
    refine List.Perm.cons n ?_
    rw [eC, ec, fpK, fpK, gx (fpO N d) (fpO N' d) (fun i h3 h4 h5 => frame_fp (f1 i h3 h4 h5)), gx (fpO N d) (fpO N d) (fun i h3 h4 h5 => rfl)]
    exact (p4.append_right _).append_left _
end MM
