/-! PURE: removal, put together -/
theorem l_found {K : Nat → Nat} {c b ky lo hi : Nat} (h : lOK K c lo hi) (h1 : ∀ j, j < b → K j < ky) (h2 : b < c → ky ≤ K b) (hm : ky ∈ seg (fun k => [K k]) 0 c) : b < c ∧ K b = ky := by
  obtain ⟨j, hj, hx⟩ := seg_mem.mp hm
  rw [Nat.zero_add, List.mem_singleton] at hx
  have hbj : b ≤ j := Nat.le_of_not_lt fun z => by have := h1 j z; omega
  have hb : b < c := by omega
  refine ⟨hb, ?_⟩
  have h3 := h2 hb
  by_cases hz : b = j
  · rw [hz, hx]
  · have := adj_lt h.2 (show b < j by omega) hj
    omega
/-- what removeFrom does -/
def RP (N N' : Nat → Nd) (n d lo hi e mn ky : Nat) (freed : List Nat) : Prop :=
  (∀ m, m ∉ fpO N d n → N' m = N m) ∧ hdO N' d n = hdO N d n ∧ okT N' d n lo hi e (mn - 1) ∧ Del ky (xsO N d n) (xsO N' d n) ∧ (freed ++ fpO N' d n).Perm (fpO N d n)
theorem rem_l {N N2 : Nat → Nd} {n lo hi e mn ky b : Nat} (ho : okT N 0 n lo hi e mn) (hb : b < nc (N n)) (hK : nK (N n) b = ky) (a : N2 n = nd (shK (nK (N n)) b (nc (N n) - 1)) (shC (nC (N n)) b (nc (N n))) (nc (N n) - 1) (nl (N n)) (nx (N n)) (ns (N n) - 1)) (f : ∀ m, m ≠ n → N2 m = N m) : RP N N2 n 0 lo hi e mn ky [] := by
  obtain ⟨g1, g2, g3, g4, g5, g6⟩ := ok0.mp ho
  have k1 : ∀ i, i < b → nK (N2 n) i = nK (N n) i := fun i hi' => by rw [a, nK_nd]; simp only [shK]; rw [if_neg (by omega)]
  have k2 : ∀ i, b ≤ i → i < nc (N n) - 1 → nK (N2 n) i = nK (N n) (i + 1) := fun i h1 h2 => by rw [a, nK_nd]; simp only [shK]; rw [if_pos ⟨h1, h2⟩]
  refine ⟨fun m hm => f m (fun z => hm (by rw [z]; exact List.mem_singleton.mpr rfl)), rfl, ok0.mpr ⟨by rw [a, nl_nd]; exact g1, by rw [a, nc_nd]; omega, by rw [a, nc_nd]; omega, by rw [a, nc_nd, ns_nd]; omega, by rw [a, nx_nd]; exact g5, ?_⟩, ?_, List.Perm.refl _⟩
  · rw [show nc (N2 n) = nc (N n) - 1 by rw [a, nc_nd]]
    refine ⟨fun k hk => ?_, fun k hk => ?_⟩
    · by_cases hx : k < b
      · rw [k1 k hx]; exact g6.1 k (by omega)
      · rw [k2 k (by omega) hk]; exact g6.1 (k + 1) (by omega)
    · by_cases hx : k + 1 < b
      · rw [k1 k (by omega), k1 (k + 1) hx]; exact g6.2 k (by omega)
      · by_cases hy : k + 1 = b
        · rw [k1 k (by omega), k2 (k + 1) (by omega) hk]; exact adj_lt g6.2 (by omega) (by omega)
        · rw [k2 k (by omega) (by omega), k2 (k + 1) (by omega) hk]; exact g6.2 (k + 1) (by omega)
  · refine ⟨seg (fun k => [nK (N n) k]) 0 b, seg (fun k => [nK (N n) k]) (b + 1) (nc (N n) - 1 - b), ?_, ?_, fun x hx => ?_, fun x hx => ?_⟩
    · show seg (fun k => [nK (N n) k]) 0 (nc (N n)) = _
      rw [seg_at _ hb, hK, show nc (N n) - (b + 1) = nc (N n) - 1 - b by omega]; rfl
    · show seg (fun k => [nK (N2 n) k]) 0 (nc (N2 n)) = _
      rw [show nc (N2 n) = nc (N n) - 1 by rw [a, nc_nd]]
      exact seg_del (g := fun k => [nK (N n) k]) hb (fun i hi' => by rw [k1 i hi']) (fun i h1 h2 => by rw [k2 i h1 h2])
    · obtain ⟨j, hj, hx⟩ := seg_mem.mp hx
      rw [Nat.zero_add, List.mem_singleton] at hx
      rw [hx, ← hK]; exact adj_lt g6.2 hj hb
    · obtain ⟨j, hj, hx⟩ := seg_mem.mp hx
      rw [List.mem_singleton] at hx
      rw [hx, ← hK]; exact adj_lt g6.2 (by omega) (by omega)
section REM
variable {N N1 N2 N3 : Nat → Nd} {n d lo hi e mn ky b : Nat} {freed freed2 : List Nat}
theorem rem_v (ho : okT N (d + 1) n lo hi e mn) (hlo : lo ≤ ky) (hhi : ky < hi) (hnd : (fpO N (d + 1) n).Nodup) (q0 : N1 n = nd (nK (N n)) (nC (N n)) (nc (N n)) (nl (N n)) (nx (N n)) (ns (N n) - 1)) (q1 : ∀ m, m ≠ n → N1 m = N m) (hb : b ≤ nc (N n)) (h1 : ∀ j, j < b → nK (N n) j ≤ ky) (h2 : b < nc (N n) → ky < nK (N n) b)
    (rp : RP N1 N2 (nC (N n) b) d (bdO lo hi (nK (N n)) (nc (N n)) b) (bdO lo hi (nK (N n)) (nc (N n)) (b + 1)) (heO N d (nC (N n)) (nc (N n)) e (b + 1)) 3 ky freed) :
    N2 n = N1 n ∧ (∀ m, m ∉ fpO N (d + 1) n → N2 m = N m) ∧ kOK N2 d (nK (N n)) (nC (N n)) (nc (N n)) lo hi e (fun i => if i = b then 2 else 3) ∧ Del ky (xsK N d (nC (N n)) (nc (N n))) (xsK N2 d (nC (N n)) (nc (N n))) ∧ (freed ++ fpK N2 d (nC (N n)) (nc (N n))).Perm (fpK N d (nC (N n)) (nc (N n))) ∧ hdO N2 d (nC (N n) 0) = hdO N d (nC (N n) 0) := by
  have hnd' : (n :: fpK N d (nC (N n)) (nc (N n))).Nodup := hnd
  obtain ⟨n4, n5⟩ := List.nodup_cons.mp hnd'
  have f1 : ∀ i, i ≤ nc (N n) → ∀ q ∈ fpO N d (nC (N n) i), q ≠ n := fun i hi' q hq z => n4 (fpK_mem.mpr ⟨i, hi', z ▸ hq⟩)
  have hkb : ∀ q ∈ fpO N d (nC (N n) b), N1 q = N q := fun q hq => q1 q (f1 b hb q hq)
  obtain ⟨r1, r2, r3, r4, r5⟩ := rp
  rw [frame_fp hkb] at r1 r5
  rw [frame_xs hkb] at r4
  rw [frame_hd hkb] at r2
  have p3 : ∀ i, i ≤ nc (N n) → i ≠ b → ∀ q ∈ fpO N d (nC (N n) i), N2 q = N q := fun i hi' hib q hq => by
    rw [r1 q (seg_disj (g := fun i => fpO N d (nC (N n) i)) n5 (show i < nc (N n) + 1 by omega) (show b < nc (N n) + 1 by omega) hib hq)]
    exact q1 q (f1 i hi' q hq)
  obtain ⟨g1, g2, g3, g4, g5⟩ := okT_s.mp ho
  obtain ⟨-, w2, w3⟩ := k_way g5 (fun _ _ => by decide) hb h1 h2 hlo hhi
  refine ⟨r1 n (fun z => f1 b hb n z rfl), fun m hm => ?_, kU hb (fun i h3 h4 => g5 i h3) p3 r2 r3, ?_, ?_, ?_⟩
  · rw [r1 m (fun z => hm (fpO_kid hb z))]
    exact q1 m (fun z => hm (by rw [z]; exact fpO_self _ _ _))
  · have e1 : seg (fun i => xsO N2 d (nC (N n) i)) 0 b = seg (fun i => xsO N d (nC (N n) i)) 0 b := seg_congr _ _ _ (fun j hj => frame_xs (p3 (0 + j) (by omega) (by omega)))
    have e2 : seg (fun i => xsO N2 d (nC (N n) i)) (b + 1) (nc (N n) - b) = seg (fun i => xsO N d (nC (N n) i)) (b + 1) (nc (N n) - b) := seg_congr _ _ _ (fun j hj => frame_xs (p3 (b + 1 + j) (by omega) (by omega)))
    rw [xsK_at (N := N) hb, xsK_at (N := N2) hb, e1, e2]
    exact r4.wrap w2 w3
  · have e1 : seg (fun i => fpO N2 d (nC (N n) i)) 0 b = seg (fun i => fpO N d (nC (N n) i)) 0 b := seg_congr _ _ _ (fun j hj => frame_fp (p3 (0 + j) (by omega) (by omega)))
    have e2 : seg (fun i => fpO N2 d (nC (N n) i)) (b + 1) (nc (N n) + 1 - (b + 1)) = seg (fun i => fpO N d (nC (N n) i)) (b + 1) (nc (N n) + 1 - (b + 1)) := seg_congr _ _ _ (fun j hj => frame_fp (p3 (b + 1 + j) (by omega) (by omega)))
    unfold fpK
    rw [seg_at (fun i => fpO N d (nC (N n) i)) (show b < nc (N n) + 1 by omega), seg_at (fun i => fpO N2 d (nC (N n) i)) (show b < nc (N n) + 1 by omega), e1, e2]
    exact (perm_mid (P := seg (fun i => fpO N d (nC (N n) i)) 0 b) (S := seg (fun i => fpO N d (nC (N n) i)) (b + 1) (nc (N n) + 1 - (b + 1))) r5.symm).symm
  · by_cases hz : 0 = b
    · rw [hz]; exact r2
    · exact frame_hd (p3 0 (by omega) hz)
theorem okT.strong {m1 m2 : Nat} (h : okT N d n lo hi e m1) (hm : m2 ≤ nc (N n)) : okT N d n lo hi e m2 := by
  cases d with
  | zero => exact ⟨h.1, hm, h.2.2⟩
  | succ d => exact ⟨h.1, hm, h.2.2⟩
theorem rem_i0 (ho : okT N (d + 1) n lo hi e mn) (e2 : N2 n = nd (nK (N n)) (nC (N n)) (nc (N n)) (nl (N n)) (nx (N n)) (ns (N n) - 1)) (v2 : ∀ m, m ∉ fpO N (d + 1) n → N2 m = N m) (v3 : kOK N2 d (nK (N n)) (nC (N n)) (nc (N n)) lo hi e (fun i => if i = b then 2 else 3)) (v4 : Del ky (xsK N d (nC (N n)) (nc (N n))) (xsK N2 d (nC (N n)) (nc (N n)))) (v5 : (freed ++ fpK N2 d (nC (N n)) (nc (N n))).Perm (fpK N d (nC (N n)) (nc (N n)))) (v6 : hdO N2 d (nC (N n) 0) = hdO N d (nC (N n) 0)) (h3 : 3 ≤ nc (N2 (nC (N n) b))) : RP N N2 n (d + 1) lo hi e mn ky freed := by
  obtain ⟨g1, g2, g3, g4, g5⟩ := okT_s.mp ho
  refine ⟨v2, ?_, okT_s.mpr ?_, ?_, ?_⟩
  · rw [hdO, hdO, e2, nC_nd]; exact v6
  · rw [e2]
    simp only [nK_nd, nC_nd, nc_nd, nl_nd, ns_nd]
    refine ⟨g1, by omega, g3, by rw [g4, v4.len]; omega, fun i hi' => ?_⟩
    have := v3 i hi'
    by_cases hz : i = b
    · subst hz; exact this.strong h3
    · simp only [hz, if_false] at this; exact this
  · show Del ky (xsK N d (nC (N n)) (nc (N n))) (xsK N2 d (nC (N2 n)) (nc (N2 n)))
    rw [e2]; exact v4
  · show (freed ++ n :: fpK N2 d (nC (N2 n)) (nc (N2 n))).Perm (n :: fpK N d (nC (N n)) (nc (N n)))
    rw [e2]
    exact List.perm_middle.trans (List.Perm.cons n v5)
theorem rem_i1 (ho : okT N (d + 1) n lo hi e mn) (e2 : N2 n = nd (nK (N n)) (nC (N n)) (nc (N n)) (nl (N n)) (nx (N n)) (ns (N n) - 1)) (v2 : ∀ m, m ∉ fpO N (d + 1) n → N2 m = N m) (v4 : Del ky (xsK N d (nC (N n)) (nc (N n))) (xsK N2 d (nC (N n)) (nc (N n)))) (v5 : (freed ++ fpK N2 d (nC (N n)) (nc (N n))).Perm (fpK N d (nC (N n)) (nc (N n)))) (v6 : hdO N2 d (nC (N n) 0) = hdO N d (nC (N n) 0)) (mp : MP N2 N3 n d lo hi e freed2) : RP N N3 n (d + 1) lo hi e mn ky (freed2 ++ freed) := by
  obtain ⟨g1, g2, g3, g4, g5⟩ := okT_s.mp ho
  obtain ⟨m1, m2, m3, m4, m5, m6, m7, m8, m9⟩ := mp
  have hp : (freed ++ fpO N2 (d + 1) n).Perm (fpO N (d + 1) n) := by
    show (freed ++ n :: fpK N2 d (nC (N2 n)) (nc (N2 n))).Perm (n :: fpK N d (nC (N n)) (nc (N n)))
    rw [e2]
    exact List.perm_middle.trans (List.Perm.cons n v5)
  rw [e2] at m3 m4 m5 m7 m8
  simp only [nC_nd, nc_nd, ns_nd] at m3 m4 m5 m7 m8
  refine ⟨fun m hm => by rw [m1 m (fun z => hm (hp.mem_iff.mp (List.mem_append_right _ z))), v2 m hm], ?_, okT_s.mpr ⟨m2, by omega, by omega, by rw [m5, m7, g4, v4.len]; omega, m6⟩, ?_, ?_⟩
  · rw [hdO, hdO, m8, v6]
  · show Del ky (xsK N d (nC (N n)) (nc (N n))) (xsK N3 d (nC (N3 n)) (nc (N3 n)))
    rw [m7]; exact v4
  · refine List.Perm.trans ?_ hp
    refine List.Perm.trans ?_ (m9.append_left freed)
    rw [← List.append_assoc]
    exact List.perm_append_comm.append_right _
/-- the two kids that mend looks at -/
theorem mend_pre {w q : Nat} (hq : q < nc (N n)) (hw : w = q ∨ w = q + 1) (hk : kOK N d (nK (N n)) (nC (N n)) (nc (N n)) lo hi e (fun i => if i = w then 2 else 3)) (hnd : (fpO N (d + 1) n).Nodup) :
    okT N d (nC (N n) q) (bdO lo hi (nK (N n)) (nc (N n)) q) (nK (N n) q) (hdO N d (nC (N n) (q + 1))) 2 ∧ okT N d (nC (N n) (q + 1)) (nK (N n) q) (bdO lo hi (nK (N n)) (nc (N n)) (q + 2)) (heO N d (nC (N n)) (nc (N n)) e (q + 2)) 2 ∧ (bdO lo hi (nK (N n)) (nc (N n)) q ≤ nK (N n) q ∧ nK (N n) q ≤ bdO lo hi (nK (N n)) (nc (N n)) (q + 2)) ∧
    (∀ z ∈ fpO N d (nC (N n) q), z ≠ n ∧ z ∉ fpO N d (nC (N n) (q + 1))) ∧ (∀ z ∈ fpO N d (nC (N n) (q + 1)), z ≠ n ∧ z ∉ fpO N d (nC (N n) q)) ∧ (fpO N d (nC (N n) q)).Nodup ∧ (fpO N d (nC (N n) (q + 1))).Nodup ∧ (∀ i, i ≤ nc (N n) → i ≠ q → i ≠ q + 1 → okT N d (nC (N n) i) (bdO lo hi (nK (N n)) (nc (N n)) i) (bdO lo hi (nK (N n)) (nc (N n)) (i + 1)) (heO N d (nC (N n)) (nc (N n)) e (i + 1)) 3) := by
  have hnd' : (n :: fpK N d (nC (N n)) (nc (N n))).Nodup := hnd
  obtain ⟨n4, n5⟩ := List.nodup_cons.mp hnd'
  have hb := k_bd hk (fun i _ => by split <;> decide)
  have b1 := hb q (by omega)
  have b2 := hb (q + 1) (by omega)
  rw [bd_s hq] at b1
  rw [bd_s hq] at b2
  have o1 := hk q (by omega)
  have o2 := hk (q + 1) (by omega)
  rw [bd_s hq, he_s hq] at o1
  rw [bd_s hq] at o2
  refine ⟨o1.weak (by dsimp only; split <;> omega), o2.weak (by dsimp only; split <;> omega), ⟨Nat.le_of_lt b1, Nat.le_of_lt b2⟩, fun z hz => ⟨fun y => n4 (fpK_mem.mpr ⟨q, by omega, y ▸ hz⟩), seg_disj (g := fun i => fpO N d (nC (N n) i)) n5 (show q < nc (N n) + 1 by omega) (show q + 1 < nc (N n) + 1 by omega) (by omega) hz⟩, fun z hz => ⟨fun y => n4 (fpK_mem.mpr ⟨q + 1, by omega, y ▸ hz⟩), seg_disj (g := fun i => fpO N d (nC (N n) i)) n5 (show q + 1 < nc (N n) + 1 by omega) (show q < nc (N n) + 1 by omega) (by omega) hz⟩, seg_nod (g := fun i => fpO N d (nC (N n) i)) n5 (by omega), seg_nod (g := fun i => fpO N d (nC (N n) i)) n5 (by omega), fun i h1 h2 h3 => ?_⟩
  have := hk i h1
  dsimp only at this
  rw [if_neg (by omega)] at this
  exact this
end REM
theorem kid_ne {N : Nat → Nd} {d u v n : Nat} (h : ∀ z ∈ fpO N (d + 1) u, z ≠ n ∧ z ∉ fpO N (d + 1) v) (hnd : (fpO N (d + 1) u).Nodup) : ∀ i, i ≤ nc (N u) → ∀ z ∈ fpO N d (nC (N u) i), z ≠ n ∧ z ≠ u ∧ z ≠ v := fun i hi' z hz => by
  have hnd' : (u :: fpK N d (nC (N u)) (nc (N u))).Nodup := hnd
  exact ⟨(h z (fpO_kid hi' hz)).1, fun y => (List.nodup_cons.mp hnd').1 (fpK_mem.mpr ⟨i, hi', y ▸ hz⟩), fun y => (h z (fpO_kid hi' hz)).2 (by rw [y]; exact fpO_self _ _ _)⟩
theorem kid_ns {N : Nat → Nd} {d u lo hi e mn i : Nat} (h : okT N (d + 1) u lo hi e mn) (hi' : i ≤ nc (N u)) : ns (N (nC (N u) i)) ≤ ns (N u) := by
  rw [ok_ns h, ok_ns ((okT_s.mp h).2.2.2.2 i hi')]
  have h2 := seg_len_le (g := fun i => xsO N d (nC (N u) i)) (n := nc (N u) + 1) (i := 0) (j := i) (by omega)
  rw [Nat.zero_add] at h2
  exact h2
