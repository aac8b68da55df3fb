/-! PURE: a key comes in -/
theorem adj_lt {K : Nat → Nat} {n : Nat} (h : ∀ k, k + 1 < n → K k < K (k + 1)) : ∀ {i j : Nat}, i < j → j < n → K i < K j := by
  intro i j hij
  induction j with
  | zero => omega
  | succ j ih =>
    intro hj
    have := h j hj
    by_cases hx : i = j
    · subst hx; exact this
    · have := ih (by omega) (by omega); omega
theorem l_ins {K K' : Nat → Nat} {c b ky lo hi : Nat} (hb : b ≤ c) (h1 : ∀ j, j < b → K j < ky) (h2 : b < c → ky ≤ K b) (hs : ∀ k, k + 1 < c → K k < K (k + 1)) (hbd : ∀ k, k < c → lo ≤ K k ∧ K k < hi) (hlo : lo ≤ ky) (hhi : ky < hi) (hni : ∀ k, k < c → K k ≠ ky) (hK : ∀ i, i ≤ c → K' i = insA K b ky i) :
    Ins ky (seg (fun k => [K k]) 0 c) (seg (fun k => [K' k]) 0 (c + 1)) ∧ (∀ k, k < c + 1 → lo ≤ K' k ∧ K' k < hi) ∧ ∀ k, k + 1 < c + 1 → K' k < K' (k + 1) := by
  obtain ⟨q1, q2, q3⟩ := l_place hb h1 h2 hs
  refine ⟨⟨_, _, q1, ?_, q2, fun x hx => ?_⟩, fun k hk => ?_, fun k hk => ?_⟩
  · rw [seg_ins (g := fun k => [K k]) (A := [ky]) hb (fun i hi' => by rw [hK i (by omega), insA_lt hi']) (by rw [hK b hb, insA_eq]) (fun i h3 h4 => by rw [hK (i + 1) (by omega), insA_gt (by omega), Nat.add_sub_cancel])]
    rfl
  · have h3 := q3 x hx
    obtain ⟨j, hj, hx⟩ := seg_mem.mp hx
    rw [List.mem_singleton] at hx
    subst hx
    have := hni (b + j) (by omega)
    omega
  · rw [hK k (by omega)]
    rcases Nat.lt_trichotomy k b with hx | hx | hx
    · rw [insA_lt hx]; exact hbd k (by omega)
    · subst hx; rw [insA_eq]; exact ⟨hlo, hhi⟩
    · rw [insA_gt hx]; exact hbd (k - 1) (by omega)
  · rw [hK k (by omega), hK (k + 1) (by omega)]
    rcases Nat.lt_trichotomy k b with hx | hx | hx
    · rw [insA_lt hx]
      by_cases hy : k + 1 = b
      · rw [hy, insA_eq]; exact h1 k hx
      · rw [insA_lt (by omega)]; exact hs k (by omega)
    · subst hx
      rw [insA_eq, insA_gt (by omega), Nat.add_sub_cancel]
      have := h2 (by omega); have := hni k (by omega); omega
    · rw [insA_gt hx, insA_gt (by omega), Nat.add_sub_cancel]
      have := hs (k - 1) (by omega)
      rw [show k - 1 + 1 = k by omega] at this
      exact this
theorem opK_ins {K : Nat → Nat} {b c v : Nat} : ∀ i, i ≤ c → va_up (opK K b c) b v i = insA K b v i := by
  intro i hi
  simp only [va_up, opK, insA]
  repeat' split
  all_goals first | rfl | (exfalso; omega) | (congr 1 <;> omega)
theorem opC_ins {C : Nat → Nat} {b c v : Nat} : ∀ i, i ≤ c + 1 → va_up (opC C b c) (b + 1) v i = insA C (b + 1) v i := by
  intro i hi
  simp only [va_up, opC, insA]
  repeat' split
  all_goals first | rfl | (exfalso; omega) | (congr 1 <;> omega)
/-- what addTo does to the node n of depth d: no node more beside it (r = NONE), or r, with u between them -/
def AP (N N' : Nat → Nd) (n d lo hi e mn ky : Nat) (used : List Nat) (r u : Nat) : Prop :=
  (∀ m, m ∉ fpO N d n → m ∉ used → N' m = N m) ∧ used.length ≤ d + 1 ∧ hdO N' d n = hdO N d n ∧
  ((r = NONE ∧ okT N' d n lo hi e mn ∧ Ins ky (xsO N d n) (xsO N' d n) ∧ (fpO N' d n).Perm (used ++ fpO N d n)) ∨
   (r < 500 ∧ okT N' d n lo u (hdO N' d r) 3 ∧ okT N' d r u hi e 3 ∧ Ins ky (xsO N d n) (xsO N' d n ++ xsO N' d r) ∧ (fpO N' d n ++ fpO N' d r).Perm (used ++ fpO N d n)))
theorem ks_ni {N : Nat → Nd} {n ky : Nat} (h : ky ∉ xsO N 0 n) : ∀ k, k < nc (N n) → nK (N n) k ≠ ky := fun k hk e => h (seg_mem.mpr ⟨k, hk, by rw [Nat.zero_add, e]; exact List.mem_singleton.mpr rfl⟩)
section ADDL
variable {N N3 : Nat → Nd} {n lo hi e mn ky b : Nat}
theorem add_l (ho : okT N 0 n lo hi e mn) (hlo : lo ≤ ky) (hhi : ky < hi) (hni : ky ∉ xsO N 0 n) (hb : b ≤ nc (N n)) (h1 : ∀ j, j < b → nK (N n) j < ky) (h2 : b < nc (N n) → ky ≤ nK (N n) b) :
    Ins ky (xsO N 0 n) (seg (fun k => [va_up (opK (nK (N n)) b (nc (N n))) b ky k]) 0 (nc (N n) + 1)) ∧ (∀ k, k < nc (N n) + 1 → lo ≤ va_up (opK (nK (N n)) b (nc (N n))) b ky k ∧ va_up (opK (nK (N n)) b (nc (N n))) b ky k < hi) ∧ ∀ k, k + 1 < nc (N n) + 1 → va_up (opK (nK (N n)) b (nc (N n))) b ky k < va_up (opK (nK (N n)) b (nc (N n))) b ky (k + 1) := by
  obtain ⟨-, -, -, -, -, g6, g7⟩ := ho
  exact l_ins hb h1 h2 g7 g6 hlo hhi (ks_ni hni) opK_ins
theorem add_l0 {u : Nat} (ho : okT N 0 n lo hi e mn) (hlo : lo ≤ ky) (hhi : ky < hi) (hni : ky ∉ xsO N 0 n) (hb : b ≤ nc (N n)) (h1 : ∀ j, j < b → nK (N n) j < ky) (h2 : b < nc (N n) → ky ≤ nK (N n) b)
    (r0 : N3 n = nd (va_up (opK (nK (N n)) b (nc (N n))) b ky) (opC (nC (N n)) b (nc (N n))) (nc (N n) + 1) (nl (N n)) (nx (N n)) (ns (N n) + 1)) (r1 : ∀ m, m ≠ n → N3 m = N m) (h8 : nc (N n) + 1 ≠ 8) : AP N N3 n 0 lo hi e mn ky [] NONE u := by
  obtain ⟨a1, a2, a3⟩ := add_l ho hlo hhi hni hb h1 h2
  obtain ⟨g1, g2, g3, g4, g5, -, -⟩ := ho
  refine ⟨fun m hm _ => r1 m (fun q => hm (by rw [q]; exact List.mem_singleton.mpr rfl)), Nat.zero_le _, rfl, Or.inl ⟨rfl, ?_, ?_, List.Perm.refl _⟩⟩
  · unfold okT
    rw [r0]
    refine ⟨g1, ?_, ?_, ?_, g5, a2, a3⟩
    · rw [nc_nd]; omega
    · rw [nc_nd]; omega
    · rw [nc_nd, ns_nd]; omega
  · rw [show xsO N3 0 n = seg (fun k => [nK (N3 n) k]) 0 (nc (N3 n)) from rfl, r0]
    exact a1
theorem add_l1 {N' : Nat → Nd} {f : Nat} (ho : okT N 0 n lo hi e mn) (hlo : lo ≤ ky) (hhi : ky < hi) (hni : ky ∉ xsO N 0 n) (hb : b ≤ nc (N n)) (h1 : ∀ j, j < b → nK (N n) j < ky) (h2 : b < nc (N n) → ky ≤ nK (N n) b)
    (r0 : N3 n = nd (va_up (opK (nK (N n)) b (nc (N n))) b ky) (opC (nC (N n)) b (nc (N n))) (nc (N n) + 1) (nl (N n)) (nx (N n)) (ns (N n) + 1)) (r1 : ∀ m, m ≠ n → N3 m = N m) (h8 : nc (N n) + 1 = 8) (hf : f < 500) (hnf : n ≠ f)
    (s0 : N' n = nd (nK (N3 n)) (nC (N3 n)) 4 (nl (N3 n)) f 4) (s1 : N' f = nd (fun i => if i < 4 then nK (N3 n) (i + 4) else nK (N3 f) i) (nC (N3 f)) 4 1 (nx (N3 n)) 4) (s2 : ∀ q, q ≠ n → q ≠ f → N' q = N3 q) : AP N N' n 0 lo hi e mn ky [f] f (nK (N3 n) 4) := by
  obtain ⟨a1, a2, a3⟩ := add_l ho hlo hhi hni hb h1 h2
  obtain ⟨g1, g2, g3, g4, g5, -, -⟩ := ho
  rw [r0] at s0 s1
  simp only [nK_nd, nC_nd, nl_nd, nx_nd] at s0 s1
  rw [r0, nK_nd]
  rw [h8] at a1 a2 a3
  generalize va_up (opK (nK (N n)) b (nc (N n))) b ky = K at *
  refine ⟨fun m hm h9 => by rw [s2 m (fun q => hm (by rw [q]; exact List.mem_singleton.mpr rfl)) (fun q => h9 (by rw [q]; exact List.mem_singleton.mpr rfl)), r1 m (fun q => hm (by rw [q]; exact List.mem_singleton.mpr rfl))], Nat.le_refl _, rfl, Or.inr ⟨hf, ?_, ?_, ?_, ?_⟩⟩
  · unfold okT
    rw [s0]
    refine ⟨g1, by rw [nc_nd]; omega, by rw [nc_nd]; omega, rfl, rfl, fun k hk => ?_, fun k hk => ?_⟩
    · exact ⟨(a2 k (by rw [nc_nd] at hk; omega)).1, adj_lt a3 hk (by omega)⟩
    · exact a3 k (by rw [nc_nd] at hk; omega)
  · unfold okT
    rw [s1]
    refine ⟨rfl, by rw [nc_nd]; omega, by rw [nc_nd]; omega, rfl, g5, fun k hk => ?_, fun k hk => ?_⟩
    · rw [nc_nd] at hk
      rw [nK_nd]
      simp only [hk, if_true]
      refine ⟨?_, (a2 (k + 4) (by omega)).2⟩
      by_cases hz : k = 0
      · subst hz; exact Nat.le_refl _
      · exact Nat.le_of_lt (adj_lt a3 (show 4 < k + 4 by omega) (by omega))
    · rw [nc_nd] at hk
      rw [nK_nd]
      simp only [show k < 4 by omega, hk, if_true]
      have := a3 (k + 4) (by omega)
      rw [show k + 4 + 1 = k + 1 + 4 by omega] at this
      exact this
  · rw [show xsO N' 0 n ++ xsO N' 0 f = seg (fun k => [nK (N' n) k]) 0 (nc (N' n)) ++ seg (fun k => [nK (N' f) k]) 0 (nc (N' f)) from rfl, s0, s1]
    have e1 : seg (fun k => [K k]) 0 8 = seg (fun k => [K k]) 0 4 ++ seg (fun k => [(fun i => if i < 4 then K (i + 4) else nK (N3 f) i) k]) 0 4 := by
      rw [seg_add _ 4 0 4]
      congr 1
    rw [e1] at a1
    exact a1
  · show ([n] ++ [f]).Perm ([f] ++ [n])
    exact List.perm_append_comm
end ADDL
section ADDI
variable {N N1 N2 : Nat → Nd} {n d lo hi e mn ky b r u : Nat} {used frl : List Nat}
theorem kOK_frame {N' : Nat → Nd} {K C mf : Nat → Nat} {c : Nat} (hf : ∀ i, i ≤ c → ∀ q ∈ fpO N d (C i), N' q = N q) (h : kOK N d K C c lo hi e mf) : kOK N' d K C c lo hi e mf := by
  intro i hi'
  have := frame_ok d (C i) (hf i hi') (h i hi')
  by_cases hz : i = c
  · subst hz; rw [he_t] at this ⊢; exact this
  · rw [he_s (by omega)] at this ⊢; rw [frame_hd (hf _ (by omega))]; exact this
theorem xsK_frame {N' : Nat → Nd} {C : Nat → Nat} {c : Nat} (hf : ∀ i, i ≤ c → ∀ q ∈ fpO N d (C i), N' q = N q) : xsK N' d C c = xsK N d C c := seg_congr _ _ _ (fun j hj => frame_xs (hf (0 + j) (by omega)))
theorem fpK_frame {N' : Nat → Nd} {C : Nat → Nat} {c : Nat} (hf : ∀ i, i ≤ c → ∀ q ∈ fpO N d (C i), N' q = N q) : fpK N' d C c = fpK N d C c := seg_congr _ _ _ (fun j hj => frame_fp (hf (0 + j) (by omega)))
theorem fpK_mem {C : Nat → Nat} {c q : Nat} : q ∈ fpK N d C c ↔ ∃ i, i ≤ c ∧ q ∈ fpO N d (C i) := by
  unfold fpK
  rw [seg_mem]
  constructor
  · rintro ⟨j, hj, h⟩; exact ⟨j, by omega, by simpa using h⟩
  · rintro ⟨j, hj, h⟩; exact ⟨j, by omega, by simpa using h⟩
/-- behind the call for the kid b -/
theorem add_pre (hnd : (fpO N (d + 1) n ++ frl).Nodup) (q0 : N1 n = nd (nK (N n)) (nC (N n)) (nc (N n)) (nl (N n)) (nx (N n)) (ns (N n) + 1)) (q1 : ∀ m, m ≠ n → N1 m = N m) (hb : b ≤ nc (N n)) (hu : ∀ m ∈ used, m ∈ frl) {lo' hi' e' : Nat} (ap : AP N1 N2 (nC (N n) b) d lo' hi' e' 3 ky used r u) :
    (∀ i, i ≤ nc (N n) → ∀ q ∈ fpO N d (nC (N n) i), N1 q = N q ∧ q ≠ n ∧ q ∉ used) ∧ N2 n = N1 n ∧ (∀ i, i ≤ nc (N n) → i ≠ b → ∀ q ∈ fpO N d (nC (N n) i), N2 q = N q) ∧ (∀ m, m ∉ fpO N (d + 1) n → m ∉ used → N2 m = N m) ∧ n ∉ used := by
  obtain ⟨n1, n2, n3⟩ := List.nodup_append.mp hnd
  rw [fpO] at n1
  obtain ⟨n4, n5⟩ := List.nodup_cons.mp n1
  have f1 : ∀ i, i ≤ nc (N n) → ∀ q ∈ fpO N d (nC (N n) i), N1 q = N q ∧ q ≠ n ∧ q ∉ used := fun i hi' q hq => by
    have hqn : q ≠ n := fun z => n4 (seg_mem.mpr ⟨i, by omega, by rw [Nat.zero_add]; exact z ▸ hq⟩)
    exact ⟨q1 q hqn, hqn, fun z => n3 q (fpO_kid hi' hq) q (hu q z) rfl⟩
  have hfp : fpO N1 d (nC (N n) b) = fpO N d (nC (N n) b) := frame_fp (fun q hq => (f1 b hb q hq).1)
  have hnu : n ∉ used := fun z => n3 n (fpO_self N (d + 1) n) n (hu n z) rfl
  refine ⟨f1, ap.1 n (by rw [hfp]; exact fun z => (f1 b hb n z).2.1 rfl) hnu, fun i hi' hib q hq => ?_, fun m hm h9 => ?_, hnu⟩
  · rw [ap.1 q (by rw [hfp]; exact seg_disj (g := fun i => fpO N d (nC (N n) i)) n5 (show i < nc (N n) + 1 by omega) (show b < nc (N n) + 1 by omega) hib hq) (f1 i hi' q hq).2.2]
    exact (f1 i hi' q hq).1
  · rw [ap.1 m (by rw [hfp]; exact fun z => hm (fpO_kid hb z)) h9]
    exact q1 m (fun z => hm (by rw [z]; exact fpO_self N (d + 1) n))
theorem add_i0 {u' : Nat} (ho : okT N (d + 1) n lo hi e mn) (hlo : lo ≤ ky) (hhi : ky < hi) (hnd : (fpO N (d + 1) n ++ frl).Nodup) (q0 : N1 n = nd (nK (N n)) (nC (N n)) (nc (N n)) (nl (N n)) (nx (N n)) (ns (N n) + 1)) (q1 : ∀ m, m ≠ n → N1 m = N m) (hb : b ≤ nc (N n)) (h1 : ∀ j, j < b → nK (N n) j ≤ ky) (h2 : b < nc (N n) → ky < nK (N n) b) (hu : ∀ m ∈ used, m ∈ frl)
    (ap : AP N1 N2 (nC (N n) b) d (bdO lo hi (nK (N n)) (nc (N n)) b) (bdO lo hi (nK (N n)) (nc (N n)) (b + 1)) (heO N d (nC (N n)) (nc (N n)) e (b + 1)) 3 ky used r u) (hr : r = NONE) : AP N N2 n (d + 1) lo hi e mn ky used NONE u' := by
  obtain ⟨p1, p2, p3, p4, p5⟩ := add_pre hnd q0 q1 hb hu ap
  have hkb : ∀ q ∈ fpO N d (nC (N n) b), N1 q = N q := fun q hq => (p1 b hb q hq).1
  obtain ⟨-, z2, z3, z4 | z4⟩ := ap
  · obtain ⟨-, y1, y2, y3⟩ := z4
    obtain ⟨g1, g2, g3, g4, g5⟩ := okT_s.mp ho
    rw [frame_xs hkb] at y2
    rw [frame_fp hkb] at y3
    rw [frame_hd hkb] at z3
    obtain ⟨-, w2, w3⟩ := k_way g5 (fun _ _ => by decide) hb h1 h2 hlo hhi
    have ex : xsK N2 d (nC (N n)) (nc (N n)) = seg (fun i => xsO N d (nC (N n) i)) 0 b ++ (xsO N2 d (nC (N n) b) ++ seg (fun i => xsO N d (nC (N n) i)) (b + 1) (nc (N n) - b)) := by
      rw [xsK_at hb]
      congr 1
      · exact seg_congr _ _ _ (fun j hj => frame_xs (p3 (0 + j) (by omega) (by omega)))
      · congr 1
        exact seg_congr _ _ _ (fun j hj => frame_xs (p3 (b + 1 + j) (by omega) (by omega)))
    have hins : Ins ky (xsK N d (nC (N n)) (nc (N n))) (xsK N2 d (nC (N n)) (nc (N n))) := by
      rw [ex, xsK_at hb]; exact y2.wrap w2 w3
    have en : N2 n = nd (nK (N n)) (nC (N n)) (nc (N n)) (nl (N n)) (nx (N n)) (ns (N n) + 1) := p2.trans q0
    have hk := kU hb (fun i h3 h4 => g5 i h3) p3 z3 y1
    refine ⟨p4, by omega, ?_, Or.inl ⟨rfl, okT_s.mpr ?_, ?_, ?_⟩⟩
    · rw [hdO, hdO, en, nC_nd]
      by_cases hz : 0 = b
      · rw [hz]; exact z3
      · exact frame_hd (p3 0 (by omega) hz)
    · rw [en]
      simp only [nK_nd, nC_nd, nc_nd, nl_nd, ns_nd]
      refine ⟨g1, g2, g3, ?_, ?_⟩
      · rw [hins.len, g4]
      · intro i hi'
        have := hk i hi'
        simp only [ite_self] at this
        exact this
    · show Ins ky (xsK N d (nC (N n)) (nc (N n))) (xsK N2 d (nC (N2 n)) (nc (N2 n)))
      rw [en]; exact hins
    · show (n :: fpK N2 d (nC (N2 n)) (nc (N2 n))).Perm (used ++ n :: fpK N d (nC (N n)) (nc (N n)))
      rw [en]
      simp only [nC_nd, nc_nd]
      refine List.Perm.trans (List.Perm.cons n ?_) List.perm_middle.symm
      unfold fpK
      rw [seg_at _ (show b < nc (N n) + 1 by omega), seg_at (fun i => fpO N d (nC (N n) i)) (show b < nc (N n) + 1 by omega), seg_congr (g' := fun i => fpO N d (nC (N n) i)) b 0 0 (fun j hj => frame_fp (p3 (0 + j) (by omega) (by omega))), seg_congr (g' := fun i => fpO N d (nC (N n) i)) (nc (N n) + 1 - (b + 1)) (b + 1) (b + 1) (fun j hj => frame_fp (p3 (b + 1 + j) (by omega) (by omega)))]
      exact perm_mid y3
  · exact absurd z4.1 (by rw [hr]; decide)
/-- a kid was parted: the node with one kid more, in N2 -/
theorem add_v {K' C' : Nat → Nat} (ho : okT N (d + 1) n lo hi e mn) (hlo : lo ≤ ky) (hhi : ky < hi) (hnd : (fpO N (d + 1) n ++ frl).Nodup) (q0 : N1 n = nd (nK (N n)) (nC (N n)) (nc (N n)) (nl (N n)) (nx (N n)) (ns (N n) + 1)) (q1 : ∀ m, m ≠ n → N1 m = N m) (hb : b ≤ nc (N n)) (h1 : ∀ j, j < b → nK (N n) j ≤ ky) (h2 : b < nc (N n) → ky < nK (N n) b) (hu : ∀ m ∈ used, m ∈ frl)
    (ap : AP N1 N2 (nC (N n) b) d (bdO lo hi (nK (N n)) (nc (N n)) b) (bdO lo hi (nK (N n)) (nc (N n)) (b + 1)) (heO N d (nC (N n)) (nc (N n)) e (b + 1)) 3 ky used r u) (hr : r < 500) (hK : ∀ i, i ≤ nc (N n) → K' i = insA (nK (N n)) b u i) (hC : ∀ i, i ≤ nc (N n) + 1 → C' i = insA (nC (N n)) (b + 1) r i) :
    kOK N2 d K' C' (nc (N n) + 1) lo hi e (fun _ => 3) ∧ Ins ky (xsK N d (nC (N n)) (nc (N n))) (xsK N2 d C' (nc (N n) + 1)) ∧ (fpK N2 d C' (nc (N n) + 1)).Perm (used ++ fpK N d (nC (N n)) (nc (N n))) ∧ hdO N2 d (C' 0) = hdO N d (nC (N n) 0) := by
  obtain ⟨p1, p2, p3, p4, p5⟩ := add_pre hnd q0 q1 hb hu ap
  have hkb : ∀ q ∈ fpO N d (nC (N n) b), N1 q = N q := fun q hq => (p1 b hb q hq).1
  obtain ⟨-, z2, z3, z4 | z4⟩ := ap
  · exact absurd z4.1 (by unfold NONE; omega)
  · obtain ⟨-, y1, y1', y2, y3⟩ := z4
    obtain ⟨g1, g2, g3, g4, g5⟩ := okT_s.mp ho
    rw [frame_xs hkb] at y2
    rw [frame_fp hkb] at y3
    rw [frame_hd hkb] at z3
    obtain ⟨-, w2, w3⟩ := k_way g5 (fun _ _ => by decide) hb h1 h2 hlo hhi
    have cl : ∀ i, i ≤ b → C' i = nC (N n) i := fun i hi' => by rw [hC i (by omega), insA_lt (by omega)]
    have cr : C' (b + 1) = r := by rw [hC _ (by omega), insA_eq]
    have cg : ∀ i, b + 1 ≤ i → i ≤ nc (N n) → C' (i + 1) = nC (N n) i := fun i h3 h4 => by rw [hC _ (by omega), insA_gt (by omega), Nat.add_sub_cancel]
    refine ⟨kI hb (fun i h3 h4 => g5 i h3) p3 z3 y1 y1' hK hC, ?_, ?_, ?_⟩
    · have e1 : seg (fun i => xsO N2 d (C' i)) 0 b = seg (fun i => xsO N d (nC (N n) i)) 0 b := seg_congr _ _ _ (fun j hj => by rw [cl (0 + j) (by omega)]; exact frame_xs (p3 (0 + j) (by omega) (by omega)))
      have e2 : seg (fun i => xsO N2 d (C' i)) (b + 1 + 1) (nc (N n) - b) = seg (fun i => xsO N d (nC (N n) i)) (b + 1) (nc (N n) - b) := seg_congr _ _ _ (fun j hj => by rw [show b + 1 + 1 + j = (b + 1 + j) + 1 by omega, cg (b + 1 + j) (by omega) (by omega)]; exact frame_xs (p3 (b + 1 + j) (by omega) (by omega)))
      rw [xsK_at hb, xsK, seg_at _ (show b < nc (N n) + 1 + 1 by omega), show nc (N n) + 1 + 1 - (b + 1) = (nc (N n) - b) + 1 by omega, seg_s, cl b (by omega), cr, e1, e2]
      have := y2.wrap w2 w3
      rw [List.append_assoc] at this
      exact this
    · have e1 : seg (fun i => fpO N2 d (C' i)) 0 b = seg (fun i => fpO N d (nC (N n) i)) 0 b := seg_congr _ _ _ (fun j hj => by rw [cl (0 + j) (by omega)]; exact frame_fp (p3 (0 + j) (by omega) (by omega)))
      have e2 : seg (fun i => fpO N2 d (C' i)) (b + 1 + 1) (nc (N n) + 1 - (b + 1)) = seg (fun i => fpO N d (nC (N n) i)) (b + 1) (nc (N n) + 1 - (b + 1)) := seg_congr _ _ _ (fun j hj => by rw [show b + 1 + 1 + j = (b + 1 + j) + 1 by omega, cg (b + 1 + j) (by omega) (by omega)]; exact frame_fp (p3 (b + 1 + j) (by omega) (by omega)))
      unfold fpK
      rw [seg_at (fun i => fpO N d (nC (N n) i)) (show b < nc (N n) + 1 by omega), seg_at (fun i => fpO N2 d (C' i)) (show b < nc (N n) + 1 + 1 by omega), show nc (N n) + 1 + 1 - (b + 1) = (nc (N n) + 1 - (b + 1)) + 1 by omega, seg_s, cl b (by omega), cr, e1, e2]
      have := perm_mid (P := seg (fun i => fpO N d (nC (N n) i)) 0 b) (S := seg (fun i => fpO N d (nC (N n) i)) (b + 1) (nc (N n) + 1 - (b + 1))) y3
      rw [List.append_assoc (fpO N2 d (nC (N n) b))] at this
      exact this
    · rw [cl 0 (by omega)]
      by_cases hz : 0 = b
      · rw [hz]; exact z3
      · exact frame_hd (p3 0 (by omega) hz)
end ADDI
