/-! PURE: what okT says of keys, bounds, leaves -/
theorem seg_srt {g : Nat → List Nat} {b : Nat → Nat} : ∀ (n i : Nat), (∀ j, j < n → Srt (g (i + j)) ∧ (∀ x ∈ g (i + j), b (i + j) ≤ x ∧ x < b (i + j + 1)) ∧ b (i + j) ≤ b (i + j + 1)) → Srt (seg g i n) ∧ (∀ x ∈ seg g i n, b i ≤ x ∧ x < b (i + n)) ∧ b i ≤ b (i + n)
  | 0, i, _ => ⟨List.Pairwise.nil, fun x hx => absurd hx List.not_mem_nil, Nat.le_refl _⟩
  | n + 1, i, h => by
    obtain ⟨h1, h2, h3⟩ := seg_srt (g := g) (b := b) n (i + 1) (fun j hj => by
      have := h (j + 1) (by omega)
      rw [show i + (j + 1) = i + 1 + j by omega] at this
      exact this)
    obtain ⟨a1, a2, a3⟩ := h 0 (by omega)
    rw [Nat.add_zero] at a1 a2 a3
    rw [show i + 1 + n = i + (n + 1) by omega] at h2 h3
    refine ⟨Srt.app.mpr ⟨a1, h1, fun x hx y hy => ?_⟩, fun x hx => ?_, by omega⟩
    · have := (a2 x hx).2; have := (h2 y hy).1; omega
    · rcases List.mem_append.mp hx with hx | hx
      · have := a2 x hx; omega
      · have := h2 x hx; omega
theorem seg_one_len {α : Type} (f : Nat → α) : ∀ (n i : Nat), (seg (fun k => [f k]) i n).length = n
  | 0, _ => rfl
  | n + 1, i => by rw [seg_s, List.length_append, seg_one_len f n (i + 1)]; simp; omega
theorem seg_len_ge {α : Type} {g : Nat → List α} : ∀ (n i : Nat), (∀ j, j < n → 1 ≤ (g (i + j)).length) → n ≤ (seg g i n).length
  | 0, _, _ => Nat.zero_le _
  | n + 1, i, h => by
    rw [seg_s, List.length_append]
    have h0 := h 0 (by omega)
    have h1 := seg_len_ge (g := g) n (i + 1) (fun j hj => by rw [show i + 1 + j = i + (j + 1) by omega]; exact h (j + 1) (by omega))
    rw [Nat.add_zero] at h0
    omega
section BD
variable {lo hi c : Nat} {K : Nat → Nat}
theorem bd_0 : bdO lo hi K c 0 = lo := by simp [bdO]
theorem bd_s {i : Nat} (h : i < c) : bdO lo hi K c (i + 1) = K i := by simp [bdO, show ¬ i = c by omega]
theorem bd_t : bdO lo hi K c (c + 1) = hi := by simp [bdO]
theorem he_s {N : Nat → Nd} {d e i : Nat} {C : Nat → Nat} (h : i < c) : heO N d C c e (i + 1) = hdO N d (C (i + 1)) := by simp [heO, show ¬ i = c by omega]
theorem he_t {N : Nat → Nd} {d e : Nat} {C : Nat → Nat} : heO N d C c e (c + 1) = e := by simp [heO]
end BD
/-- the kids of a node, each with its least number of keys -/
def kOK (N : Nat → Nd) (d : Nat) (K C : Nat → Nat) (c lo hi e : Nat) (mf : Nat → Nat) : Prop := ∀ i, i ≤ c → okT N d (C i) (bdO lo hi K c i) (bdO lo hi K c (i + 1)) (heO N d C c e (i + 1)) (mf i)
def xsK (N : Nat → Nd) (d : Nat) (C : Nat → Nat) (c : Nat) : List Nat := seg (fun i => xsO N d (C i)) 0 (c + 1)
def fpK (N : Nat → Nd) (d : Nat) (C : Nat → Nat) (c : Nat) : List Nat := seg (fun i => fpO N d (C i)) 0 (c + 1)
theorem okT_s {N : Nat → Nd} {d n lo hi e mn : Nat} : okT N (d + 1) n lo hi e mn ↔ nl (N n) = 0 ∧ mn ≤ nc (N n) ∧ nc (N n) ≤ 7 ∧ ns (N n) = (xsK N d (nC (N n)) (nc (N n))).length ∧ kOK N d (nK (N n)) (nC (N n)) (nc (N n)) lo hi e (fun _ => 3) := Iff.rfl
theorem ne_mem {l : List Nat} (h : 1 ≤ l.length) : ∃ x, x ∈ l := by
  cases l with
  | nil => simp at h
  | cons x r => exact ⟨x, List.mem_cons_self⟩
theorem ok_main {N : Nat → Nd} : ∀ (d n : Nat) {lo hi e mn : Nat}, okT N d n lo hi e mn → Srt (xsO N d n) ∧ (∀ x ∈ xsO N d n, lo ≤ x ∧ x < hi) ∧ mn ≤ (xsO N d n).length
  | 0, n, lo, hi, e, mn, h => by
    obtain ⟨-, h2, -, -, -, h6, h7⟩ := h
    have hs := seg_srt (g := fun k => [nK (N n) k]) (b := fun k => if k < nc (N n) then nK (N n) k else hi) (nc (N n)) 0 (fun j hj => by
      have hx := h6 j hj
      have hy := h7 j
      refine ⟨List.pairwise_singleton _ _, fun x hx2 => ?_, ?_⟩
      · simp only [Nat.zero_add, List.mem_singleton] at hx2 ⊢
        subst hx2
        simp only [hj, if_true]
        refine ⟨Nat.le_refl _, ?_⟩
        split
        · exact hy (by assumption)
        · exact hx.2
      · simp only [Nat.zero_add, hj, if_true]
        split
        · exact Nat.le_of_lt (hy (by assumption))
        · exact Nat.le_of_lt hx.2)
    refine ⟨hs.1, fun x hx => ?_, by rw [xsO, ksO, seg_one_len]; exact h2⟩
    obtain ⟨j, hj, hx⟩ := seg_mem.mp hx
    rw [Nat.zero_add, List.mem_singleton] at hx
    subst hx
    exact h6 j hj
  | d + 1, n, lo, hi, e, mn, h => by
    obtain ⟨-, h2, -, -, h5⟩ := h
    have ih : ∀ i, i ≤ nc (N n) → _ := fun i hi' => ok_main d (nC (N n) i) (h5 i hi')
    have hs := seg_srt (g := fun i => xsO N d (nC (N n) i)) (b := bdO lo hi (nK (N n)) (nc (N n))) (nc (N n) + 1) 0 (fun j hj => by
      rw [Nat.zero_add]
      obtain ⟨a1, a2, a3⟩ := ih j (by omega)
      refine ⟨a1, a2, ?_⟩
      obtain ⟨x, hx⟩ := ne_mem (show 1 ≤ (xsO N d (nC (N n) j)).length by omega)
      have := a2 x hx
      omega)
    rw [bd_0, Nat.zero_add, bd_t] at hs
    refine ⟨hs.1, hs.2.1, ?_⟩
    have := seg_len_ge (g := fun i => xsO N d (nC (N n) i)) (nc (N n) + 1) 0 (fun j hj => by
      rw [Nat.zero_add]
      have := (ih j (by omega)).2.2
      omega)
    rw [xsO]
    omega
/-- bounds between kids grow -/
theorem k_bd {N : Nat → Nd} {d c lo hi e : Nat} {K C mf : Nat → Nat} (h : kOK N d K C c lo hi e mf) (hm : ∀ i, i ≤ c → 1 ≤ mf i) : ∀ i, i ≤ c → bdO lo hi K c i < bdO lo hi K c (i + 1) := fun i hi' => by
  obtain ⟨-, a2, a3⟩ := ok_main d (C i) (h i hi')
  obtain ⟨x, hx⟩ := ne_mem (show 1 ≤ (xsO N d (C i)).length by have := hm i hi'; omega)
  have := a2 x hx
  omega
theorem b_mono {b : Nat → Nat} {c : Nat} (h : ∀ i, i ≤ c → b i < b (i + 1)) : ∀ (k i : Nat), i + k ≤ c + 1 → b i + k ≤ b (i + k)
  | 0, i, _ => Nat.le_refl _
  | k + 1, i, hk => by
    have h1 := b_mono h k i (by omega)
    have h2 := h (i + k) (by omega)
    rw [show i + (k + 1) = i + k + 1 by omega]
    omega
theorem b_le {b : Nat → Nat} {c : Nat} (h : ∀ i, i ≤ c → b i < b (i + 1)) {i j : Nat} (hij : i ≤ j) (hj : j ≤ c + 1) : b i ≤ b j := by
  have := b_mono h (j - i) i (by omega)
  rw [show i + (j - i) = j by omega] at this
  omega
theorem b_lt {b : Nat → Nat} {c : Nat} (h : ∀ i, i ≤ c → b i < b (i + 1)) {i j : Nat} (hij : i < j) (hj : j ≤ c + 1) : b i < b j := by
  have := b_mono h (j - i) i (by omega)
  rw [show i + (j - i) = j by omega] at this
  omega
/-- keys of a node are below TOP -/
theorem k_top {N : Nat → Nd} {d c lo hi e : Nat} {K C mf : Nat → Nat} (h : kOK N d K C c lo hi e mf) (hm : ∀ i, i ≤ c → 1 ≤ mf i) (hh : hi ≤ TOP) : ∀ i, i < c → K i < TOP := fun i hi' => by
  have := b_lt (k_bd h hm) (show i + 1 < c + 1 by omega) (Nat.le_refl _)
  rw [bd_s hi', bd_t] at this
  omega
theorem ok_top {N : Nat → Nd} {d n lo hi e mn : Nat} (h : okT N d n lo hi e mn) (hh : hi ≤ TOP) : ∀ k, k < nc (N n) → nK (N n) k < TOP := by
  cases d with
  | zero => exact fun k hk => Nat.lt_of_lt_of_le (h.2.2.2.2.2.1 k hk).2 hh
  | succ d => exact k_top (okT_s.mp h).2.2.2.2 (fun _ _ => by decide) hh
theorem ok_c7 {N : Nat → Nd} {d n lo hi e mn : Nat} (h : okT N d n lo hi e mn) : nc (N n) ≤ 7 := by
  cases d with
  | zero => exact h.2.2.1
  | succ d => exact h.2.2.1
theorem ok_mn {N : Nat → Nd} {d n lo hi e mn : Nat} (h : okT N d n lo hi e mn) : mn ≤ nc (N n) := by
  cases d with
  | zero => exact h.2.1
  | succ d => exact h.2.1
theorem ok_ns {N : Nat → Nd} {d n lo hi e mn : Nat} (h : okT N d n lo hi e mn) : ns (N n) = (xsO N d n).length := by
  cases d with
  | zero => rw [h.2.2.2.1, xsO, ksO, seg_one_len]
  | succ d => exact h.2.2.2.1
/-- which kid leads to a key -/
theorem k_way {N : Nat → Nd} {d c lo hi e ky w : Nat} {K C mf : Nat → Nat} (h : kOK N d K C c lo hi e mf) (hm : ∀ i, i ≤ c → 1 ≤ mf i) (hw : w ≤ c) (h1 : ∀ j, j < w → K j ≤ ky) (h2 : w < c → ky < K w) (hlo : lo ≤ ky) (hhi : ky < hi) :
    (bdO lo hi K c w ≤ ky ∧ ky < bdO lo hi K c (w + 1)) ∧ (∀ x ∈ seg (fun i => xsO N d (C i)) 0 w, x < ky) ∧ (∀ x ∈ seg (fun i => xsO N d (C i)) (w + 1) (c - w), ky < x) := by
  have hb := k_bd h hm
  have hw1 : bdO lo hi K c w ≤ ky := by
    cases w with
    | zero => rw [bd_0]; exact hlo
    | succ w => rw [bd_s (by omega)]; exact h1 w (by omega)
  have hw2 : ky < bdO lo hi K c (w + 1) := by
    by_cases hc : w < c
    · rw [bd_s hc]; exact h2 hc
    · rw [show w = c by omega, bd_t]; exact hhi
  refine ⟨⟨hw1, hw2⟩, fun x hx => ?_, fun x hx => ?_⟩
  · obtain ⟨j, hj, hx⟩ := seg_mem.mp hx
    rw [Nat.zero_add] at hx
    have := ((ok_main d (C j) (h j (by omega))).2.1 x hx).2
    have := b_le hb (show j + 1 ≤ w by omega) (by omega)
    omega
  · obtain ⟨j, hj, hx⟩ := seg_mem.mp hx
    have := ((ok_main d (C (w + 1 + j)) (h (w + 1 + j) (by omega))).2.1 x hx).1
    have := b_le hb (show w + 1 ≤ w + 1 + j by omega) (by omega)
    omega
theorem xsK_at {N : Nat → Nd} {d c w : Nat} {C : Nat → Nat} (hw : w ≤ c) : xsK N d C c = seg (fun i => xsO N d (C i)) 0 w ++ (xsO N d (C w) ++ seg (fun i => xsO N d (C i)) (w + 1) (c - w)) := by
  rw [xsK, seg_at _ (show w < c + 1 by omega), show c + 1 - (w + 1) = c - w by omega]
/-- a leaf: what stands below a place -/
theorem l_place {K : Nat → Nat} {c b ky : Nat} (hb : b ≤ c) (h1 : ∀ j, j < b → K j < ky) (h2 : b < c → ky ≤ K b) (hs : ∀ k, k + 1 < c → K k < K (k + 1)) :
    seg (fun k => [K k]) 0 c = seg (fun k => [K k]) 0 b ++ seg (fun k => [K k]) b (c - b) ∧ (∀ x ∈ seg (fun k => [K k]) 0 b, x < ky) ∧ (∀ x ∈ seg (fun k => [K k]) b (c - b), ky ≤ x) := by
  refine ⟨seg_cut _ hb, fun x hx => ?_, fun x hx => ?_⟩
  · obtain ⟨j, hj, hx⟩ := seg_mem.mp hx
    rw [Nat.zero_add, List.mem_singleton] at hx
    subst hx
    exact h1 j hj
  · obtain ⟨j, hj, hx⟩ := seg_mem.mp hx
    rw [List.mem_singleton] at hx
    subst hx
    have : ∀ j, b + j < c → ky ≤ K (b + j) := by
      intro j
      induction j with
      | zero => intro h; exact h2 (by omega)
      | succ j ih => intro h; have := ih (by omega); have := hs (b + j) (by omega); rw [show b + (j + 1) = b + j + 1 by omega]; omega
    exact this j (by omega)
/-! how many nodes there are -/
theorem seg_sum2 {g : Nat → List Nat} {f : Nat → List Nat} : ∀ (n i : Nat), (∀ j, j < n → 2 * (f (i + j)).length + 1 ≤ (g (i + j)).length) → 2 * (seg f i n).length + n ≤ (seg g i n).length
  | 0, _, _ => Nat.zero_le _
  | n + 1, i, h => by
    rw [seg_s, seg_s, List.length_append, List.length_append]
    have h0 := h 0 (by omega)
    simp only [Nat.add_zero] at h0
    have := seg_sum2 (g := g) (f := f) n (i + 1) (fun j hj => by rw [show i + 1 + j = i + (j + 1) by omega]; exact h (j + 1) (by omega))
    omega
theorem ok_cnt {N : Nat → Nd} : ∀ (d n : Nat) {lo hi e mn : Nat}, okT N d n lo hi e mn → 2 * (fpO N d n).length + nc (N n) ≤ (xsO N d n).length + (if d = 0 then 2 else 1)
  | 0, n, lo, hi, e, mn, h => by
    rw [fpO, xsO, ksO, seg_one_len]; simp; omega
  | d + 1, n, lo, hi, e, mn, h => by
    obtain ⟨-, -, -, -, h5⟩ := h
    rw [fpO, xsO, List.length_cons]
    have := seg_sum2 (g := fun i => xsO N d (nC (N n) i)) (f := fun i => fpO N d (nC (N n) i)) (nc (N n) + 1) 0 (fun j hj => by
      rw [Nat.zero_add]
      have h6 := ok_cnt d (nC (N n) j) (h5 j (by omega))
      have h7 := ok_mn (h5 j (by omega))
      have h8 := ok_main d (nC (N n) j) (h5 j (by omega))
      split at h6 <;> omega)
    simp
    omega
/-- a tree is not deeper than it has nodes -/
theorem ok_deep {N : Nat → Nd} : ∀ (d n : Nat) {lo hi e mn : Nat}, okT N d n lo hi e mn → d + 1 ≤ (fpO N d n).length
  | 0, n, _, _, _, _, _ => Nat.le_refl _
  | d + 1, n, lo, hi, e, mn, h => by
    obtain ⟨-, -, -, -, h5⟩ := h
    have := ok_deep d (nC (N n) 0) (h5 0 (by omega))
    rw [fpO, List.length_cons, seg_s, List.length_append]
    omega
