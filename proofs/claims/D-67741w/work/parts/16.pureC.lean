/-! PURE: leaves, one behind the other -/
def lnk (N : Nat → Nd) (ls : List Nat) (e : Nat) : Prop := ∀ A x B, ls = A ++ x :: B → nx (N x) = B.headD e
theorem headD_app {a b : List Nat} {e : Nat} : (a ++ b).headD e = a.headD (b.headD e) := by cases a <;> rfl
theorem lnk_app {N : Nat → Nd} {a b : List Nat} {e : Nat} (h1 : lnk N a (b.headD e)) (h2 : lnk N b e) : lnk N (a ++ b) e := by
  intro A x B h0
  rcases List.append_eq_append_iff.mp h0 with ⟨t, rfl, h⟩ | ⟨t, rfl, h⟩
  · exact h2 t x B h
  · cases t with
    | nil => exact h2 [] x B (by simpa using h.symm)
    | cons y r =>
      rw [List.cons_append] at h
      obtain ⟨rfl, rfl⟩ := List.cons.inj h
      rw [headD_app]
      exact h1 A x r rfl
theorem lv_hd {N : Nat → Nd} : ∀ (d n e : Nat), (lvO N d n).headD e = hdO N d n ∧ lvO N d n ≠ []
  | 0, n, e => ⟨rfl, List.cons_ne_nil _ _⟩
  | d + 1, n, e => by
    rw [lvO, hdO, seg_s]
    refine ⟨?_, ?_⟩
    · rw [headD_app]; exact (lv_hd d (nC (N n) 0) _).1
    · intro h; exact (lv_hd d (nC (N n) 0) 0).2 (List.append_eq_nil_iff.mp h).1
theorem lnk_seg {N : Nat → Nd} {g : Nat → List Nat} {e : Nat} : ∀ (n i : Nat), (∀ j, j < n → lnk N (g (i + j)) ((seg g (i + j + 1) (n - j - 1)).headD e)) → lnk N (seg g i n) e
  | 0, _, _ => fun A x B h => by rw [seg_0] at h; cases A <;> cases h
  | n + 1, i, h => by
    rw [seg_s]
    refine lnk_app ?_ (lnk_seg n (i + 1) (fun j hj => ?_))
    · have := h 0 (by omega)
      simpa using this
    · have := h (j + 1) (by omega)
      rw [show i + (j + 1) = i + 1 + j by omega, show n + 1 - (j + 1) - 1 = n - j - 1 by omega] at this
      exact this
theorem ok_lnk {N : Nat → Nd} : ∀ (d n : Nat) {lo hi e mn : Nat}, okT N d n lo hi e mn → lnk N (lvO N d n) e
  | 0, n, lo, hi, e, mn, h => by
    intro A x B hA
    rw [lvO] at hA
    cases A with
    | nil => obtain ⟨rfl, rfl⟩ := List.cons.inj hA; exact h.2.2.2.2.1
    | cons y r => obtain ⟨_, h⟩ := List.cons.inj hA; simp at h
  | d + 1, n, lo, hi, e, mn, h => by
    obtain ⟨-, -, -, -, h5⟩ := h
    rw [lvO]
    refine lnk_seg _ _ (fun j hj => ?_)
    rw [Nat.zero_add]
    have h6 := ok_lnk d (nC (N n) j) (h5 j (by omega))
    by_cases hc : j < nc (N n)
    · rw [he_s hc] at h6
      rw [show nc (N n) + 1 - j - 1 = (nc (N n) - j - 1) + 1 by omega, seg_s, headD_app, (lv_hd d (nC (N n) (j + 1)) _).1]
      exact h6
    · obtain rfl : j = nc (N n) := by omega
      rw [he_t] at h6
      rw [show nc (N n) + 1 - nc (N n) - 1 = 0 by omega, seg_0]
      exact h6
theorem lv_xs {N : Nat → Nd} : ∀ (d n : Nat), (lvO N d n).flatMap (ksO N) = xsO N d n
  | 0, n => by simp [lvO, xsO]
  | d + 1, n => by
    rw [lvO, xsO, seg_flatMap]
    exact seg_congr _ _ _ (fun j _ => lv_xs d (nC (N n) (0 + j)))
theorem lv_fp {N : Nat → Nd} : ∀ (d n : Nat), ∀ m ∈ lvO N d n, m ∈ fpO N d n
  | 0, n, m, h => h
  | d + 1, n, m, h => by
    obtain ⟨j, hj, h⟩ := seg_mem.mp h
    exact List.mem_cons_of_mem _ (seg_mem.mpr ⟨j, hj, lv_fp d _ m h⟩)
/-- what is so of every leaf -/
theorem lv_ok {N : Nat → Nd} : ∀ (d n : Nat) {lo hi e mn : Nat}, okT N d n lo hi e mn → ∀ m ∈ lvO N d n, ∃ lo' hi' e', okT N 0 m lo' hi' e' 0 ∧ hi' ≤ hi
  | 0, n, lo, hi, e, mn, h, m, hm => by
    rw [lvO, List.mem_singleton] at hm
    subst hm
    exact ⟨lo, hi, e, h.weak (Nat.zero_le _), Nat.le_refl _⟩
  | d + 1, n, lo, hi, e, mn, h, m, hm => by
    obtain ⟨j, hj, hm⟩ := seg_mem.mp hm
    rw [Nat.zero_add] at hm
    have h5 := (okT_s.mp h).2.2.2.2
    obtain ⟨lo', hi', e', h6, h7⟩ := lv_ok d (nC (N n) j) (h5 j (by omega)) m hm
    refine ⟨lo', hi', e', h6, ?_⟩
    have := b_le (k_bd h5 (fun _ _ => by decide)) (show j + 1 ≤ nc (N n) + 1 by omega) (Nat.le_refl _)
    rw [bd_t] at this
    omega
theorem lvs_at {N : Nat → Nd} {d n w : Nat} (hw : w ≤ nc (N n)) : lvO N (d + 1) n = seg (fun i => lvO N d (nC (N n) i)) 0 w ++ (lvO N d (nC (N n) w) ++ seg (fun i => lvO N d (nC (N n) i)) (w + 1) (nc (N n) - w)) := by
  rw [lvO, seg_at _ (show w < nc (N n) + 1 by omega), show nc (N n) + 1 - (w + 1) = nc (N n) - w by omega]
theorem lvs_xs {N : Nat → Nd} {d : Nat} {C : Nat → Nat} (i n : Nat) : (seg (fun j => lvO N d (C j)) i n).flatMap (ksO N) = seg (fun j => xsO N d (C j)) i n := by
  rw [seg_flatMap]
  exact seg_congr _ _ _ (fun j _ => lv_xs d (C (i + j)))
/-- the free nodes, from fr on -/
def FL (N : Nat → Nd) : Nat → List Nat → Prop
  | a, [] => a = 500
  | a, b :: r => a = b ∧ FL N (nx (N b)) r
theorem FL.frame {N N' : Nat → Nd} : ∀ {l : List Nat} {a : Nat}, FL N a l → (∀ m ∈ l, N' m = N m) → FL N' a l
  | [], _, h, _ => h
  | b :: r, a, h, k => ⟨h.1, by rw [k b List.mem_cons_self]; exact FL.frame h.2 (fun m hm => k m (List.mem_cons_of_mem _ hm))⟩
/-- THE INVARIANT of a tree: depth d, keys L -/
def TI (N : Nat → Nd) (fr rt d : Nat) (L : List Nat) : Prop :=
  okT N d rt 0 TOP NONE (if d = 0 then 0 else 1) ∧ xsO N d rt = L ∧ ∃ frl, FL N fr frl ∧ (fpO N d rt ++ frl).Nodup ∧ (∀ m ∈ fpO N d rt ++ frl, m < 500) ∧ (fpO N d rt ++ frl).length = 500
theorem TI.lt {N : Nat → Nd} {fr rt d : Nat} {L : List Nat} (h : TI N fr rt d L) : ∀ m ∈ fpO N d rt, m < 500 := fun m hm => by
  obtain ⟨-, -, frl, -, -, h5, -⟩ := h
  exact h5 m (List.mem_append_left _ hm)
theorem TI.srt {N : Nat → Nd} {fr rt d : Nat} {L : List Nat} (h : TI N fr rt d L) : Srt L ∧ ∀ x ∈ L, x < TOP := by
  obtain ⟨h1, rfl, -⟩ := h
  have := ok_main d rt h1
  exact ⟨this.1, fun x hx => (this.2.1 x hx).2⟩
theorem TI.leaf {N : Nat → Nd} {fr rt d : Nat} {L : List Nat} (h : TI N fr rt d L) {m : Nat} (hm : m ∈ lvO N d rt) : m < 500 ∧ nc (N m) ≤ 7 ∧ (∀ k, k < nc (N m) → nK (N m) k < TOP) ∧ ∀ k, k + 1 < nc (N m) → nK (N m) k < nK (N m) (k + 1) := by
  obtain ⟨lo', hi', e', h6, h7⟩ := lv_ok d rt h.1 m hm
  exact ⟨h.lt m (lv_fp d rt m hm), h6.2.2.1, fun k hk => Nat.lt_of_lt_of_le (h6.2.2.2.2.2.1 k hk).2 h7, h6.2.2.2.2.2.2⟩
theorem TI.lvs {N : Nat → Nd} {fr rt d : Nat} {L : List Nat} (h : TI N fr rt d L) : (lvO N d rt).flatMap (ksO N) = L := by rw [lv_xs]; exact h.2.1
theorem TI.lnk {N : Nat → Nd} {fr rt d : Nat} {L : List Nat} (h : TI N fr rt d L) : lnk N (lvO N d rt) NONE := ok_lnk d rt h.1
theorem ks_len {N : Nat → Nd} {n : Nat} : (ksO N n).length = nc (N n) := seg_one_len _ _ _
