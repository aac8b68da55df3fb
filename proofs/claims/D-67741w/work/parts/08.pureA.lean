/-! PURE: lists laid out by an index (seg), insertion and deletion of a place, sorted lists -/
def seg {α : Type} (g : Nat → List α) : Nat → Nat → List α
  | _, 0 => []
  | i, n + 1 => g i ++ seg g (i + 1) n
theorem seg_0 {α : Type} (g : Nat → List α) (i : Nat) : seg g i 0 = [] := rfl
theorem seg_s {α : Type} (g : Nat → List α) (i n : Nat) : seg g i (n + 1) = g i ++ seg g (i + 1) n := rfl
theorem seg_1 {α : Type} (g : Nat → List α) (i : Nat) : seg g i 1 = g i := by simp [seg]
theorem seg_add {α : Type} (g : Nat → List α) : ∀ (a i b : Nat), seg g i (a + b) = seg g i a ++ seg g (i + a) b
  | 0, i, b => by simp [seg]
  | a + 1, i, b => by
    rw [show a + 1 + b = (a + b) + 1 by omega, seg_s, seg_s, seg_add g a (i + 1) b, List.append_assoc, show i + 1 + a = i + (a + 1) by omega]
theorem seg_congr {α : Type} {g g' : Nat → List α} : ∀ (n i i' : Nat), (∀ j, j < n → g (i + j) = g' (i' + j)) → seg g i n = seg g' i' n
  | 0, _, _, _ => rfl
  | n + 1, i, i', h => by
    rw [seg_s, seg_s, show g i = g' i' by simpa using h 0 (by omega), seg_congr n (i + 1) (i' + 1) (fun j hj => by
      have := h (j + 1) (by omega)
      rw [show i + 1 + j = i + (j + 1) by omega, show i' + 1 + j = i' + (j + 1) by omega]; exact this)]
theorem seg_mem {α : Type} {g : Nat → List α} {x : α} : ∀ {n i : Nat}, x ∈ seg g i n ↔ ∃ j, j < n ∧ x ∈ g (i + j)
  | 0, i => by simp [seg]
  | n + 1, i => by
    rw [seg_s, List.mem_append, seg_mem]
    constructor
    · rintro (h | ⟨j, hj, h⟩)
      · exact ⟨0, by omega, by simpa using h⟩
      · exact ⟨j + 1, by omega, by rw [show i + (j + 1) = i + 1 + j by omega]; exact h⟩
    · rintro ⟨j, hj, h⟩
      cases j with
      | zero => exact Or.inl (by simpa using h)
      | succ j => exact Or.inr ⟨j, by omega, by rw [show i + 1 + j = i + (j + 1) by omega]; exact h⟩
/-- one place of a seg is apart -/
theorem seg_at {α : Type} (g : Nat → List α) {n w : Nat} (hw : w < n) : seg g 0 n = seg g 0 w ++ (g w ++ seg g (w + 1) (n - (w + 1))) := by
  have h1 : n = w + (1 + (n - (w + 1))) := by omega
  have h2 := seg_add g w 0 (1 + (n - (w + 1)))
  rw [← h1, Nat.zero_add, seg_add g 1 w, seg_1] at h2
  exact h2
theorem seg_len {α : Type} (g : Nat → List α) : ∀ (n i : Nat), (seg g i n).length = ((List.range n).map (fun j => (g (i + j)).length)).sum
  | 0, _ => rfl
  | n + 1, i => by
    rw [seg_s, List.length_append, seg_len g n (i + 1), List.range_succ_eq_map, List.map_cons, List.sum_cons, List.map_map]
    congr 2
    apply List.map_congr_left
    intro j _
    simp [Function.comp, show i + 1 + j = i + (j + 1) by omega]
theorem seg_flatMap {α β : Type} (g : Nat → List α) (f : α → List β) : ∀ (n i : Nat), (seg g i n).flatMap f = seg (fun j => (g j).flatMap f) i n
  | 0, _ => rfl
  | n + 1, i => by rw [seg_s, seg_s, List.flatMap_append, seg_flatMap g f n (i + 1)]
/-- a place is put in, taken out -/
def insA {α : Type} (f : Nat → α) (p : Nat) (v : α) : Nat → α := fun i => if i < p then f i else if i = p then v else f (i - 1)
def delA {α : Type} (f : Nat → α) (p : Nat) : Nat → α := fun i => if i < p then f i else f (i + 1)
theorem insA_lt {α : Type} {f : Nat → α} {p : Nat} {v : α} {i : Nat} (h : i < p) : insA f p v i = f i := by simp [insA, h]
theorem insA_eq {α : Type} {f : Nat → α} {p : Nat} {v : α} : insA f p v p = v := by simp [insA]
theorem insA_gt {α : Type} {f : Nat → α} {p : Nat} {v : α} {i : Nat} (h : p < i) : insA f p v i = f (i - 1) := by simp [insA, show ¬ i < p by omega, show ¬ i = p by omega]
theorem delA_lt {α : Type} {f : Nat → α} {p i : Nat} (h : i < p) : delA f p i = f i := by simp [delA, h]
theorem delA_ge {α : Type} {f : Nat → α} {p i : Nat} (h : p ≤ i) : delA f p i = f (i + 1) := by simp [delA, show ¬ i < p by omega]
theorem seg_ins {α : Type} {g g' : Nat → List α} {n w : Nat} {A : List α} (hw : w ≤ n) (h1 : ∀ i, i < w → g' i = g i) (h2 : g' w = A) (h3 : ∀ i, w ≤ i → i < n → g' (i + 1) = g i) : seg g' 0 (n + 1) = seg g 0 w ++ (A ++ seg g w (n - w)) := by
  rw [seg_at g' (show w < n + 1 by omega), h2, seg_congr (g' := g) w 0 0 (fun j hj => by simpa using h1 j hj), seg_congr (g' := g) (n + 1 - (w + 1)) (w + 1) w (fun j hj => by rw [show w + 1 + j = (w + j) + 1 by omega]; exact h3 (w + j) (by omega) (by omega)), show n + 1 - (w + 1) = n - w by omega]
theorem seg_cut {α : Type} (g : Nat → List α) {n w : Nat} (hw : w ≤ n) : seg g 0 n = seg g 0 w ++ seg g w (n - w) := by
  have h := seg_add g w 0 (n - w)
  rw [show w + (n - w) = n by omega, Nat.zero_add] at h
  exact h
/-! sorted lists of numbers -/
def Srt (l : List Nat) : Prop := l.Pairwise (· < ·)
theorem Srt.app {a b : List Nat} : Srt (a ++ b) ↔ Srt a ∧ Srt b ∧ ∀ x ∈ a, ∀ y ∈ b, x < y := List.pairwise_append
def Ins (k : Nat) (xs ys : List Nat) : Prop := ∃ A B, xs = A ++ B ∧ ys = A ++ k :: B ∧ (∀ x ∈ A, x < k) ∧ ∀ x ∈ B, k < x
def Del (k : Nat) (xs ys : List Nat) : Prop := ∃ A B, xs = A ++ k :: B ∧ ys = A ++ B ∧ (∀ x ∈ A, x < k) ∧ ∀ x ∈ B, k < x
theorem Ins.wrap {k : Nat} {xs ys P S : List Nat} (h : Ins k xs ys) (hP : ∀ x ∈ P, x < k) (hS : ∀ x ∈ S, k < x) : Ins k (P ++ (xs ++ S)) (P ++ (ys ++ S)) := by
  obtain ⟨A, B, rfl, rfl, hA, hB⟩ := h
  refine ⟨P ++ A, B ++ S, by simp, by simp, fun x hx => ?_, fun x hx => ?_⟩
  · rcases List.mem_append.mp hx with h | h
    · exact hP x h
    · exact hA x h
  · rcases List.mem_append.mp hx with h | h
    · exact hB x h
    · exact hS x h
theorem Del.wrap {k : Nat} {xs ys P S : List Nat} (h : Del k xs ys) (hP : ∀ x ∈ P, x < k) (hS : ∀ x ∈ S, k < x) : Del k (P ++ (xs ++ S)) (P ++ (ys ++ S)) := by
  obtain ⟨A, B, rfl, rfl, hA, hB⟩ := h
  refine ⟨P ++ A, B ++ S, by simp, by simp, fun x hx => ?_, fun x hx => ?_⟩
  · rcases List.mem_append.mp hx with h | h
    · exact hP x h
    · exact hA x h
  · rcases List.mem_append.mp hx with h | h
    · exact hB x h
    · exact hS x h
theorem filt_all {p : Nat → Bool} : ∀ (l : List Nat), (∀ x ∈ l, p x = true) → l.filter p = l := fun _ h => List.filter_eq_self.mpr h
theorem filt_none {p : Nat → Bool} : ∀ (l : List Nat), (∀ x ∈ l, p x = false) → l.filter p = [] := fun _ h => List.filter_eq_nil_iff.mpr (fun x hx => by rw [h x hx]; decide)
theorem Ins.eq {k : Nat} {xs ys : List Nat} (h : Ins k xs ys) : ys = xs.filter (fun x => decide (x < k)) ++ k :: xs.filter (fun x => decide (k < x)) := by
  obtain ⟨A, B, rfl, rfl, hA, hB⟩ := h
  rw [List.filter_append, List.filter_append, filt_all A (fun x hx => by simpa using hA x hx), filt_none B (fun x hx => by simpa using Nat.le_of_lt (hB x hx)), filt_none A (fun x hx => by simpa using Nat.le_of_lt (hA x hx)), filt_all B (fun x hx => by simpa using hB x hx)]
  simp
theorem Ins.uniq {k : Nat} {xs ys zs : List Nat} (h : Ins k xs ys) (h' : Ins k xs zs) : ys = zs := h.eq.trans h'.eq.symm
theorem Del.eq {k : Nat} {xs ys : List Nat} (h : Del k xs ys) : ys = xs.filter (fun x => decide (x ≠ k)) := by
  obtain ⟨A, B, rfl, rfl, hA, hB⟩ := h
  rw [List.filter_append, List.filter_cons_of_neg (by simp), filt_all A (fun x hx => by have := hA x hx; simp; omega), filt_all B (fun x hx => by have := hB x hx; simp; omega)]
theorem Del.uniq {k : Nat} {xs ys zs : List Nat} (h : Del k xs ys) (h' : Del k xs zs) : ys = zs := h.eq.trans h'.eq.symm
theorem Ins.len {k : Nat} {xs ys : List Nat} (h : Ins k xs ys) : ys.length = xs.length + 1 := by
  obtain ⟨A, B, rfl, rfl, -, -⟩ := h
  simp; omega
theorem Del.len {k : Nat} {xs ys : List Nat} (h : Del k xs ys) : xs.length = ys.length + 1 := by
  obtain ⟨A, B, rfl, rfl, -, -⟩ := h
  simp; omega
theorem Ins.mem {k : Nat} {xs ys : List Nat} (h : Ins k xs ys) (x : Nat) : x ∈ ys ↔ x = k ∨ x ∈ xs := by
  obtain ⟨A, B, rfl, rfl, -, -⟩ := h
  simp only [List.mem_append, List.mem_cons]
  constructor
  · rintro (h | h | h)
    · exact Or.inr (Or.inl h)
    · exact Or.inl h
    · exact Or.inr (Or.inr h)
  · rintro (h | h | h)
    · exact Or.inr (Or.inl h)
    · exact Or.inl h
    · exact Or.inr (Or.inr h)
theorem Del.mem {k : Nat} {xs ys : List Nat} (h : Del k xs ys) (x : Nat) : x ∈ ys ↔ x ≠ k ∧ x ∈ xs := by
  rw [h.eq, List.mem_filter]; simp; exact And.comm
theorem Ins.srt {k : Nat} {xs ys : List Nat} (h : Ins k xs ys) (hs : Srt xs) : Srt ys := by
  obtain ⟨A, B, rfl, rfl, hA, hB⟩ := h
  obtain ⟨h1, h2, h3⟩ := Srt.app.mp hs
  refine Srt.app.mpr ⟨h1, List.pairwise_cons.mpr ⟨hB, h2⟩, fun x hx y hy => ?_⟩
  rcases List.mem_cons.mp hy with rfl | hy
  · exact hA x hx
  · exact h3 x hx y hy
theorem Del.srt {k : Nat} {xs ys : List Nat} (h : Del k xs ys) (hs : Srt xs) : Srt ys := by
  rw [h.eq]; exact hs.filter _
/-! the tree: nodes -/
abbrev Nd : Type := (Nat → Nat) × (Nat → Nat) × Nat × Nat × Nat × Nat
def nK (x : Nd) : Nat → Nat := x.1
def nC (x : Nd) : Nat → Nat := x.2.1
def nc (x : Nd) : Nat := x.2.2.1
def nl (x : Nd) : Nat := x.2.2.2.1
def nx (x : Nd) : Nat := x.2.2.2.2.1
def ns (x : Nd) : Nat := x.2.2.2.2.2
def nd (K C : Nat → Nat) (c l x s : Nat) : Nd := (K, C, c, l, x, s)
theorem nd_eta (x : Nd) : x = nd (nK x) (nC x) (nc x) (nl x) (nx x) (ns x) := rfl
theorem nK_nd {K C : Nat → Nat} {c l x s : Nat} : nK (nd K C c l x s) = K := rfl
theorem nC_nd {K C : Nat → Nat} {c l x s : Nat} : nC (nd K C c l x s) = C := rfl
theorem nc_nd {K C : Nat → Nat} {c l x s : Nat} : nc (nd K C c l x s) = c := rfl
theorem nl_nd {K C : Nat → Nat} {c l x s : Nat} : nl (nd K C c l x s) = l := rfl
theorem nx_nd {K C : Nat → Nat} {c l x s : Nat} : nx (nd K C c l x s) = x := rfl
theorem ns_nd {K C : Nat → Nat} {c l x s : Nat} : ns (nd K C c l x s) = s := rfl
abbrev NONE : Nat := 4294967295
abbrev TOP : Nat := 79228162514264337593543950336
/-- the first leaf below a node, its keys, its nodes, its leaves -/
def hdO (N : Nat → Nd) : Nat → Nat → Nat
  | 0, n => n
  | d + 1, n => hdO N d (nC (N n) 0)
def ksO (N : Nat → Nd) (n : Nat) : List Nat := seg (fun k => [nK (N n) k]) 0 (nc (N n))
def xsO (N : Nat → Nd) : Nat → Nat → List Nat
  | 0, n => ksO N n
  | d + 1, n => seg (fun i => xsO N d (nC (N n) i)) 0 (nc (N n) + 1)
def fpO (N : Nat → Nd) : Nat → Nat → List Nat
  | 0, n => [n]
  | d + 1, n => n :: seg (fun i => fpO N d (nC (N n) i)) 0 (nc (N n) + 1)
def lvO (N : Nat → Nd) : Nat → Nat → List Nat
  | 0, n => [n]
  | d + 1, n => seg (fun i => lvO N d (nC (N n) i)) 0 (nc (N n) + 1)
/-- the bounds between the kids, and what their last leaves point to -/
def bdO (lo hi : Nat) (K : Nat → Nat) (c : Nat) : Nat → Nat := fun i => if i = 0 then lo else if i = c + 1 then hi else K (i - 1)
def heO (N : Nat → Nd) (d : Nat) (C : Nat → Nat) (c e : Nat) : Nat → Nat := fun i => if i = c + 1 then e else hdO N d (C i)
/-- a node that is a tree of depth d, with keys from lo on below hi; its last leaf points to e; it has at least mn keys, all below it at least 3 -/
def okT (N : Nat → Nd) : Nat → Nat → Nat → Nat → Nat → Nat → Prop
  | 0, n, lo, hi, e, mn => nl (N n) = 1 ∧ mn ≤ nc (N n) ∧ nc (N n) ≤ 7 ∧ ns (N n) = nc (N n) ∧ nx (N n) = e ∧ (∀ k, k < nc (N n) → lo ≤ nK (N n) k ∧ nK (N n) k < hi) ∧ ∀ k, k + 1 < nc (N n) → nK (N n) k < nK (N n) (k + 1)
  | d + 1, n, lo, hi, e, mn => nl (N n) = 0 ∧ mn ≤ nc (N n) ∧ nc (N n) ≤ 7 ∧ ns (N n) = (xsO N (d + 1) n).length ∧ ∀ i, i ≤ nc (N n) → okT N d (nC (N n) i) (bdO lo hi (nK (N n)) (nc (N n)) i) (bdO lo hi (nK (N n)) (nc (N n)) (i + 1)) (heO N d (nC (N n)) (nc (N n)) e (i + 1)) 3
/-! what is not below a node doesn't matter to it -/
theorem fpO_self (N : Nat → Nd) : ∀ (d n : Nat), n ∈ fpO N d n
  | 0, n => List.mem_singleton.mpr rfl
  | d + 1, n => List.mem_cons_self
theorem fpO_kid {N : Nat → Nd} {d n i m : Nat} (hi : i ≤ nc (N n)) (h : m ∈ fpO N d (nC (N n) i)) : m ∈ fpO N (d + 1) n :=
  List.mem_cons_of_mem _ (seg_mem.mpr ⟨i, by omega, by simpa using h⟩)
theorem frame_all {N N' : Nat → Nd} : ∀ (d n : Nat), (∀ m ∈ fpO N d n, N' m = N m) → hdO N' d n = hdO N d n ∧ xsO N' d n = xsO N d n ∧ fpO N' d n = fpO N d n ∧ lvO N' d n = lvO N d n
  | 0, n, h => by
    have e := h n (fpO_self N 0 n)
    exact ⟨rfl, by simp [xsO, ksO, e], rfl, rfl⟩
  | d + 1, n, h => by
    have e := h n (fpO_self N (d + 1) n)
    have k : ∀ i, i ≤ nc (N n) → hdO N' d (nC (N n) i) = hdO N d (nC (N n) i) ∧ xsO N' d (nC (N n) i) = xsO N d (nC (N n) i) ∧ fpO N' d (nC (N n) i) = fpO N d (nC (N n) i) ∧ lvO N' d (nC (N n) i) = lvO N d (nC (N n) i) :=
      fun i hi => frame_all d (nC (N n) i) (fun m hm => h m (fpO_kid hi hm))
    refine ⟨?_, ?_, ?_, ?_⟩
    · rw [hdO, hdO, e]; exact (k 0 (by omega)).1
    · rw [xsO, xsO, e]; exact seg_congr _ _ _ (fun j hj => by simpa using (k j (by omega)).2.1)
    · rw [fpO, fpO, e]; congr 1; exact seg_congr _ _ _ (fun j hj => by simpa using (k j (by omega)).2.2.1)
    · rw [lvO, lvO, e]; exact seg_congr _ _ _ (fun j hj => by simpa using (k j (by omega)).2.2.2)
theorem frame_hd {N N' : Nat → Nd} {d n : Nat} (h : ∀ m ∈ fpO N d n, N' m = N m) : hdO N' d n = hdO N d n := (frame_all d n h).1
theorem frame_xs {N N' : Nat → Nd} {d n : Nat} (h : ∀ m ∈ fpO N d n, N' m = N m) : xsO N' d n = xsO N d n := (frame_all d n h).2.1
theorem frame_fp {N N' : Nat → Nd} {d n : Nat} (h : ∀ m ∈ fpO N d n, N' m = N m) : fpO N' d n = fpO N d n := (frame_all d n h).2.2.1
theorem frame_lv {N N' : Nat → Nd} {d n : Nat} (h : ∀ m ∈ fpO N d n, N' m = N m) : lvO N' d n = lvO N d n := (frame_all d n h).2.2.2
theorem frame_ok {N N' : Nat → Nd} : ∀ (d n : Nat) {lo hi e mn : Nat}, (∀ m ∈ fpO N d n, N' m = N m) → okT N d n lo hi e mn → okT N' d n lo hi e mn
  | 0, n, lo, hi, e, mn, h, k => by
    have e := h n (fpO_self N 0 n)
    simpa [okT, e] using k
  | d + 1, n, lo, hi, e, mn, h, k => by
    have en := h n (fpO_self N (d + 1) n)
    obtain ⟨h1, h2, h3, h4, h5⟩ := k
    refine ⟨by rw [en]; exact h1, by rw [en]; exact h2, by rw [en]; exact h3, by rw [en, frame_xs h]; exact h4, ?_⟩
    rw [en]
    intro i hi'
    have hk : ∀ m ∈ fpO N d (nC (N n) i), N' m = N m := fun m hm => h m (fpO_kid hi' hm)
    have := frame_ok d (nC (N n) i) hk (h5 i hi')
    have he : heO N' d (nC (N n)) (nc (N n)) e (i + 1) = heO N d (nC (N n)) (nc (N n)) e (i + 1) := by
      unfold heO
      split
      · rfl
      · exact frame_hd (fun m hm => h m (fpO_kid (by omega) hm))
    rw [he]; exact this
theorem okT.weak {N : Nat → Nd} {d n lo hi e mn mn' : Nat} (h : okT N d n lo hi e mn) (hm : mn' ≤ mn) : okT N d n lo hi e mn' := by
  cases d with
  | zero => exact ⟨h.1, Nat.le_trans hm h.2.1, h.2.2⟩
  | succ d => exact ⟨h.1, Nat.le_trans hm h.2.1, h.2.2⟩
