/-! what both sides answer -/
/-- does the code x of the order t match the pattern s, p, o under the mask mk -/
def mT (t mk : Nat) (s p o : Int32) (x : Nat) : Bool := (decide (mk % 2 = 0) || decide (dc x (po t 0) = s)) && ((decide (mk / 2 % 2 = 0) || decide (dc x (po t 1) = p)) && (decide (mk / 4 % 2 = 0) || decide (dc x (po t 2) = o)))
theorem mT_iff {t mk : Nat} {s p o : Int32} {x : Nat} : mT t mk s p o x = true ↔ (mk % 2 = 0 ∨ dc x (po t 0) = s) ∧ (mk / 2 % 2 = 0 ∨ dc x (po t 1) = p) ∧ (mk / 4 % 2 = 0 ∨ dc x (po t 2) = o) := by
  unfold mT; simp [Bool.and_eq_true, Bool.or_eq_true]
theorem mT_rot {t mk : Nat} (ht : t < 3) (s p o a b c : Int32) : mT t mk s p o (ec t a b c) = mT 0 mk s p o (ec 0 a b c) := by
  unfold mT
  rw [po_sel ht (by decide), po_sel ht (by decide), po_sel ht (by decide), po_sel (t := 0) (by decide) (by decide), po_sel (t := 0) (by decide) (by decide), po_sel (t := 0) (by decide) (by decide)]
theorem and_1 : ∀ m, m < 8 → ((nI m &&& nI 1) = 0 ↔ m % 2 = 0) := by decide
theorem and_2 : ∀ m, m < 8 → ((nI m &&& nI 2) = 0 ↔ m / 2 % 2 = 0) := by decide
theorem and_4 : ∀ m, m < 8 → ((nI m &&& nI 4) = 0 ↔ m / 4 % 2 = 0) := by decide
/-- how many match -/
def cnM (LL : Nat → List Nat) (t mk : Nat) (s p o : Int32) : Nat := ((LL t).filter (mT t mk s p o)).length
/-- without those that match -/
def flM (LL : Nat → List Nat) (mk : Nat) (s p o : Int32) (t : Nat) : List Nat := (LL t).filter (fun x => !mT t mk s p o x)
theorem ec_self {x : Nat} (h : x < TOP) : ec 0 (dc x 0) (dc x 1) (dc x 2) = x := by simp [ec, enc_dc h]
/-- the code x of the order 0 in the order t -/
def rtc (t x : Nat) : Nat := ec t (dc x 0) (dc x 1) (dc x 2)
theorem LI.inT {LL : Nat → List Nat} (h : LI LL) {t x : Nat} (ht : t < 3) (hx : x ∈ LL 0) : rtc t x ∈ LL t := by
  unfold rtc
  refine (h.2 t _ _ _ ht).mpr ?_
  rw [ec_self ((h.1 0 (by decide)).2.1 x hx)]; exact hx
/-- every code of the order t is that of a triple -/
theorem ec_of {t y : Nat} (ht : t < 3) (hy : y < TOP) : ∃ s p o, ec t s p o = y := by
  rcases (show t = 0 ∨ t = 1 ∨ t = 2 by omega) with rfl | rfl | rfl
  · exact ⟨_, _, _, ec_self hy⟩
  · exact ⟨dc y 2, dc y 0, dc y 1, by simp [ec, enc_dc hy]⟩
  · exact ⟨dc y 1, dc y 2, dc y 0, by simp [ec, enc_dc hy]⟩
theorem ec_inj {t : Nat} (ht : t < 3) {a b c a' b' c' : Int32} (h : ec t a b c = ec t a' b' c') : a = a' ∧ b = b' ∧ c = c' := by
  have e : ∀ i, i < 3 → sel i a b c = sel i a' b' c' := fun i hi => by rw [← po_sel ht hi, ← po_sel ht hi, h]
  exact ⟨by simpa [sel] using e 0 (by decide), by simpa [sel] using e 1 (by decide), by simpa [sel] using e 2 (by decide)⟩
theorem Srt.nodup {L : List Nat} (h : Srt L) : L.Nodup := List.Pairwise.imp (fun h => Nat.ne_of_lt h) h
/-- the order t has the same triples as the order 0 -/
theorem LI.perm {LL : Nat → List Nat} (h : LI LL) {t : Nat} (ht : t < 3) : (LL t).Perm ((LL 0).map (rtc t)) := by
  refine (List.perm_ext_iff_of_nodup (h.1 t ht).1.nodup ?_).mpr (fun y => ?_)
  · refine List.Pairwise.map _ (fun x y hxy => ?_) (List.pairwise_iff_forall_sublist.mpr (fun {x y} hs => ?_) : (LL 0).Pairwise (fun x y => x ∈ LL 0 ∧ y ∈ LL 0 ∧ x < y))
    · intro he
      obtain ⟨e1, e2, e3⟩ := ec_inj ht he
      have := dc_eq ((h.1 0 (by decide)).2.1 x hxy.1) ((h.1 0 (by decide)).2.1 y hxy.2.1) (fun i hi => by rcases (show i = 0 ∨ i = 1 ∨ i = 2 by omega) with rfl | rfl | rfl <;> assumption)
      omega
    · exact ⟨hs.subset List.mem_cons_self, hs.subset (List.mem_cons_of_mem _ List.mem_cons_self), List.pairwise_iff_forall_sublist.mp (h.1 0 (by decide)).1 hs⟩
  · rw [List.mem_map]
    constructor
    · intro hy
      obtain ⟨s, p, o, rfl⟩ := ec_of ht ((h.1 t ht).2.1 y hy)
      refine ⟨ec 0 s p o, (h.2 t s p o ht).mp hy, ?_⟩
      unfold rtc
      simp [ec, dc_enc0, dc_enc1, dc_enc2]
    · rintro ⟨x, hx, rfl⟩
      exact h.inT ht hx
theorem mT_rt {t mk x : Nat} (ht : t < 3) (hx : x < TOP) (s p o : Int32) : mT t mk s p o (rtc t x) = mT 0 mk s p o x := by
  unfold rtc
  rw [mT_rot ht, ec_self hx]
theorem cnM_rot {LL : Nat → List Nat} (h : LI LL) {t : Nat} (ht : t < 3) (mk : Nat) (s p o : Int32) : cnM LL t mk s p o = cnM LL 0 mk s p o := by
  unfold cnM
  rw [((h.perm ht).filter _).length_eq, List.filter_map, List.length_map]
  congr 1
  refine List.filter_congr (fun x hx => ?_)
  exact mT_rt ht ((h.1 0 (by decide)).2.1 x hx) s p o
/-- one less, in all three -/
theorem LI.del {LL LL' : Nat → List Nat} {s p o : Int32} (h : LI LL) (hm : ec 0 s p o ∈ LL 0) (hd : ∀ t, t < 3 → Del (ec t s p o) (LL t) (LL' t)) : LI LL' := by
  refine ⟨fun t ht => ⟨(hd t ht).srt (h.1 t ht).1, fun x hx => (h.1 t ht).2.1 x (((hd t ht).mem x).mp hx).2, ?_⟩, fun t a b c ht => ?_⟩
  · have := (hd t ht).len; have := (hd 0 (by decide)).len; have := (h.1 t ht).2.2; omega
  · rw [(hd t ht).mem, (hd 0 (by decide)).mem, h.2 t a b c ht]
    refine and_congr_left' ?_
    refine not_congr ⟨fun e => ?_, fun e => ?_⟩
    · obtain ⟨rfl, rfl, rfl⟩ := ec_inj ht e; rfl
    · obtain ⟨rfl, rfl, rfl⟩ := ec_inj (t := 0) (by decide) e; rfl
theorem LI.ins {LL LL' : Nat → List Nat} {s p o : Int32} (h : LI LL) (hd : ∀ t, t < 3 → Ins (ec t s p o) (LL t) (LL' t)) : LI LL' := by
  refine ⟨fun t ht => ⟨(hd t ht).srt (h.1 t ht).1, fun x hx => ?_, ?_⟩, fun t a b c ht => ?_⟩
  · rcases ((hd t ht).mem x).mp hx with rfl | hx
    · exact ec_lt _ _ _ _
    · exact (h.1 t ht).2.1 x hx
  · have := (hd t ht).len; have := (hd 0 (by decide)).len; have := (h.1 t ht).2.2; omega
  · rw [(hd t ht).mem, (hd 0 (by decide)).mem, h.2 t a b c ht]
    refine or_congr ⟨fun e => ?_, fun e => ?_⟩ Iff.rfl
    · obtain ⟨rfl, rfl, rfl⟩ := ec_inj ht e; rfl
    · obtain ⟨rfl, rfl, rfl⟩ := ec_inj (t := 0) (by decide) e; rfl
theorem fl_ne {L : List Nat} {y : Nat} {q : Nat → Bool} (h : q y = false) : (L.filter (fun x => decide (x ≠ y))).filter q = L.filter q := by
  rw [List.filter_filter]
  refine List.filter_congr (fun x hx => ?_)
  by_cases e : x = y
  · subst e; simp [h]
  · simp [e]
/-- one that matches goes: those that don't match stay, and one less matches -/
theorem flM_del {LL LL' : Nat → List Nat} {mk : Nat} {s p o a b c : Int32} (hd : ∀ t, t < 3 → Del (ec t a b c) (LL t) (LL' t)) (hm : mT 0 mk s p o (ec 0 a b c) = true) : (∀ t, t < 3 → flM LL' mk s p o t = flM LL mk s p o t) ∧ cnM LL 0 mk s p o = cnM LL' 0 mk s p o + 1 := by
  refine ⟨fun t ht => ?_, ?_⟩
  · unfold flM
    rw [(hd t ht).eq]
    exact fl_ne (by rw [mT_rot ht, hm]; rfl)
  · unfold cnM
    obtain ⟨A, B, e1, e2, -, -⟩ := hd 0 (by decide)
    rw [e1, e2, List.filter_append, List.filter_append, List.filter_cons_of_pos (by exact hm)]
    simp; omega
