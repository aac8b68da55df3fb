/-! the picture of the model: rows of codes, cursors -/
def lg (L : List Nat) (k : Nat) : Nat := L.getD k 0
/-- a triple's code in the order t -/
def ec (t : Nat) (s p o : Int32) : Nat := if t = 0 then enc s p o else if t = 1 then enc p o s else enc o s p
/-- where the part i stands in the order t -/
def po (t i : Nat) : Nat := (i + 3 - t) % 3
def rowOK (R : Nat → Int32) (t : Nat) (L : List Nat) : Prop := ∀ k, k < L.length → ∀ i, i < 3 → R (2101 * t + 3 * k + i) = dc (lg L k) (po t i)
theorem ec_lt (t : Nat) (s p o : Int32) : ec t s p o < TOP := by
  unfold ec
  split
  · exact enc_lt _ _ _
  · split <;> exact enc_lt _ _ _
/-- which of s, p, o is the part number part -/
def sel (part : Nat) (s p o : Int32) : Int32 := if part = 0 then s else if part = 1 then p else o
theorem ec_dc {t i : Nat} (ht : t < 3) (hi : i < 3) (s p o : Int32) : dc (ec t s p o) i = sel ((t + i) % 3) s p o := by
  rcases (show t = 0 ∨ t = 1 ∨ t = 2 by omega) with rfl | rfl | rfl <;> rcases (show i = 0 ∨ i = 1 ∨ i = 2 by omega) with rfl | rfl | rfl <;> simp [ec, sel, dc_enc0, dc_enc1, dc_enc2]
theorem po_of {t i : Nat} (ht : t < 3) (hi : i < 3) : po t ((t + i) % 3) = i := by unfold po; omega
theorem po_lt {t i : Nat} : po t i < 3 := Nat.mod_lt _ (by decide)
theorem lg_mem {L : List Nat} {k : Nat} (h : k < L.length) : lg L k ∈ L := by
  unfold lg
  rw [List.getD_eq_getElem?_getD, List.getElem?_eq_getElem h]
  exact List.getElem_mem h
theorem lg_get {L : List Nat} {k : Nat} (h : k < L.length) : L[k]? = some (lg L k) := by
  unfold lg
  rw [List.getD_eq_getElem?_getD, List.getElem?_eq_getElem h]; rfl
theorem mem_lg {L : List Nat} {x : Nat} (h : x ∈ L) : ∃ k, k < L.length ∧ lg L k = x := by
  obtain ⟨k, hk, e⟩ := List.getElem_of_mem h
  refine ⟨k, hk, ?_⟩
  have := lg_get hk
  rw [List.getElem?_eq_getElem hk] at this
  exact (Option.some.inj this).symm.trans e
theorem lg_srt {L : List Nat} (h : Srt L) {i j : Nat} (hij : i < j) (hj : j < L.length) : lg L i < lg L j := by
  have := List.pairwise_iff_getElem.mp h i j (by omega) hj hij
  have e1 := lg_get (show i < L.length by omega)
  have e2 := lg_get hj
  rw [List.getElem?_eq_getElem (by omega)] at e1
  rw [List.getElem?_eq_getElem hj] at e2
  rw [← Option.some.inj e1, ← Option.some.inj e2]; exact this
abbrev mwf (kA : Nat → ClassId) (a : Nat → Nat) (sz ch me : Nat) : List Value := [.ref (a 0), .int (nI sz), .int (nI ch), .ref (a 1), .ref (a 2), .ref (a 3), .ref (a 4), .ref (a 5), .ref (a 6), .ref (a 7), .int (nI me)]
/-- the model's cells: rows R, size, changes, open, stale (0, 1), masks, patterns, places + 1, met, steps, meets -/
def mw (kA : Nat → ClassId) (h : Nat) (a : Nat → Nat) (R : Nat → Int32) (sz ch : Nat) (op sl mk : Nat → Nat) (pt : Nat → Int32) (pp : Nat → Nat) (mt : Nat → Int32) (sp : Nat → Nat) (me : Nat) : va_W :=
  [(h, .inr (3, [.ref (a 0), .int (nI sz), .int (nI ch), .ref (a 1), .ref (a 2), .ref (a 3), .ref (a 4), .ref (a 5), .ref (a 6), .ref (a 7), .int (nI me)])), (a 0, .inl (kA 0, 6303, .inl R)), (a 1, .inl (kA 1, 8, .inl (fun j => nI (op j)))), (a 2, .inl (kA 1, 8, .inl (fun j => nI (sl j)))), (a 3, .inl (kA 0, 8, .inl (fun j => nI (mk j)))), (a 4, .inl (kA 0, 24, .inl pt)), (a 5, .inl (kA 0, 8, .inl (fun j => nI (pp j) - nI 1))), (a 6, .inl (kA 0, 1402, .inl mt)), (a 7, .inl (kA 0, 1402, .inl (fun j => nI (sp j))))]
theorem mw_rcv {kA : Nat → ClassId} {h : Nat} {a : Nat → Nat} {R : Nat → Int32} {sz ch : Nat} {op sl mk : Nat → Nat} {pt : Nat → Int32} {pp : Nat → Nat} {mt : Nat → Int32} {sp : Nat → Nat} {me : Nat} : rcv (mw kA h a R sz ch op sl mk pt pp mt sp me) h R_Mod := ⟨0, 3, _, _, rfl, rfl, rfl⟩
/-- places of keys below ky in a sorted list -/
def blw (L : List Nat) (ky : Nat) : Nat := (L.filter (fun x => decide (x < ky))).length
theorem blw_app {L P S : List Nat} {ky : Nat} (hL : L = P ++ S) (hP : ∀ x ∈ P, x < ky) (hS : ∀ x ∈ S, ky ≤ x) : blw L ky = P.length := by
  unfold blw
  rw [hL, List.filter_append, filt_all P (fun x hx => by simpa using hP x hx), filt_none S (fun x hx => by simpa using hS x hx), List.append_nil]
theorem blw_at {L : List Nat} {ky j : Nat} (hs : Srt L) (hj : j ≤ L.length) (h1 : ∀ i, i < j → lg L i < ky) (h2 : j < L.length → ky ≤ lg L j) : blw L ky = j ∧ (∀ x ∈ L.take j, x < ky) ∧ ∀ x ∈ L.drop j, ky ≤ x := by
  have a1 : ∀ x ∈ L.take j, x < ky := fun x hx => by
    obtain ⟨i, hi, e⟩ := List.getElem_of_mem hx
    rw [List.length_take] at hi
    rw [List.getElem_take] at e
    have := h1 i (by omega)
    have e1 := lg_get (show i < L.length by omega)
    rw [List.getElem?_eq_getElem (by omega)] at e1
    rw [← e, Option.some.inj e1]; exact this
  have a2 : ∀ x ∈ L.drop j, ky ≤ x := fun x hx => by
    obtain ⟨i, hi, e⟩ := List.getElem_of_mem hx
    rw [List.length_drop] at hi
    rw [List.getElem_drop] at e
    have e1 := lg_get (show j + i < L.length by omega)
    rw [List.getElem?_eq_getElem (by omega)] at e1
    rw [← e, Option.some.inj e1]
    by_cases hz : i = 0
    · subst hz; exact h2 (by omega)
    · have := lg_srt hs (show j < j + i by omega) (by omega)
      have := h2 (by omega)
      omega
  refine ⟨?_, a1, a2⟩
  rw [blw_app (List.take_append_drop j L).symm a1 a2, List.length_take]
  omega
theorem mem_at {L : List Nat} {ky j : Nat} (hs : Srt L) (hj : j ≤ L.length) (h1 : ∀ i, i < j → lg L i < ky) (h2 : j < L.length → ky ≤ lg L j) : ky ∈ L ↔ j < L.length ∧ lg L j = ky := by
  constructor
  · intro h
    obtain ⟨k, hk, e⟩ := mem_lg h
    have hjk : j ≤ k := Nat.le_of_not_lt fun z => by have := h1 k z; omega
    refine ⟨by omega, ?_⟩
    have := h2 (by omega)
    by_cases hz : j = k
    · rw [hz]; exact e
    · have := lg_srt hs (show j < k by omega) hk; omega
  · rintro ⟨h3, h4⟩
    rw [← h4]; exact lg_mem h3
