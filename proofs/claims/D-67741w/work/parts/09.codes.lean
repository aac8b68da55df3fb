/-! a triple of ints as one number; the order of the numbers is that of the triples -/
def eI (x : Int32) : Nat := (x.toInt + 2147483648).toNat
def dI (n : Nat) : Int32 := Int32.ofInt (((n % 4294967296 : Nat) : Int) - 2147483648)
def enc (a b c : Int32) : Nat := eI a * 18446744073709551616 + eI b * 4294967296 + eI c
def dc (x i : Nat) : Int32 := if i = 0 then dI (x / 18446744073709551616) else if i = 1 then dI (x / 4294967296) else dI x
theorem eI_int (x : Int32) : ((eI x : Nat) : Int) = x.toInt + 2147483648 := by
  have h := Int32.le_toInt x
  unfold eI
  omega
theorem eI_lt (x : Int32) : eI x < 4294967296 := by
  have h := Int32.toInt_lt x
  have := eI_int x
  omega
theorem dI_eI (x : Int32) : dI (eI x) = x := by
  unfold dI
  rw [Nat.mod_eq_of_lt (eI_lt x), eI_int, Int.add_sub_cancel, Int32.ofInt_toInt]
theorem eI_dI (n : Nat) : eI (dI n) = n % 4294967296 := by
  have h1 : (Int32.ofInt (((n % 4294967296 : Nat) : Int) - 2147483648)).toInt = ((n % 4294967296 : Nat) : Int) - 2147483648 := by
    rw [Int32.toInt_ofInt_of_le] <;> omega
  have h2 := eI_int (dI n)
  unfold dI at h2 ⊢
  rw [h1] at h2
  omega
theorem eI_inj {x y : Int32} (h : eI x = eI y) : x = y := by rw [← dI_eI x, h, dI_eI]
theorem eI_ltI (x y : Int32) : eI x < eI y ↔ x < y := by
  rw [Int32.lt_iff_toInt_lt]
  have := eI_int x
  have := eI_int y
  omega
theorem enc_lt (a b c : Int32) : enc a b c < TOP := by
  have := eI_lt a; have := eI_lt b; have := eI_lt c
  unfold enc TOP; omega
theorem dc_enc0 (a b c : Int32) : dc (enc a b c) 0 = a := by
  have := eI_lt a; have := eI_lt b; have := eI_lt c
  have h : enc a b c / 18446744073709551616 = eI a := by unfold enc; omega
  simp [dc, h, dI_eI]
theorem dc_enc1 (a b c : Int32) : dc (enc a b c) 1 = b := by
  have := eI_lt a; have := eI_lt b; have := eI_lt c
  have h : enc a b c / 4294967296 % 4294967296 = eI b := by unfold enc; omega
  have h2 : dI (enc a b c / 4294967296) = dI (eI b) := by unfold dI; rw [h, Nat.mod_eq_of_lt (eI_lt b)]
  simp [dc, h2, dI_eI]
theorem dc_enc2 (a b c : Int32) (i : Nat) (h0 : i ≠ 0) (h1 : i ≠ 1) : dc (enc a b c) i = c := by
  have := eI_lt a; have := eI_lt b; have := eI_lt c
  have h : enc a b c % 4294967296 = eI c := by unfold enc; omega
  have h2 : dI (enc a b c) = dI (eI c) := by unfold dI; rw [h, Nat.mod_eq_of_lt (eI_lt c)]
  simp [dc, h0, h1, h2, dI_eI]
theorem eI_dc0 {x : Nat} (h : x < TOP) : eI (dc x 0) = x / 18446744073709551616 := by
  simp only [dc, if_true]; rw [eI_dI]; unfold TOP at h; omega
theorem eI_dc1 (x : Nat) : eI (dc x 1) = x / 4294967296 % 4294967296 := by simp [dc, eI_dI]
theorem eI_dc2 (x : Nat) : eI (dc x 2) = x % 4294967296 := by simp [dc, eI_dI]
theorem enc_dc {x : Nat} (h : x < TOP) : enc (dc x 0) (dc x 1) (dc x 2) = x := by
  unfold enc
  rw [eI_dc0 h, eI_dc1, eI_dc2]; omega
/-- the order, part by part -/
theorem dc_cmp0 {x y : Nat} (hx : x < TOP) (hy : y < TOP) (hne : dc x 0 ≠ dc y 0) : x < y ↔ dc x 0 < dc y 0 := by
  rw [← eI_ltI, eI_dc0 hx, eI_dc0 hy]
  have h1 : x / 18446744073709551616 ≠ y / 18446744073709551616 := fun e => hne (eI_inj (by rw [eI_dc0 hx, eI_dc0 hy, e]))
  omega
theorem dc_cmp1 {x y : Nat} (hx : x < TOP) (hy : y < TOP) (h0 : dc x 0 = dc y 0) (hne : dc x 1 ≠ dc y 1) : x < y ↔ dc x 1 < dc y 1 := by
  rw [← eI_ltI, eI_dc1, eI_dc1]
  have e0 : x / 18446744073709551616 = y / 18446744073709551616 := by rw [← eI_dc0 hx, ← eI_dc0 hy, h0]
  have h1 : x / 4294967296 % 4294967296 ≠ y / 4294967296 % 4294967296 := fun e => hne (eI_inj (by rw [eI_dc1, eI_dc1, e]))
  omega
theorem dc_cmp2 {x y : Nat} (hx : x < TOP) (hy : y < TOP) (h0 : dc x 0 = dc y 0) (h1 : dc x 1 = dc y 1) (hne : dc x 2 ≠ dc y 2) : x < y ↔ dc x 2 < dc y 2 := by
  rw [← eI_ltI, eI_dc2, eI_dc2]
  have e0 : x / 18446744073709551616 = y / 18446744073709551616 := by rw [← eI_dc0 hx, ← eI_dc0 hy, h0]
  have e1 : x / 4294967296 % 4294967296 = y / 4294967296 % 4294967296 := by rw [← eI_dc1, ← eI_dc1, h1]
  have h1 : x % 4294967296 ≠ y % 4294967296 := fun e => hne (eI_inj (by rw [eI_dc2, eI_dc2, e]))
  omega
theorem dc_eq {x y : Nat} (hx : x < TOP) (hy : y < TOP) (h : ∀ i, i < 3 → dc x i = dc y i) : x = y := by
  rw [← enc_dc hx, ← enc_dc hy, h 0 (by decide), h 1 (by decide), h 2 (by decide)]
def cmpI (x y : Nat) : Int32 := if x < y then -1 else if x = y then 0 else 1
/-- the first part that differs decides -/
theorem dc_first {x y : Nat} (hx : x < TOP) (hy : y < TOP) {i : Nat} (hi : i < 3) (h : ∀ j, j < i → dc x j = dc y j) (hne : dc x i ≠ dc y i) : (x < y ↔ dc x i < dc y i) ∧ x ≠ y := by
  refine ⟨?_, fun e => hne (by rw [e])⟩
  rcases (show i = 0 ∨ i = 1 ∨ i = 2 by omega) with rfl | rfl | rfl
  · exact dc_cmp0 hx hy hne
  · exact dc_cmp1 hx hy (h 0 (by decide)) hne
  · exact dc_cmp2 hx hy (h 0 (by decide)) (h 1 (by decide)) hne
theorem cmpI_lt {x y : Nat} : cmpI x y < 0 ↔ x < y := by
  unfold cmpI
  split
  · next h => exact iff_of_true (by decide) h
  · next h => split
              · exact iff_of_false (by decide) h
              · exact iff_of_false (by decide) h
theorem cmpI_gt {x y : Nat} : 0 < cmpI x y ↔ y < x := by
  unfold cmpI
  split
  · next h => exact iff_of_false (by decide) (by omega)
  · next h => split
              · exact iff_of_false (by decide) (by omega)
              · exact iff_of_true (by decide) (by omega)
theorem cmpI_eq {x y : Nat} : cmpI x y = 0 ↔ x = y := by
  unfold cmpI
  split
  · next h => exact iff_of_false (by decide) (by omega)
  · next h => split
              · next h2 => exact iff_of_true rfl h2
              · next h2 => exact iff_of_false (by decide) h2
/-! a tree's cells -/
def keysF (N : Nat → Nd) : Nat → Int32 := fun j => dc (nK (N (j / 27)) (j % 27 / 3)) (j % 3)
def kidsF (N : Nat → Nd) : Nat → Int32 := fun j => nI (nC (N (j / 11)) (j % 11))
def cntF (N : Nat → Nd) : Nat → Int32 := fun j => nI (nc (N j))
def leafF (N : Nat → Nd) : Nat → Int32 := fun j => nI (nl (N j))
def nxtF (N : Nat → Nd) : Nat → Int32 := fun j => nI (nx (N j))
def sizF (N : Nat → Nd) : Nat → Int32 := fun j => nI (ns (N j))
abbrev two (kA : Nat → ClassId) (h : Nat) (a : Nat → Nat) (fr rt fl fp : Nat) : List Value := [.ref (a 0), .ref (a 1), .ref (a 2), .ref (a 3), .ref (a 4), .ref (a 5), .int (nI fr), .int (nI rt), .ref (a 6), .ref (a 7), .int (nI fl), .int (nI fp)]
def tw (kA : Nat → ClassId) (h : Nat) (a : Nat → Nat) (N : Nat → Nd) (fr rt ky up fl fp : Nat) : va_W :=
  [(h, .inr (0, [.ref (a 0), .ref (a 1), .ref (a 2), .ref (a 3), .ref (a 4), .ref (a 5), .int (nI fr), .int (nI rt), .ref (a 6), .ref (a 7), .int (nI fl), .int (nI fp)])), (a 0, .inl (kA 0, 13500, .inl (keysF N))), (a 1, .inl (kA 0, 5500, .inl (kidsF N))), (a 2, .inl (kA 0, 500, .inl (cntF N))), (a 3, .inl (kA 1, 500, .inl (leafF N))), (a 4, .inl (kA 0, 500, .inl (nxtF N))), (a 5, .inl (kA 0, 500, .inl (sizF N))), (a 6, .inl (kA 0, 3, .inl (dc ky))), (a 7, .inl (kA 0, 3, .inl (dc up)))]
theorem tw_rcv {kA : Nat → ClassId} {h : Nat} {a : Nat → Nat} {N : Nat → Nd} {fr rt ky up fl fp : Nat} : rcv (tw kA h a N fr rt ky up fl fp) h R_Tree := ⟨0, 0, _, _, rfl, rfl, rfl⟩
theorem keysF_at {N : Nat → Nd} {n k i : Nat} (hk : k < 9) (hi : i < 3) : keysF N (27 * n + 3 * k + i) = dc (nK (N n) k) i := by
  unfold keysF
  rw [show (27 * n + 3 * k + i) / 27 = n by omega, show (27 * n + 3 * k + i) % 27 / 3 = k by omega, show (27 * n + 3 * k + i) % 3 = i by omega]
theorem kidsF_at {N : Nat → Nd} {n k : Nat} (hk : k < 11) : kidsF N (11 * n + k) = nI (nC (N n) k) := by
  unfold kidsF
  rw [show (11 * n + k) / 11 = n by omega, show (11 * n + k) % 11 = k by omega]
/-- one node is another -/
def uN (N : Nat → Nd) (n : Nat) (x : Nd) : Nat → Nd := va_up N n x
theorem uN_self {N : Nat → Nd} {n : Nat} {x : Nd} : uN N n x n = x := va_up_self N n x
theorem uN_ne {N : Nat → Nd} {n m : Nat} {x : Nd} (h : m ≠ n) : uN N n x m = N m := va_up_ne N x h
theorem uN_uN {N : Nat → Nd} {n : Nat} {x y : Nd} : uN (uN N n x) n y = uN N n y := by funext j; unfold uN va_up; split <;> rfl
theorem uN_id {N : Nat → Nd} {n : Nat} : uN N n (N n) = N := by funext j; unfold uN va_up; split <;> simp_all
/-- single fields of a node -/
def sK (N : Nat → Nd) (n k v : Nat) : Nat → Nd := uN N n (nd (va_up (nK (N n)) k v) (nC (N n)) (nc (N n)) (nl (N n)) (nx (N n)) (ns (N n)))
def sC (N : Nat → Nd) (n k v : Nat) : Nat → Nd := uN N n (nd (nK (N n)) (va_up (nC (N n)) k v) (nc (N n)) (nl (N n)) (nx (N n)) (ns (N n)))
def sc (N : Nat → Nd) (n v : Nat) : Nat → Nd := uN N n (nd (nK (N n)) (nC (N n)) v (nl (N n)) (nx (N n)) (ns (N n)))
def sl (N : Nat → Nd) (n v : Nat) : Nat → Nd := uN N n (nd (nK (N n)) (nC (N n)) (nc (N n)) v (nx (N n)) (ns (N n)))
def sx (N : Nat → Nd) (n v : Nat) : Nat → Nd := uN N n (nd (nK (N n)) (nC (N n)) (nc (N n)) (nl (N n)) v (ns (N n)))
def ss (N : Nat → Nd) (n v : Nat) : Nat → Nd := uN N n (nd (nK (N n)) (nC (N n)) (nc (N n)) (nl (N n)) (nx (N n)) v)
theorem kidsF_sK {N : Nat → Nd} {n k v : Nat} : kidsF (sK N n k v) = kidsF N := by
  funext j; unfold kidsF sK uN va_up; split <;> simp_all [nd, nK, nC, nc, nl, nx, ns]
theorem cntF_sK {N : Nat → Nd} {n k v : Nat} : cntF (sK N n k v) = cntF N := by
  funext j; unfold cntF sK uN va_up; split <;> simp_all [nd, nK, nC, nc, nl, nx, ns]
theorem leafF_sK {N : Nat → Nd} {n k v : Nat} : leafF (sK N n k v) = leafF N := by
  funext j; unfold leafF sK uN va_up; split <;> simp_all [nd, nK, nC, nc, nl, nx, ns]
theorem nxtF_sK {N : Nat → Nd} {n k v : Nat} : nxtF (sK N n k v) = nxtF N := by
  funext j; unfold nxtF sK uN va_up; split <;> simp_all [nd, nK, nC, nc, nl, nx, ns]
theorem sizF_sK {N : Nat → Nd} {n k v : Nat} : sizF (sK N n k v) = sizF N := by
  funext j; unfold sizF sK uN va_up; split <;> simp_all [nd, nK, nC, nc, nl, nx, ns]
theorem keysF_sC {N : Nat → Nd} {n k v : Nat} : keysF (sC N n k v) = keysF N := by
  funext j; unfold keysF sC uN va_up; split <;> simp_all [nd, nK, nC, nc, nl, nx, ns]
theorem cntF_sC {N : Nat → Nd} {n k v : Nat} : cntF (sC N n k v) = cntF N := by
  funext j; unfold cntF sC uN va_up; split <;> simp_all [nd, nK, nC, nc, nl, nx, ns]
theorem leafF_sC {N : Nat → Nd} {n k v : Nat} : leafF (sC N n k v) = leafF N := by
  funext j; unfold leafF sC uN va_up; split <;> simp_all [nd, nK, nC, nc, nl, nx, ns]
theorem nxtF_sC {N : Nat → Nd} {n k v : Nat} : nxtF (sC N n k v) = nxtF N := by
  funext j; unfold nxtF sC uN va_up; split <;> simp_all [nd, nK, nC, nc, nl, nx, ns]
theorem sizF_sC {N : Nat → Nd} {n k v : Nat} : sizF (sC N n k v) = sizF N := by
  funext j; unfold sizF sC uN va_up; split <;> simp_all [nd, nK, nC, nc, nl, nx, ns]
theorem keysF_sc {N : Nat → Nd} {n v : Nat} : keysF (sc N n v) = keysF N := by
  funext j; unfold keysF sc uN va_up; split <;> simp_all [nd, nK, nC, nc, nl, nx, ns]
theorem kidsF_sc {N : Nat → Nd} {n v : Nat} : kidsF (sc N n v) = kidsF N := by
  funext j; unfold kidsF sc uN va_up; split <;> simp_all [nd, nK, nC, nc, nl, nx, ns]
theorem leafF_sc {N : Nat → Nd} {n v : Nat} : leafF (sc N n v) = leafF N := by
  funext j; unfold leafF sc uN va_up; split <;> simp_all [nd, nK, nC, nc, nl, nx, ns]
theorem nxtF_sc {N : Nat → Nd} {n v : Nat} : nxtF (sc N n v) = nxtF N := by
  funext j; unfold nxtF sc uN va_up; split <;> simp_all [nd, nK, nC, nc, nl, nx, ns]
theorem sizF_sc {N : Nat → Nd} {n v : Nat} : sizF (sc N n v) = sizF N := by
  funext j; unfold sizF sc uN va_up; split <;> simp_all [nd, nK, nC, nc, nl, nx, ns]
theorem keysF_sl {N : Nat → Nd} {n v : Nat} : keysF (sl N n v) = keysF N := by
  funext j; unfold keysF sl uN va_up; split <;> simp_all [nd, nK, nC, nc, nl, nx, ns]
theorem kidsF_sl {N : Nat → Nd} {n v : Nat} : kidsF (sl N n v) = kidsF N := by
  funext j; unfold kidsF sl uN va_up; split <;> simp_all [nd, nK, nC, nc, nl, nx, ns]
theorem cntF_sl {N : Nat → Nd} {n v : Nat} : cntF (sl N n v) = cntF N := by
  funext j; unfold cntF sl uN va_up; split <;> simp_all [nd, nK, nC, nc, nl, nx, ns]
theorem nxtF_sl {N : Nat → Nd} {n v : Nat} : nxtF (sl N n v) = nxtF N := by
  funext j; unfold nxtF sl uN va_up; split <;> simp_all [nd, nK, nC, nc, nl, nx, ns]
theorem sizF_sl {N : Nat → Nd} {n v : Nat} : sizF (sl N n v) = sizF N := by
  funext j; unfold sizF sl uN va_up; split <;> simp_all [nd, nK, nC, nc, nl, nx, ns]
theorem keysF_sx {N : Nat → Nd} {n v : Nat} : keysF (sx N n v) = keysF N := by
  funext j; unfold keysF sx uN va_up; split <;> simp_all [nd, nK, nC, nc, nl, nx, ns]
theorem kidsF_sx {N : Nat → Nd} {n v : Nat} : kidsF (sx N n v) = kidsF N := by
  funext j; unfold kidsF sx uN va_up; split <;> simp_all [nd, nK, nC, nc, nl, nx, ns]
theorem cntF_sx {N : Nat → Nd} {n v : Nat} : cntF (sx N n v) = cntF N := by
  funext j; unfold cntF sx uN va_up; split <;> simp_all [nd, nK, nC, nc, nl, nx, ns]
theorem leafF_sx {N : Nat → Nd} {n v : Nat} : leafF (sx N n v) = leafF N := by
  funext j; unfold leafF sx uN va_up; split <;> simp_all [nd, nK, nC, nc, nl, nx, ns]
theorem sizF_sx {N : Nat → Nd} {n v : Nat} : sizF (sx N n v) = sizF N := by
  funext j; unfold sizF sx uN va_up; split <;> simp_all [nd, nK, nC, nc, nl, nx, ns]
theorem keysF_ss {N : Nat → Nd} {n v : Nat} : keysF (ss N n v) = keysF N := by
  funext j; unfold keysF ss uN va_up; split <;> simp_all [nd, nK, nC, nc, nl, nx, ns]
theorem kidsF_ss {N : Nat → Nd} {n v : Nat} : kidsF (ss N n v) = kidsF N := by
  funext j; unfold kidsF ss uN va_up; split <;> simp_all [nd, nK, nC, nc, nl, nx, ns]
theorem cntF_ss {N : Nat → Nd} {n v : Nat} : cntF (ss N n v) = cntF N := by
  funext j; unfold cntF ss uN va_up; split <;> simp_all [nd, nK, nC, nc, nl, nx, ns]
theorem leafF_ss {N : Nat → Nd} {n v : Nat} : leafF (ss N n v) = leafF N := by
  funext j; unfold leafF ss uN va_up; split <;> simp_all [nd, nK, nC, nc, nl, nx, ns]
theorem nxtF_ss {N : Nat → Nd} {n v : Nat} : nxtF (ss N n v) = nxtF N := by
  funext j; unfold nxtF ss uN va_up; split <;> simp_all [nd, nK, nC, nc, nl, nx, ns]
theorem cntF_sc {N : Nat → Nd} {n v : Nat} (j : Nat) : cntF (sc N n v) j = if j = n then nI v else cntF N j := by
  unfold cntF sc uN va_up; split <;> simp_all [nd, nK, nC, nc, nl, nx, ns]
theorem leafF_sl {N : Nat → Nd} {n v : Nat} (j : Nat) : leafF (sl N n v) j = if j = n then nI v else leafF N j := by
  unfold leafF sl uN va_up; split <;> simp_all [nd, nK, nC, nc, nl, nx, ns]
theorem nxtF_sx {N : Nat → Nd} {n v : Nat} (j : Nat) : nxtF (sx N n v) j = if j = n then nI v else nxtF N j := by
  unfold nxtF sx uN va_up; split <;> simp_all [nd, nK, nC, nc, nl, nx, ns]
theorem sizF_ss {N : Nat → Nd} {n v : Nat} (j : Nat) : sizF (ss N n v) j = if j = n then nI v else sizF N j := by
  unfold sizF ss uN va_up; split <;> simp_all [nd, nK, nC, nc, nl, nx, ns]
theorem kidsF_sC {N : Nat → Nd} {n k v : Nat} (hk : k < 11) (j : Nat) : kidsF (sC N n k v) j = if j = 11 * n + k then nI v else kidsF N j := by
  unfold kidsF sC uN
  by_cases h : j / 11 = n
  · subst h
    rw [va_up_self, nC_nd]
    by_cases h2 : j % 11 = k
    · subst h2
      rw [va_up_self, if_pos (by omega)]
    · rw [va_up_ne _ _ h2, if_neg (by omega)]
  · rw [va_up_ne _ _ h, if_neg (by omega)]
theorem keysF_sK {N : Nat → Nd} {n k v : Nat} (hk : k < 9) (j : Nat) : keysF (sK N n k v) j = if 27 * n + 3 * k ≤ j ∧ j < 27 * n + 3 * k + 3 then dc v (j - (27 * n + 3 * k)) else keysF N j := by
  unfold keysF sK uN
  by_cases h : j / 27 = n
  · subst h
    rw [va_up_self, nK_nd]
    by_cases h2 : j % 27 / 3 = k
    · subst h2
      rw [va_up_self, if_pos (by omega)]
      congr 1; omega
    · rw [va_up_ne _ _ h2, if_neg (by omega)]
  · rw [va_up_ne _ _ h, if_neg (by omega)]
