/-! THE SYSTEM: states -/
theorem xl_bits {ν : XN} {n : Nat} {Q : Int32 → XN → Prop} (hn : n < 32) (hQ : Q (nI (popc n)) ν) : xw_J16_bitCount (nI n) ν Q := by
  unfold xw_J16_bitCount
  have key : ∀ m : Fin 32, ∀ f : Int32 → Prop, f (nI (popc m.val)) → f (nI (popc m.val)) := fun _ _ h => h
  have : n = 0 ∨ n = 1 ∨ n = 2 ∨ n = 3 ∨ n = 4 ∨ n = 5 ∨ n = 6 ∨ n = 7 ∨ n = 8 ∨ n = 9 ∨ n = 10 ∨ n = 11 ∨ n = 12 ∨ n = 13 ∨ n = 14 ∨ n = 15 ∨ n = 16 ∨ n = 17 ∨ n = 18 ∨ n = 19 ∨ n = 20 ∨ n = 21 ∨ n = 22 ∨ n = 23 ∨ n = 24 ∨ n = 25 ∨ n = 26 ∨ n = 27 ∨ n = 28 ∨ n = 29 ∨ n = 30 ∨ n = 31 := by omega
  rcases this with rfl | rfl | rfl | rfl | rfl | rfl | rfl | rfl | rfl | rfl | rfl | rfl | rfl | rfl | rfl | rfl | rfl | rfl | rfl | rfl | rfl | rfl | rfl | rfl | rfl | rfl | rfl | rfl | rfl | rfl | rfl | rfl <;> exact hQ
def hK (o : Nat) : Nat := 100 * o + 9000
def aK (o : Nat) : Nat := 100 * o + 9001
def tK' (o : Nat) : Nat := 100 * o + 9002
def kK (o : Nat) : Nat := 100 * o + 9003
def rK (o : Nat) : Nat := 100 * o + 9004
theorem xat_st {o j : Nat} (h1 : 10 ≤ o) (h2 : o < 36) (hj : j < 50) : xat (100 * o + 9000 + j) = if j = 0 then (1, 64) else if j < 4 then (1, 7) else if j = 4 then (7, 40) else if 10 ≤ j then (1, 4) else (0, 0) := by
  have hm : (100 * o + 9000 + j) % 100 = j := by omega
  unfold xat
  rw [if_neg (by omega), if_neg (by omega), if_neg (by omega), if_neg (by omega), if_pos (by omega), hm]
  by_cases z0 : j = 0
  · rw [if_pos z0, if_pos z0]
  · rw [if_neg z0, if_neg z0]
    by_cases z1 : j < 4
    · rw [if_pos z1, if_pos z1]
    · rw [if_neg z1, if_neg z1]
      by_cases z2 : j = 4
      · rw [if_pos z2, if_pos z2]
      · rw [if_neg z2, if_neg z2]
        by_cases z3 : 10 ≤ j
        · rw [if_pos ⟨z3, hj⟩, if_pos z3]
        · rw [if_neg (fun q => z3 q.1), if_neg z3]
theorem xk_h {o : Nat} (h1 : 10 ≤ o) (h2 : o < 36) : xft o 3 = hK o ∧ xok 1 (hK o) ∧ xlen (hK o) = 64 := by
  refine ⟨by rw [xft_st h1 (by decide)]; unfold hK; omega, ?_, ?_⟩
  · show (xat (hK o)).1 = 1
    unfold hK; rw [show 100 * o + 9000 = 100 * o + 9000 + 0 from rfl, xat_st h1 h2 (by decide)]; rfl
  · show (xat (hK o)).2 = 64
    unfold hK; rw [show 100 * o + 9000 = 100 * o + 9000 + 0 from rfl, xat_st h1 h2 (by decide)]; rfl
theorem xk_a {o : Nat} (h1 : 10 ≤ o) (h2 : o < 36) : xft o 4 = aK o ∧ xok 1 (aK o) ∧ xlen (aK o) = 7 := by
  refine ⟨by rw [xft_st h1 (by decide)]; unfold aK; omega, ?_, ?_⟩
  · show (xat (aK o)).1 = 1
    unfold aK; rw [show 100 * o + 9001 = 100 * o + 9000 + 1 from rfl, xat_st h1 h2 (by decide)]; rfl
  · show (xat (aK o)).2 = 7
    unfold aK; rw [show 100 * o + 9001 = 100 * o + 9000 + 1 from rfl, xat_st h1 h2 (by decide)]; rfl
theorem xk_t {o : Nat} (h1 : 10 ≤ o) (h2 : o < 36) : xft o 5 = tK' o ∧ xok 1 (tK' o) ∧ xlen (tK' o) = 7 := by
  refine ⟨by rw [xft_st h1 (by decide)]; unfold tK'; omega, ?_, ?_⟩
  · show (xat (tK' o)).1 = 1
    unfold tK'; rw [show 100 * o + 9002 = 100 * o + 9000 + 2 from rfl, xat_st h1 h2 (by decide)]; rfl
  · show (xat (tK' o)).2 = 7
    unfold tK'; rw [show 100 * o + 9002 = 100 * o + 9000 + 2 from rfl, xat_st h1 h2 (by decide)]; rfl
theorem xk_k {o : Nat} (h1 : 10 ≤ o) (h2 : o < 36) : xft o 6 = kK o ∧ xok 1 (kK o) ∧ xlen (kK o) = 7 := by
  refine ⟨by rw [xft_st h1 (by decide)]; unfold kK; omega, ?_, ?_⟩
  · show (xat (kK o)).1 = 1
    unfold kK; rw [show 100 * o + 9003 = 100 * o + 9000 + 3 from rfl, xat_st h1 h2 (by decide)]; rfl
  · show (xat (kK o)).2 = 7
    unfold kK; rw [show 100 * o + 9003 = 100 * o + 9000 + 3 from rfl, xat_st h1 h2 (by decide)]; rfl
theorem xk_r {o : Nat} (h1 : 10 ≤ o) (h2 : o < 36) : xft o 7 = rK o ∧ xok 7 (rK o) ∧ xlen (rK o) = 40 := by
  refine ⟨by rw [xft_st h1 (by decide)]; unfold rK; omega, ?_, ?_⟩
  · show (xat (rK o)).1 = 7
    unfold rK; rw [show 100 * o + 9004 = 100 * o + 9000 + 4 from rfl, xat_st h1 h2 (by decide)]; rfl
  · show (xat (rK o)).2 = 40
    unfold rK; rw [show 100 * o + 9004 = 100 * o + 9000 + 4 from rfl, xat_st h1 h2 (by decide)]; rfl
/-- the rows' keys of a state are apart -/
def xRk (σ : FS) (o : Nat) : Prop := (∀ i, i < 40 → ∃ j, 10 ≤ j ∧ j < 50 ∧ fP σ (rK o) i = 100 * o + 9000 + j) ∧ ∀ i i', i < 40 → i' < 40 → fP σ (rK o) i = fP σ (rK o) i' → i = i'
/-- a state as it stands in an object -/
def xSt (σ : FS) (o : Nat) (P : Pl) (s : St) : Prop := stOK P s ∧ fI σ o 0 = nI (zD s) ∧ fI σ o 1 = nI (zE s).length ∧ (∀ c, isC P c → fA σ (hK o) c = nI (zH s c)) ∧ (∀ p, p < nP P → fA σ (aK o) p = nI (zA s p) ∧ fA σ (tK' o) p = nI (zT s p) ∧ fA σ (kK o) p = nI (zK s p)) ∧ xRk σ o ∧ ∀ (k : Nat) r, (zE s)[k]? = some r → fA σ (fP σ (rK o) k) 0 = nI r.1 ∧ fA σ (fP σ (rK o) k) 1 = nI r.2.1 ∧ fA σ (fP σ (rK o) k) 2 = nI r.2.2.1 ∧ fA σ (fP σ (rK o) k) 3 = nI r.2.2.2
