/-! LAYER 2: numbers -/
def M1 : Int32 := -1
theorem neg_nI1 : -nI 1 = M1 := by decide
theorem i_0 : (0 : Int32) = nI 0 := rfl
theorem i_1 : (1 : Int32) = nI 1 := rfl
theorem i_2 : (2 : Int32) = nI 2 := rfl
theorem i_3 : (3 : Int32) = nI 3 := rfl
theorem i_4 : (4 : Int32) = nI 4 := rfl
theorem i_5 : (5 : Int32) = nI 5 := rfl
theorem i_6 : (6 : Int32) = nI 6 := rfl
theorem i_7 : (7 : Int32) = nI 7 := rfl
theorem i_8 : (8 : Int32) = nI 8 := rfl
theorem i_9 : (9 : Int32) = nI 9 := rfl
theorem i_10 : (10 : Int32) = nI 10 := rfl
theorem i_11 : (11 : Int32) = nI 11 := rfl
theorem i_12 : (12 : Int32) = nI 12 := rfl
theorem i_13 : (13 : Int32) = nI 13 := rfl
theorem i_16 : (16 : Int32) = nI 16 := rfl
theorem i_19 : (19 : Int32) = nI 19 := rfl
theorem i_20 : (20 : Int32) = nI 20 := rfl
theorem i_21 : (21 : Int32) = nI 21 := rfl
theorem i_22 : (22 : Int32) = nI 22 := rfl
theorem i_23 : (23 : Int32) = nI 23 := rfl
theorem i_24 : (24 : Int32) = nI 24 := rfl
theorem i_25 : (25 : Int32) = nI 25 := rfl
theorem i_30 : (30 : Int32) = nI 30 := rfl
theorem i_31 : (31 : Int32) = nI 31 := rfl
theorem i_32 : (32 : Int32) = nI 32 := rfl
theorem i_39 : (39 : Int32) = nI 39 := rfl
theorem i_40 : (40 : Int32) = nI 40 := rfl
theorem i_41 : (41 : Int32) = nI 41 := rfl
theorem i_42 : (42 : Int32) = nI 42 := rfl
theorem i_43 : (43 : Int32) = nI 43 := rfl
theorem i_44 : (44 : Int32) = nI 44 := rfl
theorem i_45 : (45 : Int32) = nI 45 := rfl
theorem i_47 : (47 : Int32) = nI 47 := rfl
theorem i_48 : (48 : Int32) = nI 48 := rfl
theorem i_49 : (49 : Int32) = nI 49 := rfl
theorem i_50 : (50 : Int32) = nI 50 := rfl
theorem i_51 : (51 : Int32) = nI 51 := rfl
theorem i_52 : (52 : Int32) = nI 52 := rfl
theorem i_57 : (57 : Int32) = nI 57 := rfl
theorem i_59 : (59 : Int32) = nI 59 := rfl
theorem i_60 : (60 : Int32) = nI 60 := rfl
theorem i_61 : (61 : Int32) = nI 61 := rfl
theorem i_62 : (62 : Int32) = nI 62 := rfl
theorem i_63 : (63 : Int32) = nI 63 := rfl
theorem i_64 : (64 : Int32) = nI 64 := rfl
theorem i_71 : (71 : Int32) = nI 71 := rfl
theorem i_72 : (72 : Int32) = nI 72 := rfl
theorem i_80 : (80 : Int32) = nI 80 := rfl
theorem i_91 : (91 : Int32) = nI 91 := rfl
theorem i_93 : (93 : Int32) = nI 93 := rfl
theorem i_97 : (97 : Int32) = nI 97 := rfl
theorem i_99 : (99 : Int32) = nI 99 := rfl
theorem i_100 : (100 : Int32) = nI 100 := rfl
theorem i_122 : (122 : Int32) = nI 122 := rfl
theorem i_227 : (227 : Int32) = nI 227 := rfl
theorem i_228 : (228 : Int32) = nI 228 := rfl
theorem i_232 : (232 : Int32) = nI 232 := rfl
theorem i_251 : (251 : Int32) = nI 251 := rfl
theorem i_255 : (255 : Int32) = nI 255 := rfl
theorem i_256 : (256 : Int32) = nI 256 := rfl
theorem i_463 : (463 : Int32) = nI 463 := rfl
theorem i_999 : (999 : Int32) = nI 999 := rfl
theorem i_1000 : (1000 : Int32) = nI 1000 := rfl
theorem i_1519 : (1519 : Int32) = nI 1519 := rfl
theorem i_1600 : (1600 : Int32) = nI 1600 := rfl
theorem i_9999 : (9999 : Int32) = nI 9999 := rfl
theorem i_100000000 : (100000000 : Int32) = nI 100000000 := rfl
theorem i_2147483639 : (2147483639 : Int32) = nI 2147483639 := rfl
theorem i_2147483647 : (2147483647 : Int32) = nI 2147483647 := rfl
def lI (z : Int) : Int64 := Int64.ofInt z
theorem l_0 : (0 : Int64) = lI 0 := rfl
theorem l_1 : (1 : Int64) = lI 1 := rfl
theorem l_9 : (9 : Int64) = lI 9 := rfl
theorem l_27 : (27 : Int64) = lI 27 := rfl
theorem l_64 : (64 : Int64) = lI 64 := rfl
theorem l_12345 : (12345 : Int64) = lI 12345 := rfl
theorem l_1000000 : (1000000 : Int64) = lI 1000000 := rfl
theorem l_1103515245 : (1103515245 : Int64) = lI 1103515245 := rfl
theorem l_2147483648 : (2147483648 : Int64) = lI 2147483648 := rfl
theorem l_1000000000000000 : (1000000000000000 : Int64) = lI 1000000000000000 := rfl
theorem nI_remL (a b : Nat) : nI a - nI (a / b * b) = nI (a % b) := by
  rw [pk_sub (Nat.div_mul_le_self a b)]
  congr 1
  have h := Nat.div_add_mod a b
  rw [Nat.mul_comm] at h
  omega
theorem n_rem (a b : Nat) : a - a / b * b = a % b := by
  have h := Nat.div_add_mod a b
  rw [Nat.mul_comm] at h
  omega
theorem vpT {k N : Nat} (h : k < N) (hN : N < 2 ^ 31) : vp_in (nI k) N = True := eq_true (vp_in_nI h hN)
theorem M1_toInt : M1.toInt = -1 := by decide
theorem nI_m1 {n : Nat} (h : n < 2 ^ 31) : (nI n = M1) = False := eq_false (fun e => by
  have := congrArg Int32.toInt e
  rw [nI_toInt h, M1_toInt] at this; omega)
theorem m1_nI {n : Nat} (h : n < 2 ^ 31) : (M1 = nI n) = False := eq_false (fun e => by
  have := congrArg Int32.toInt e
  rw [nI_toInt h, M1_toInt] at this; omega)
theorem nI_lem1 {n : Nat} (h : n < 2 ^ 31) : (nI n ≤ M1) = False := eq_false (fun e => by
  rw [Int32.le_iff_toInt_le, nI_toInt h, M1_toInt] at e; omega)
theorem m1_le {n : Nat} (h : n < 2 ^ 31) : (M1 ≤ nI n) = True := eq_true (by
  rw [Int32.le_iff_toInt_le, nI_toInt h, M1_toInt]; omega)
theorem m1_lt {n : Nat} (h : n < 2 ^ 31) : (M1 < nI n) = True := eq_true (by
  rw [Int32.lt_iff_toInt_lt, nI_toInt h, M1_toInt]; omega)
theorem nI_ltm1 {n : Nat} (h : n < 2 ^ 31) : (nI n < M1) = False := eq_false (fun e => by
  rw [Int32.lt_iff_toInt_lt, nI_toInt h, M1_toInt] at e; omega)
theorem smod32 : ∀ t, t < 32 → ((nI t).toBitVec.smod 32).toNat = t := by decide
theorem and31 {t : Nat} (ht : t < 32) : nI t &&& nI 31 = nI t := by
  rw [pk_andN (by omega) 5 (by decide), Nat.mod_eq_of_lt (by omega)]
theorem nI_bit {a t : Nat} (ha : a < 2 ^ 31) (ht : t < 32) : (nI a >>> (nI t &&& nI 31)) &&& nI 1 = nI (a / 2 ^ t % 2) := by
  rw [and31 ht, pk_shrN ha (nI t) t (smod32 t ht), pk_andN (Nat.lt_of_le_of_lt (Nat.div_le_self _ _) (by omega)) 1 (by decide)]
theorem nI_shl {t : Nat} (ht : t < 32) : nI 1 <<< (nI t &&& nI 31) = nI (2 ^ t) := by
  rw [and31 ht, pk_shlN (nI t) t (smod32 t ht) (by rw [Nat.one_mul]; exact Nat.pow_lt_pow_right (by decide) ht), Nat.one_mul]
theorem nI_bv (a : Nat) : (nI a).toBitVec = BitVec.ofNat 32 a := rfl
theorem nI_xor (a b : Nat) : nI a ^^^ nI b = nI (a ^^^ b) := Int32.toBitVec.inj (by rw [Int32.toBitVec_xor, nI_bv, nI_bv, nI_bv, BitVec.ofNat_xor])
theorem nI_or (a b : Nat) : nI a ||| nI b = nI (a ||| b) := Int32.toBitVec.inj (by rw [Int32.toBitVec_or, nI_bv, nI_bv, nI_bv, BitVec.ofNat_or])
theorem nI_and (a b : Nat) : nI a &&& nI b = nI (a &&& b) := Int32.toBitVec.inj (by rw [Int32.toBitVec_and, nI_bv, nI_bv, nI_bv, BitVec.ofNat_and])
theorem lI_neg (a : Int) : -lI a = lI (-a) := (Int64.ofInt_neg a).symm
theorem lI_add (a b : Int) : lI a + lI b = lI (a + b) := (Int64.ofInt_add a b).symm
theorem lI_sub (a b : Int) : lI a - lI b = lI (a - b) := (Int64.ofInt_sub a b).symm
theorem lI_mul (a b : Int) : lI a * lI b = lI (a * b) := (Int64.ofInt_mul a b).symm
theorem lI_toInt {a : Int} (h1 : -2 ^ 63 ≤ a) (h2 : a < 2 ^ 63) : (lI a).toInt = a := Int64.toInt_ofInt_of_le h1 h2
theorem lI_le {a b : Int} (h1 : -2 ^ 63 ≤ a) (h2 : a < 2 ^ 63) (h3 : -2 ^ 63 ≤ b) (h4 : b < 2 ^ 63) : (lI a ≤ lI b) = (a ≤ b) := by
  rw [Int64.le_iff_toInt_le, lI_toInt h1 h2, lI_toInt h3 h4]
theorem lI_lt {a b : Int} (h1 : -2 ^ 63 ≤ a) (h2 : a < 2 ^ 63) (h3 : -2 ^ 63 ≤ b) (h4 : b < 2 ^ 63) : (lI a < lI b) = (a < b) := by
  rw [Int64.lt_iff_toInt_lt, lI_toInt h1 h2, lI_toInt h3 h4]
theorem lI_eq {a b : Int} (h1 : -2 ^ 63 ≤ a) (h2 : a < 2 ^ 63) (h3 : -2 ^ 63 ≤ b) (h4 : b < 2 ^ 63) : (lI a = lI b) = (a = b) := by
  rw [← Int64.toInt_inj, lI_toInt h1 h2, lI_toInt h3 h4]
theorem lgc_cases (x y : Int64) : (y < x ∧ lg_cmp x y = 1) ∨ (x = y ∧ lg_cmp x y = 0) ∨ (x < y ∧ lg_cmp x y = -1) := by
  by_cases h : y < x
  · exact Or.inl ⟨h, by simp [lg_cmp, h]⟩
  · by_cases h2 : x = y
    · exact Or.inr (Or.inl ⟨h2, by subst h2; simp [lg_cmp, h]⟩)
    · refine Or.inr (Or.inr ⟨?_, by simp [lg_cmp, h, h2]⟩)
      rw [Int64.lt_iff_toInt_lt] at h ⊢
      rw [← Int64.toInt_inj] at h2
      omega
theorem lgc_le (x y : Int64) : (lg_cmp x y ≤ nI 0) = (x ≤ y) := by
  have e1 : ((1 : Int32) ≤ nI 0) = False := by decide
  have e2 : ((0 : Int32) ≤ nI 0) = True := by decide
  have e3 : ((-1 : Int32) ≤ nI 0) = True := by decide
  rw [Int64.le_iff_toInt_le]
  rcases lgc_cases x y with ⟨h, e⟩ | ⟨h, e⟩ | ⟨h, e⟩ <;> rw [e]
  · rw [e1, Int64.lt_iff_toInt_lt] at *; exact (eq_false (by omega)).symm
  · rw [e2]; subst h; exact (eq_true (Int.le_refl _)).symm
  · rw [e3]; rw [Int64.lt_iff_toInt_lt] at h; exact (eq_true (by omega)).symm
theorem lgc_ge (x y : Int64) : (nI 0 ≤ lg_cmp x y) = (y ≤ x) := by
  have e1 : (nI 0 ≤ (1 : Int32)) = True := by decide
  have e2 : (nI 0 ≤ (0 : Int32)) = True := by decide
  have e3 : (nI 0 ≤ (-1 : Int32)) = False := by decide
  rw [Int64.le_iff_toInt_le]
  rcases lgc_cases x y with ⟨h, e⟩ | ⟨h, e⟩ | ⟨h, e⟩ <;> rw [e]
  · rw [e1]; rw [Int64.lt_iff_toInt_lt] at h; exact (eq_true (by omega)).symm
  · rw [e2]; subst h; exact (eq_true (Int.le_refl _)).symm
  · rw [e3]; rw [Int64.lt_iff_toInt_lt] at h; exact (eq_false (by omega)).symm
theorem lgc_eq (x y : Int64) : (lg_cmp x y = nI 0) = (x = y) := by
  have e1 : ((1 : Int32) = nI 0) = False := by decide
  have e2 : ((0 : Int32) = nI 0) = True := by decide
  have e3 : ((-1 : Int32) = nI 0) = False := by decide
  rcases lgc_cases x y with ⟨h, e⟩ | ⟨h, e⟩ | ⟨h, e⟩ <;> rw [e]
  · rw [e1]; exact (eq_false (fun z => by subst z; rw [Int64.lt_iff_toInt_lt] at h; omega)).symm
  · rw [e2]; exact (eq_true h).symm
  · rw [e3]; exact (eq_false (fun z => by subst z; rw [Int64.lt_iff_toInt_lt] at h; omega)).symm
theorem lgc_lt (x y : Int64) : (lg_cmp x y < nI 0) = (x < y) := by
  have e1 : ((1 : Int32) < nI 0) = False := by decide
  have e2 : ((0 : Int32) < nI 0) = False := by decide
  have e3 : ((-1 : Int32) < nI 0) = True := by decide
  rcases lgc_cases x y with ⟨h, e⟩ | ⟨h, e⟩ | ⟨h, e⟩ <;> rw [e]
  · rw [e1]; exact (eq_false (fun z => by rw [Int64.lt_iff_toInt_lt] at h z; omega)).symm
  · rw [e2]; subst h; exact (eq_false (fun z => by rw [Int64.lt_iff_toInt_lt] at z; omega)).symm
  · rw [e3]; exact (eq_true h).symm
theorem lgc_gt (x y : Int64) : (nI 0 < lg_cmp x y) = (y < x) := by
  have e1 : (nI 0 < (1 : Int32)) = True := by decide
  have e2 : (nI 0 < (0 : Int32)) = False := by decide
  have e3 : (nI 0 < (-1 : Int32)) = False := by decide
  rcases lgc_cases x y with ⟨h, e⟩ | ⟨h, e⟩ | ⟨h, e⟩ <;> rw [e]
  · rw [e1]; exact (eq_true h).symm
  · rw [e2]; subst h; exact (eq_false (fun z => by rw [Int64.lt_iff_toInt_lt] at z; omega)).symm
  · rw [e3]; exact (eq_false (fun z => by rw [Int64.lt_iff_toInt_lt] at h z; omega)).symm
theorem nI_toL {n : Nat} (h : n < 2 ^ 31) : (nI n).toInt64 = lI n := Int64.toInt_inj.mp (by rw [Int32.toInt_toInt64, nI_toInt h, lI_toInt (by omega) (by omega)])
theorem lI_toI {z : Int} (h0 : 0 ≤ z) (h : z < 2 ^ 31) : (lI z).toInt32 = nI z.toNat := Int32.toInt_inj.mp (by rw [Int64.toInt_toInt32, lI_toInt (by omega) (by omega), nI_toInt (by omega), Int.bmod_eq_of_le (by omega) (by omega)]; omega)
/-! the keyed memory -/
theorem fI_sI (σ : FS) (o k : Nat) (v : Int32) (o' k' : Nat) : fI (sI σ o k v) o' k' = if o' = o ∧ k' = k then v else fI σ o' k' := rfl
theorem fI_sL (σ : FS) (o k : Nat) (v : Int64) : fI (sL σ o k v) = fI σ := rfl
theorem fI_sA (σ : FS) (o k : Nat) (v : Int32) : fI (sA σ o k v) = fI σ := rfl
theorem fI_sB (σ : FS) (o k : Nat) (v : Int64) : fI (sB σ o k v) = fI σ := rfl
theorem fL_sI (σ : FS) (o k : Nat) (v : Int32) : fL (sI σ o k v) = fL σ := rfl
theorem fL_sL (σ : FS) (o k : Nat) (v : Int64) (o' k' : Nat) : fL (sL σ o k v) o' k' = if o' = o ∧ k' = k then v else fL σ o' k' := rfl
theorem fL_sA (σ : FS) (o k : Nat) (v : Int32) : fL (sA σ o k v) = fL σ := rfl
theorem fL_sB (σ : FS) (o k : Nat) (v : Int64) : fL (sB σ o k v) = fL σ := rfl
theorem fA_sI (σ : FS) (o k : Nat) (v : Int32) : fA (sI σ o k v) = fA σ := rfl
theorem fA_sL (σ : FS) (o k : Nat) (v : Int64) : fA (sL σ o k v) = fA σ := rfl
theorem fA_sA (σ : FS) (o k : Nat) (v : Int32) (o' k' : Nat) : fA (sA σ o k v) o' k' = if o' = o ∧ k' = k then v else fA σ o' k' := rfl
theorem fA_sB (σ : FS) (o k : Nat) (v : Int64) : fA (sB σ o k v) = fA σ := rfl
theorem fB_sI (σ : FS) (o k : Nat) (v : Int32) : fB (sI σ o k v) = fB σ := rfl
theorem fB_sL (σ : FS) (o k : Nat) (v : Int64) : fB (sL σ o k v) = fB σ := rfl
theorem fB_sA (σ : FS) (o k : Nat) (v : Int32) : fB (sA σ o k v) = fB σ := rfl
theorem fB_sB (σ : FS) (o k : Nat) (v : Int64) (o' k' : Nat) : fB (sB σ o k v) o' k' = if o' = o ∧ k' = k then v else fB σ o' k' := rfl
theorem up2_self {α : Type} (f : Nat → Nat → α) (a b : Nat) : up2 f a b (f a b) = f := by
  funext x y
  by_cases h : x = a ∧ y = b
  · obtain ⟨rfl, rfl⟩ := h; simp [up2]
  · simp [up2, h]
theorem up2_up2 {α : Type} (f : Nat → Nat → α) (a b : Nat) (v w : α) : up2 (up2 f a b v) a b w = up2 f a b w := by
  funext x y
  by_cases h : x = a ∧ y = b <;> simp [up2, h]
theorem sI_self {σ : FS} {o k : Nat} {v : Int32} (h : fI σ o k = v) : sI σ o k v = σ := by
  subst h
  show (up2 σ.1 o k (σ.1 o k), σ.2) = σ
  rw [up2_self]
theorem sI_sI (σ : FS) (o k : Nat) (v w : Int32) : sI (sI σ o k v) o k w = sI σ o k w := by
  show (up2 (up2 σ.1 o k v) o k w, σ.2) = _
  rw [up2_up2]; rfl

