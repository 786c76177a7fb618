/-! THE REFERENCE holds the world; its queries -/
def mPc (σ : FS) (P : Pl) : Prop := (fA σ 39 3 = nI (plC P) ∧ fA σ 39 4 = nI (plR P) ∧ fA σ 39 5 = nI (plW P)) ∧ (fA σ 40 3 = nI (nT P) ∧ fA σ 40 4 = nI (nP P) ∧ fA σ 40 5 = nI (plL P).length)
def mPo (σ : FS) (P : Pl) : Prop := mP σ P ∨ (P = P0 ∧ fI σ 0 50 = nI 0 ∧ mPc σ P)
theorem mP.pc {σ : FS} {P : Pl} (h : mP σ P) : mPc σ P := ⟨h.2.2.1, h.2.2.2.1⟩
theorem mPo.pc {σ : FS} {P : Pl} (h : mPo σ P) : mPc σ P := h.elim (fun h => h.pc) (fun h => h.2.2)
def mKf (f : Nat → Int32) (l : List (Nat × Nat × Nat × Nat)) : Prop := f 71 = nI l.length ∧ l.length ≤ 40 ∧ ∀ (k : Nat) r, l[k]? = some r → f (72 + 4 * k) = nI r.1 ∧ f (73 + 4 * k) = nI r.2.1 ∧ f (74 + 4 * k) = nI r.2.2.1 ∧ f (75 + 4 * k) = nI r.2.2.2
def mTp (σ : FS) (Z : Wd) : Prop := fI σ 0 1 = nI (wTn Z) ∧ ∀ i, i < 1600 → fA σ 0 i = nI (wTp Z i)
def mRw (σ : FS) (Z : Wd) : Prop := fI σ 0 71 = nI (wR Z).length ∧ ∀ (k : Nat) q, (wR Z)[k]? = some q → fA σ 72 (3 * k) = nI q.1 ∧ fA σ 72 (3 * k + 1) = nI (c7 q.2.1) ∧ fA σ 72 (3 * k + 2) = nI q.2.2
def mUn (σ : FS) (Z : Wd) : Prop := fI σ 0 76 = nI (wU Z).length ∧ ∃ w, w < 20 ∧ fI σ 0 77 = nI w ∧ ∀ (i : Nat) s, (wU Z)[i]? = some s → mNf (fun k => fA σ 75 (232 * ((w + 20 - i) % 20) + k)) (wP Z) s ∧ mKf (fun k => fA σ 75 (232 * ((w + 20 - i) % 20) + k)) (zE s)
def mOu (σ : FS) (Z : Wd) : Prop := fI σ 0 113 = nI (wO Z).length ∧ ∀ (i : Nat) b, (wO Z)[i]? = some b → fA σ 112 i = nI b
def str (k : Nat) : List Nat := (([(11, [112, 108, 97, 105, 110]), (12, [98, 121]), (13, [104, 105, 103, 104]), (14, [116, 111, 112, 105, 99]), (15, [112, 101, 114, 115, 111, 110]), (16, [97, 116]), (17, [116, 105, 114, 101, 100]), (18, [107, 110, 111, 119, 115]), (19, [111, 102]), (20, [97, 115, 107, 115]), (21, [108, 105, 102, 116, 115]), (22, [116, 105, 114, 101, 115]), (23, [104, 111, 108, 100, 115]), (24, [99, 114, 111, 119, 100]), (25, [104, 101, 105, 103, 104, 116]), (26, [107, 110, 111, 119, 110]), (27, [100, 97, 121]), (28, [115, 105, 100, 101]), (29, [110, 117, 109, 98, 101, 114]), (30, [99, 111, 108, 117, 109, 110]), (31, [114, 111, 119]), (32, [111, 114]), (33, [97, 110, 100]), (34, [110, 111, 116]), (35, [97, 108, 108]), (36, [109, 105, 110]), (37, [109, 97, 120]), (79, [102, 105, 114, 115, 116]), (80, [108, 97, 115, 116]), (81, [111, 102, 116, 101, 110]), (82, [116, 111, 116, 97, 108]), (83, [109, 111, 115, 116]), (84, [108, 101, 97, 115, 116]), (85, [110, 111, 116]), (86, [97, 110, 100]), (87, [111, 114]), (88, [97, 108, 108]), (89, [109, 105, 110]), (90, [109, 97, 120]), (91, [116, 105, 114, 101, 100]), (92, [104, 101, 105, 103, 104, 116]), (93, [107, 110, 111, 119, 110]), (94, [100, 97, 121]), (95, [116, 111, 112, 105, 99]), (96, [115, 105, 100, 101]), (97, [110, 117, 109, 98, 101, 114]), (98, [99, 111, 108, 117, 109, 110]), (99, [114, 111, 119]), (100, [107, 110, 111, 119, 115]), (101, [108, 105, 102, 116, 115])] : List (Nat × List Nat)).lookup k).getD []
/-- the words -/
def mWs (σ : FS) : Prop := ∀ k i c, (str k)[i]? = some c → fA σ k i = nI c
theorem str_k (k : Nat) (h : str k ≠ []) : (11 ≤ k ∧ k ≤ 37) ∨ (79 ≤ k ∧ k ≤ 101) := by
  rcases Nat.lt_or_ge k 110 with z | z
  · revert h
    have : ∀ k, k < 110 → str k ≠ [] → (11 ≤ k ∧ k ≤ 37) ∨ (79 ≤ k ∧ k ≤ 101) := by decide
    exact this k z
  · exfalso
    apply h
    unfold str
    have hne : ∀ j : Nat, j < 110 → (k == j) = false := fun j hj => by simp; omega
    simp only [List.lookup, hne _ (show 11 < 110 by decide), hne _ (show 12 < 110 by decide), hne _ (show 13 < 110 by decide), hne _ (show 14 < 110 by decide), hne _ (show 15 < 110 by decide), hne _ (show 16 < 110 by decide), hne _ (show 17 < 110 by decide), hne _ (show 18 < 110 by decide), hne _ (show 19 < 110 by decide), hne _ (show 20 < 110 by decide), hne _ (show 21 < 110 by decide), hne _ (show 22 < 110 by decide), hne _ (show 23 < 110 by decide), hne _ (show 24 < 110 by decide), hne _ (show 25 < 110 by decide), hne _ (show 26 < 110 by decide), hne _ (show 27 < 110 by decide), hne _ (show 28 < 110 by decide), hne _ (show 29 < 110 by decide), hne _ (show 30 < 110 by decide), hne _ (show 31 < 110 by decide), hne _ (show 32 < 110 by decide), hne _ (show 33 < 110 by decide), hne _ (show 34 < 110 by decide), hne _ (show 35 < 110 by decide), hne _ (show 36 < 110 by decide), hne _ (show 37 < 110 by decide), hne _ (show 79 < 110 by decide), hne _ (show 80 < 110 by decide), hne _ (show 81 < 110 by decide), hne _ (show 82 < 110 by decide), hne _ (show 83 < 110 by decide), hne _ (show 84 < 110 by decide), hne _ (show 85 < 110 by decide), hne _ (show 86 < 110 by decide), hne _ (show 87 < 110 by decide), hne _ (show 88 < 110 by decide), hne _ (show 89 < 110 by decide), hne _ (show 90 < 110 by decide), hne _ (show 91 < 110 by decide), hne _ (show 92 < 110 by decide), hne _ (show 93 < 110 by decide), hne _ (show 94 < 110 by decide), hne _ (show 95 < 110 by decide), hne _ (show 96 < 110 by decide), hne _ (show 97 < 110 by decide), hne _ (show 98 < 110 by decide), hne _ (show 99 < 110 by decide), hne _ (show 100 < 110 by decide), hne _ (show 101 < 110 by decide)]
    rfl
/-- the reference holds the world -/
def mAll (σ : FS) (Z : Wd) : Prop := woOK Z ∧ mTp σ Z ∧ (fI σ 0 7 = (wF Z).1 ∧ fI σ 0 8 = (wF Z).2) ∧ (∀ i, i < 6 → fA σ 9 i = wRf Z i) ∧ mPo σ (wP Z) ∧ mN σ (wP Z) (wS Z) ∧ mKe σ (zE (wS Z)) ∧ mRw σ Z ∧ mUn σ Z ∧ fL σ 0 78 = wD Z ∧ mOu σ Z ∧ mSd σ ∧ (fI σ 0 57 = nI 0 ∧ fI σ 0 60 = nI 0) ∧ mWs σ
/-- arrays that hold something of the world -/
abbrev aW : List Nat := [0, 9, 39, 40, 44, 45, 46, 47, 52, 72, 75, 112]
def wOK (as : List Nat) : Bool := as.all (fun a => !(aW.contains a) && !(decide ((11 ≤ a ∧ a ≤ 37) ∨ (79 ≤ a ∧ a ≤ 101))))
theorem wOK_1 {as : List Nat} (h : wOK as = true) {a : Nat} (ha : a ∈ aW) : a ∉ as := by
  intro z
  have := List.all_eq_true.mp h a z
  simp only [Bool.and_eq_true, Bool.not_eq_true', decide_eq_false_iff_not] at this
  have h1 := this.1
  rw [List.contains_iff_mem.mpr ha] at h1
  cases h1
theorem mWs.fm {σ σ' : FS} (h : mWs σ) (hw : ∀ a, ((11 ≤ a ∧ a ≤ 37) ∨ (79 ≤ a ∧ a ≤ 101)) → fA σ' a = fA σ a) : mWs σ' := fun k i c hc => by
  rw [hw k (str_k k (fun z => by rw [z] at hc; simp at hc))]; exact h k i c hc
theorem mPo.fm {ks as bs : List Nat} {σ σ' : FS} {P : Pl} (h : mPo σ P) (f : Fm ks as bs σ σ') (hk : 50 ∉ ks) (ha : ∀ a ∈ ([39, 40, 44, 45, 46, 47] : List Nat), a ∉ as) (hb : 41 ∉ bs) : mPo σ' P := by
  rcases h with h | ⟨h1, h2, h3⟩
  · exact Or.inl (h.fm f hk ha hb)
  · refine Or.inr ⟨h1, by rw [f.1 50 hk]; exact h2, ?_⟩
    unfold mPc
    rw [f.2.1 39 (ha 39 (by decide)), f.2.1 40 (ha 40 (by decide))]
    exact h3
theorem mAll.fm {ks as bs : List Nat} {σ σ' : FS} {Z : Wd} (h : mAll σ Z) (f : Fm ks as bs σ σ') (hk : ∀ k ∈ ([1, 7, 8, 50, 57, 60, 71, 76, 77, 113] : List Nat), k ∉ ks) (ha : wOK as = true) (hb : 41 ∉ bs) (hS : mSd σ') : mAll σ' Z := by
  obtain ⟨h1, h2, h3, h4, h5, h6, h7, h8, h9, h10, h11, h12, h13, h14⟩ := h
  have g : ∀ a ∈ aW, fA σ' a = fA σ a := fun a z => f.2.1 a (wOK_1 ha z)
  have k : ∀ a ∈ ([1, 7, 8, 50, 57, 60, 71, 76, 77, 113] : List Nat), fI σ' 0 a = fI σ 0 a := fun a z => f.1 a (hk a z)
  refine ⟨h1, ?_, ?_, ?_, h5.fm f (hk 50 (by decide)) (fun a z => wOK_1 ha (by revert a; decide)) hb, h6.eqv (g 52 (by decide)), ?_, ?_, ?_, ?_, ?_, hS, ?_, ?_⟩
  · unfold mTp; rw [k 1 (by decide), g 0 (by decide)]; exact h2
  · rw [k 7 (by decide), k 8 (by decide)]; exact h3
  · rw [g 9 (by decide)]; exact h4
  · unfold mKe; rw [g 52 (by decide)]; exact h7
  · unfold mRw; rw [k 71 (by decide), g 72 (by decide)]; exact h8
  · unfold mUn; rw [k 76 (by decide), k 77 (by decide), g 75 (by decide)]; exact h9
  · rw [f.2.2.2]; exact h10
  · unfold mOu; rw [k 113 (by decide), g 112 (by decide)]; exact h11
  · rw [k 57 (by decide), k 60 (by decide)]; exact h13
  · refine h14.fm (fun a z => f.2.1 a (fun q => ?_))
    have := List.all_eq_true.mp ha a q
    simp only [Bool.and_eq_true, Bool.not_eq_true', decide_eq_false_iff_not] at this
    exact this.2 z
theorem ml_isPerson {σ : FS} {P : Pl} {x : Int32} {Q : Int32 → FS → Prop} (hP : mPc σ P) (hn : nP P ≤ 7) (hs : ∀ j, ix x (nP P) = some j → j < nP P → x = nI j → Q (nI 1) σ) (h0 : ix x (nP P) = none → Q (nI 0) σ) : mw_isPerson x σ Q := by
  unfold mw_isPerson mw_personMany
  simp (disch := omega) only [i_0, i_1, i_2, i_3, i_4, i_5, i_6, i_7, i_8, i_9, i_10, i_11, i_12, i_13, i_16, i_19, i_20, i_21, i_22, i_23, i_24, i_25, i_30, i_31, i_32, i_39, i_40, i_41, i_42, i_43, i_44, i_45, i_47, i_48, i_49, i_50, i_51, i_52, i_57, i_59, i_60, i_61, i_62, i_63, i_64, i_71, i_72, i_80, i_91, i_93, i_97, i_99, i_100, i_122, i_227, i_228, i_232, i_251, i_255, i_256, i_463, i_999, i_1000, i_1519, i_1600, i_9999, i_100000000, i_2147483639, i_2147483647, neg_nI1, nI_add, pk_mul, nI_remL, pk_sub, pk_div, nI_clamp, nI_leI, nI_ltI, nI_eq, vpT, nI_m1, m1_nI, nI_lem1, m1_le, m1_lt, nI_ltm1, nI_bit, nI_shl, nI_xor, nI_or, n_rem, forall_eq, true_and, and_true, implies_true, true_implies, false_implies, not_true_eq_false, not_false_eq_true, Nat.zero_add, Nat.add_zero, ite_true, ite_false, if_true, if_false, true_or, or_true, false_or, or_false, and_self, and_false, false_and, Nat.reduceEqDiff, reduceIte]
  rw [hP.2.2.1]
  exact ml_isIn (n := nP P) (by decide) (nIm1_toInt (by omega)) (fun j a b c => ⟨nb_1, hs j a b c⟩) (fun a => ⟨nb_0, h0 a⟩)
theorem ml_isTopic {σ : FS} {P : Pl} {x : Int32} {Q : Int32 → FS → Prop} (hP : mPc σ P) (hn : nT P ≤ 5) (hs : ∀ j, ix x (nT P) = some j → j < nT P → x = nI j → Q (nI 1) σ) (h0 : ix x (nT P) = none → Q (nI 0) σ) : mw_isTopic x.toInt64 σ Q := by
  unfold mw_isTopic mw_topicMany
  simp (disch := omega) only [i_0, i_1, i_2, i_3, i_4, i_5, i_6, i_7, i_8, i_9, i_10, i_11, i_12, i_13, i_16, i_19, i_20, i_21, i_22, i_23, i_24, i_25, i_30, i_31, i_32, i_39, i_40, i_41, i_42, i_43, i_44, i_45, i_47, i_48, i_49, i_50, i_51, i_52, i_57, i_59, i_60, i_61, i_62, i_63, i_64, i_71, i_72, i_80, i_91, i_93, i_97, i_99, i_100, i_122, i_227, i_228, i_232, i_251, i_255, i_256, i_463, i_999, i_1000, i_1519, i_1600, i_9999, i_100000000, i_2147483639, i_2147483647, neg_nI1, nI_add, pk_mul, nI_remL, pk_sub, pk_div, nI_clamp, nI_leI, nI_ltI, nI_eq, vpT, nI_m1, m1_nI, nI_lem1, m1_le, m1_lt, nI_ltm1, nI_bit, nI_shl, nI_xor, nI_or, n_rem, forall_eq, true_and, and_true, implies_true, true_implies, false_implies, not_true_eq_false, not_false_eq_true, Nat.zero_add, Nat.add_zero, ite_true, ite_false, if_true, if_false, true_or, or_true, false_or, or_false, and_self, and_false, false_and, Nat.reduceEqDiff, reduceIte]
  rw [hP.2.1]
  exact ml_isIn (n := nT P) (by decide) (nIm1_toInt (by omega)) (fun j a b c => ⟨nb_1, hs j a b c⟩) (fun a => ⟨nb_0, h0 a⟩)
theorem P0_facts : plC P0 = 0 ∧ plR P0 = 0 ∧ nT P0 = 0 ∧ nP P0 = 0 := by decide
theorem woOK.np {Z : Wd} (h : woOK Z) : nP (wP Z) ≤ 7 ∧ nT (wP Z) ≤ 5 ∧ plC (wP Z) ≤ 7 ∧ plR (wP Z) ≤ 7 ∧ (plL (wP Z)).length ≤ 12 := by
  rcases h.1 with h | h
  · exact ⟨h.2.2.2.2.1, h.2.2.2.1, h.1.2, h.2.1.2, h.2.2.2.2.2.1⟩
  · rw [h]; decide
theorem ix_none0 (x : Int32) : ix x 0 = none := by
  rcases ix_cases x 0 with ⟨j, -, h, -⟩ | ⟨h, -⟩
  · omega
  · exact h
theorem ml_cellAt {σ : FS} {P : Pl} {x y : Int32} {Q : Int32 → FS → Prop} (hP : mPo σ P) (hs : ∀ c, cellS P x y = some c → mP σ P → isC P c → Q (nI (c7 c)) σ) (h0 : cellS P x y = none → Q M1 σ) : mw_cellAt x y σ Q := by
  unfold mw_cellAt
  rcases hP with hP | ⟨rfl, h50, -⟩
  · have hC := hP.1.1; have hR := hP.1.2.1
    rw [hP.2.1]
    simp (disch := omega) only [i_0, i_1, i_2, i_3, i_4, i_5, i_6, i_7, i_8, i_9, i_10, i_11, i_12, i_13, i_16, i_19, i_20, i_21, i_22, i_23, i_24, i_25, i_30, i_31, i_32, i_39, i_40, i_41, i_42, i_43, i_44, i_45, i_47, i_48, i_49, i_50, i_51, i_52, i_57, i_59, i_60, i_61, i_62, i_63, i_64, i_71, i_72, i_80, i_91, i_93, i_97, i_99, i_100, i_122, i_227, i_228, i_232, i_251, i_255, i_256, i_463, i_999, i_1000, i_1519, i_1600, i_9999, i_100000000, i_2147483639, i_2147483647, neg_nI1, nI_add, pk_mul, nI_remL, pk_sub, pk_div, nI_clamp, nI_leI, nI_ltI, nI_eq, vpT, nI_m1, m1_nI, nI_lem1, m1_le, m1_lt, nI_ltm1, nI_bit, nI_shl, nI_xor, nI_or, n_rem, forall_eq, true_and, and_true, implies_true, true_implies, false_implies, not_true_eq_false, not_false_eq_true, Nat.zero_add, Nat.add_zero, ite_true, ite_false, if_true, if_false, true_or, or_true, false_or, or_false, and_self, and_false, false_and, Nat.reduceEqDiff, reduceIte]
    rw [hP.2.2.1.1]
    refine ml_isIn (n := plC P) (by decide) (nIm1_toInt (by omega)) (fun c a1 a2 a3 => ?_) (fun a1 => ?_)
    · simp (disch := omega) only [i_0, i_1, i_2, i_3, i_4, i_5, i_6, i_7, i_8, i_9, i_10, i_11, i_12, i_13, i_16, i_19, i_20, i_21, i_22, i_23, i_24, i_25, i_30, i_31, i_32, i_39, i_40, i_41, i_42, i_43, i_44, i_45, i_47, i_48, i_49, i_50, i_51, i_52, i_57, i_59, i_60, i_61, i_62, i_63, i_64, i_71, i_72, i_80, i_91, i_93, i_97, i_99, i_100, i_122, i_227, i_228, i_232, i_251, i_255, i_256, i_463, i_999, i_1000, i_1519, i_1600, i_9999, i_100000000, i_2147483639, i_2147483647, neg_nI1, nI_add, pk_mul, nI_remL, pk_sub, pk_div, nI_clamp, nI_leI, nI_ltI, nI_eq, vpT, nI_m1, m1_nI, nI_lem1, m1_le, m1_lt, nI_ltm1, nI_bit, nI_shl, nI_xor, nI_or, n_rem, forall_eq, true_and, and_true, implies_true, true_implies, false_implies, not_true_eq_false, not_false_eq_true, Nat.zero_add, Nat.add_zero, ite_true, ite_false, if_true, if_false, true_or, or_true, false_or, or_false, and_self, and_false, false_and, Nat.reduceEqDiff, reduceIte]
      rw [hP.2.2.1.2.1]
      refine ml_isIn (n := plR P) (by decide) (nIm1_toInt (by omega)) (fun r b1 b2 b3 => ?_) (fun b1 => ?_)
      · subst a3 b3
        simp (disch := omega) only [i_0, i_1, i_2, i_3, i_4, i_5, i_6, i_7, i_8, i_9, i_10, i_11, i_12, i_13, i_16, i_19, i_20, i_21, i_22, i_23, i_24, i_25, i_30, i_31, i_32, i_39, i_40, i_41, i_42, i_43, i_44, i_45, i_47, i_48, i_49, i_50, i_51, i_52, i_57, i_59, i_60, i_61, i_62, i_63, i_64, i_71, i_72, i_80, i_91, i_93, i_97, i_99, i_100, i_122, i_227, i_228, i_232, i_251, i_255, i_256, i_463, i_999, i_1000, i_1519, i_1600, i_9999, i_100000000, i_2147483639, i_2147483647, neg_nI1, nI_add, pk_mul, nI_remL, pk_sub, pk_div, nI_clamp, nI_leI, nI_ltI, nI_eq, vpT, nI_m1, m1_nI, nI_lem1, m1_le, m1_lt, nI_ltm1, nI_bit, nI_shl, nI_xor, nI_or, n_rem, forall_eq, true_and, and_true, implies_true, true_implies, false_implies, not_true_eq_false, not_false_eq_true, Nat.zero_add, Nat.add_zero, ite_true, ite_false, if_true, if_false, true_or, or_true, false_or, or_false, and_self, and_false, false_and, Nat.reduceEqDiff, reduceIte]
        have e : c + 7 * r = c7 (8 * r + c) := by unfold c7; omega
        rw [e]
        exact hs _ (by unfold cellS; rw [a1, b1]) hP ⟨by omega, by omega⟩
      · simp (disch := omega) only [i_0, i_1, i_2, i_3, i_4, i_5, i_6, i_7, i_8, i_9, i_10, i_11, i_12, i_13, i_16, i_19, i_20, i_21, i_22, i_23, i_24, i_25, i_30, i_31, i_32, i_39, i_40, i_41, i_42, i_43, i_44, i_45, i_47, i_48, i_49, i_50, i_51, i_52, i_57, i_59, i_60, i_61, i_62, i_63, i_64, i_71, i_72, i_80, i_91, i_93, i_97, i_99, i_100, i_122, i_227, i_228, i_232, i_251, i_255, i_256, i_463, i_999, i_1000, i_1519, i_1600, i_9999, i_100000000, i_2147483639, i_2147483647, neg_nI1, nI_add, pk_mul, nI_remL, pk_sub, pk_div, nI_clamp, nI_leI, nI_ltI, nI_eq, vpT, nI_m1, m1_nI, nI_lem1, m1_le, m1_lt, nI_ltm1, nI_bit, nI_shl, nI_xor, nI_or, n_rem, forall_eq, true_and, and_true, implies_true, true_implies, false_implies, not_true_eq_false, not_false_eq_true, Nat.zero_add, Nat.add_zero, ite_true, ite_false, if_true, if_false, true_or, or_true, false_or, or_false, and_self, and_false, false_and, Nat.reduceEqDiff, reduceIte]
        exact h0 (by unfold cellS; rw [b1]; split <;> simp_all)
    · simp (disch := omega) only [i_0, i_1, i_2, i_3, i_4, i_5, i_6, i_7, i_8, i_9, i_10, i_11, i_12, i_13, i_16, i_19, i_20, i_21, i_22, i_23, i_24, i_25, i_30, i_31, i_32, i_39, i_40, i_41, i_42, i_43, i_44, i_45, i_47, i_48, i_49, i_50, i_51, i_52, i_57, i_59, i_60, i_61, i_62, i_63, i_64, i_71, i_72, i_80, i_91, i_93, i_97, i_99, i_100, i_122, i_227, i_228, i_232, i_251, i_255, i_256, i_463, i_999, i_1000, i_1519, i_1600, i_9999, i_100000000, i_2147483639, i_2147483647, neg_nI1, nI_add, pk_mul, nI_remL, pk_sub, pk_div, nI_clamp, nI_leI, nI_ltI, nI_eq, vpT, nI_m1, m1_nI, nI_lem1, m1_le, m1_lt, nI_ltm1, nI_bit, nI_shl, nI_xor, nI_or, n_rem, forall_eq, true_and, and_true, implies_true, true_implies, false_implies, not_true_eq_false, not_false_eq_true, Nat.zero_add, Nat.add_zero, ite_true, ite_false, if_true, if_false, true_or, or_true, false_or, or_false, and_self, and_false, false_and, Nat.reduceEqDiff, reduceIte]
      exact h0 (by unfold cellS; rw [a1])
  · rw [h50]
    simp (disch := omega) only [i_0, i_1, i_2, i_3, i_4, i_5, i_6, i_7, i_8, i_9, i_10, i_11, i_12, i_13, i_16, i_19, i_20, i_21, i_22, i_23, i_24, i_25, i_30, i_31, i_32, i_39, i_40, i_41, i_42, i_43, i_44, i_45, i_47, i_48, i_49, i_50, i_51, i_52, i_57, i_59, i_60, i_61, i_62, i_63, i_64, i_71, i_72, i_80, i_91, i_93, i_97, i_99, i_100, i_122, i_227, i_228, i_232, i_251, i_255, i_256, i_463, i_999, i_1000, i_1519, i_1600, i_9999, i_100000000, i_2147483639, i_2147483647, neg_nI1, nI_add, pk_mul, nI_remL, pk_sub, pk_div, nI_clamp, nI_leI, nI_ltI, nI_eq, vpT, nI_m1, m1_nI, nI_lem1, m1_le, m1_lt, nI_ltm1, nI_bit, nI_shl, nI_xor, nI_or, n_rem, forall_eq, true_and, and_true, implies_true, true_implies, false_implies, not_true_eq_false, not_false_eq_true, Nat.zero_add, Nat.add_zero, ite_true, ite_false, if_true, if_false, true_or, or_true, false_or, or_false, and_self, and_false, false_and, Nat.reduceEqDiff, reduceIte]
    exact h0 (by unfold cellS; rw [P0_facts.1, ix_none0])
theorem ml_cellNumbered {σ : FS} {P : Pl} {x : Int32} {Q : Int32 → FS → Prop} (hP : mPo σ P) (hC7 : plC P ≤ 7 ∧ plR P ≤ 7) (hs : ∀ c, cellN P x = some c → mP σ P → isC P c → c < 64 → x = nI c → Q (nI (c7 c)) σ) (h0 : cellN P x = none → Q M1 σ) : mw_cellNumbered x σ Q := by
  unfold mw_cellNumbered
  refine ⟨fun c => ?_, fun c => ?_⟩
  · obtain ⟨j, hj, rfl⟩ := nI_of (x := x) (by rw [Int32.lt_iff_toInt_lt]; rw [Int32.le_iff_toInt_le] at c; omega)
    simp (disch := omega) only [i_0, i_1, i_2, i_3, i_4, i_5, i_6, i_7, i_8, i_9, i_10, i_11, i_12, i_13, i_16, i_19, i_20, i_21, i_22, i_23, i_24, i_25, i_30, i_31, i_32, i_39, i_40, i_41, i_42, i_43, i_44, i_45, i_47, i_48, i_49, i_50, i_51, i_52, i_57, i_59, i_60, i_61, i_62, i_63, i_64, i_71, i_72, i_80, i_91, i_93, i_97, i_99, i_100, i_122, i_227, i_228, i_232, i_251, i_255, i_256, i_463, i_999, i_1000, i_1519, i_1600, i_9999, i_100000000, i_2147483639, i_2147483647, neg_nI1, nI_add, pk_mul, nI_remL, pk_sub, pk_div, nI_clamp, nI_leI, nI_ltI, nI_eq, vpT, nI_m1, m1_nI, nI_lem1, m1_le, m1_lt, nI_ltm1, nI_bit, nI_shl, nI_xor, nI_or, n_rem, forall_eq, true_and, and_true, implies_true, true_implies, false_implies, not_true_eq_false, not_false_eq_true, Nat.zero_add, Nat.add_zero, ite_true, ite_false, if_true, if_false, true_or, or_true, false_or, or_false, and_self, and_false, false_and, Nat.reduceEqDiff, reduceIte]
    have e1 : cellN P (nI j) = cellS P (nI (j % 8)) (nI (j / 8)) := by
      unfold cellN cellS
      by_cases z : j % 8 < plC P
      · rw [ix_nI z (by omega)]
        by_cases z2 : j / 8 < plR P
        · rw [ix_nI z2 (by omega), ix_nI (show j < 64 by omega) (by omega)]
          simp only []
          rw [if_pos ⟨z, z2⟩]
          congr 1
          omega
        · have q : ix (nI (j / 8)) (plR P) = none := by unfold ix; rw [nI_toInt (by omega), if_neg (by omega)]
          rw [q]
          rcases ix_cases (nI j) 64 with ⟨i, e1, e2, e3⟩ | ⟨e1, -⟩
          · rw [e1]
            have : j = i := (nI_eq (by omega) (by omega)).mp e3
            subst this
            simp only []
            rw [if_neg (by omega)]
          · rw [e1]
      · have q : ix (nI (j % 8)) (plC P) = none := by unfold ix; rw [nI_toInt (by omega), if_neg (by omega)]
        rw [q]
        rcases ix_cases (nI j) 64 with ⟨i, e1, e2, e3⟩ | ⟨e1, -⟩
        · rw [e1]
          have : j = i := (nI_eq (by omega) (by omega)).mp e3
          subst this
          simp only []
          rw [if_neg (by omega)]
        · rw [e1]
    refine ml_cellAt hP (fun c a1 a2 a3 => ?_) (fun a1 => h0 (by rw [e1]; exact a1))
    have e2 := e1.trans a1
    have e3 : j = c := by
      unfold cellN at e2
      rcases ix_cases (nI j) 64 with ⟨i, g1, g2, g3⟩ | ⟨g1, -⟩
      · rw [g1] at e2
        simp only [] at e2
        split at e2
        · cases e2; exact (nI_eq (by omega) (by omega)).mp g3
        · cases e2
      · rw [g1] at e2; cases e2
    subst e3
    exact hs _ e2 a2 a3 (by have := a3.1; have := a3.2; omega) rfl
  · refine h0 ?_
    have q : ix x 64 = none := by
      unfold ix
      rw [if_neg (fun z => c (by rw [Int32.le_iff_toInt_le]; exact z.1))]
    unfold cellN; rw [q]
theorem mPo.p {σ : FS} {P : Pl} (h : mPo σ P) (hp : 0 < plC P ∨ 0 < nP P ∨ 0 < nT P) : mP σ P := by
  rcases h with h | ⟨rfl, -⟩
  · exact h
  · have := P0_facts; omega
theorem ml_isAhead {σ : FS} {P : Pl} {s : St} {x : Int32} {lo hi : Nat} {Q : Int32 → FS → Prop} (hP : mPo σ P) (hN : mN σ P s) (hd : zD s ≤ 5000) (hlo : lo ≤ hi) (hhi : hi < 1000) (hs : ∀ j, ahd P s x lo hi = some j → mP σ P → lo ≤ j → j ≤ hi → x = nI j → zD s + j ≤ 999 → Q (nI 1) σ) (h0 : ahd P s x lo hi = none → Q (nI 0) σ) : mw_isAhead x (nI lo) (nI hi) σ Q := by
  unfold mw_isAhead
  rcases hP with hP | ⟨rfl, h50, -⟩
  · have hC := hP.1.1
    rw [hP.2.1]
    simp (disch := omega) only [i_0, i_1, i_2, i_3, i_4, i_5, i_6, i_7, i_8, i_9, i_10, i_11, i_12, i_13, i_16, i_19, i_20, i_21, i_22, i_23, i_24, i_25, i_30, i_31, i_32, i_39, i_40, i_41, i_42, i_43, i_44, i_45, i_47, i_48, i_49, i_50, i_51, i_52, i_57, i_59, i_60, i_61, i_62, i_63, i_64, i_71, i_72, i_80, i_91, i_93, i_97, i_99, i_100, i_122, i_227, i_228, i_232, i_251, i_255, i_256, i_463, i_999, i_1000, i_1519, i_1600, i_9999, i_100000000, i_2147483639, i_2147483647, neg_nI1, nI_add, pk_mul, nI_remL, pk_sub, pk_div, nI_clamp, nI_leI, nI_ltI, nI_eq, vpT, nI_m1, m1_nI, nI_lem1, m1_le, m1_lt, nI_ltm1, nI_bit, nI_shl, nI_xor, nI_or, n_rem, forall_eq, true_and, and_true, implies_true, true_implies, false_implies, not_true_eq_false, not_false_eq_true, Nat.zero_add, Nat.add_zero, ite_true, ite_false, if_true, if_false, true_or, or_true, false_or, or_false, and_self, and_false, false_and, Nat.reduceEqDiff, reduceIte]
    have e : x.toInt64.toInt = x.toInt := Int32.toInt_toInt64 x
    have el : (nI lo).toInt64.toInt = lo := by rw [Int32.toInt_toInt64, nI_toInt (by omega)]
    have eh : (nI hi).toInt64.toInt = hi := by rw [Int32.toInt_toInt64, nI_toInt (by omega)]
    unfold mw_isIn
    rw [i_0, lgc_lt, lgc_gt, Int64.lt_iff_toInt_lt, Int64.lt_iff_toInt_lt, e, el, eh]
    rcases ix_cases x (hi + 1) with ⟨j, e1, e2, e3⟩ | ⟨e1, e2⟩
    · have hx : x.toInt = j := by rw [e3, nI_toInt (by omega)]
      have ea : ahd P s x lo hi = if 0 < plC P ∧ lo ≤ j ∧ zD s + j ≤ 999 then some j else none := by unfold ahd; rw [e1]
      refine ⟨fun z => ?_, fun z => ⟨fun z2 => by omega, fun _ => ?_⟩⟩
      · simp (disch := omega) only [i_0, i_1, i_2, i_3, i_4, i_5, i_6, i_7, i_8, i_9, i_10, i_11, i_12, i_13, i_16, i_19, i_20, i_21, i_22, i_23, i_24, i_25, i_30, i_31, i_32, i_39, i_40, i_41, i_42, i_43, i_44, i_45, i_47, i_48, i_49, i_50, i_51, i_52, i_57, i_59, i_60, i_61, i_62, i_63, i_64, i_71, i_72, i_80, i_91, i_93, i_97, i_99, i_100, i_122, i_227, i_228, i_232, i_251, i_255, i_256, i_463, i_999, i_1000, i_1519, i_1600, i_9999, i_100000000, i_2147483639, i_2147483647, neg_nI1, nI_add, pk_mul, nI_remL, pk_sub, pk_div, nI_clamp, nI_leI, nI_ltI, nI_eq, vpT, nI_m1, m1_nI, nI_lem1, m1_le, m1_lt, nI_ltm1, nI_bit, nI_shl, nI_xor, nI_or, n_rem, forall_eq, true_and, and_true, implies_true, true_implies, false_implies, not_true_eq_false, not_false_eq_true, Nat.zero_add, Nat.add_zero, ite_true, ite_false, if_true, if_false, true_or, or_true, false_or, or_false, and_self, and_false, false_and, Nat.reduceEqDiff, reduceIte]
        exact h0 (by rw [ea, if_neg (by omega)])
      · subst e3
        simp (disch := omega) only [i_0, i_1, i_2, i_3, i_4, i_5, i_6, i_7, i_8, i_9, i_10, i_11, i_12, i_13, i_16, i_19, i_20, i_21, i_22, i_23, i_24, i_25, i_30, i_31, i_32, i_39, i_40, i_41, i_42, i_43, i_44, i_45, i_47, i_48, i_49, i_50, i_51, i_52, i_57, i_59, i_60, i_61, i_62, i_63, i_64, i_71, i_72, i_80, i_91, i_93, i_97, i_99, i_100, i_122, i_227, i_228, i_232, i_251, i_255, i_256, i_463, i_999, i_1000, i_1519, i_1600, i_9999, i_100000000, i_2147483639, i_2147483647, neg_nI1, nI_add, pk_mul, nI_remL, pk_sub, pk_div, nI_clamp, nI_leI, nI_ltI, nI_eq, vpT, nI_m1, m1_nI, nI_lem1, m1_le, m1_lt, nI_ltm1, nI_bit, nI_shl, nI_xor, nI_or, n_rem, forall_eq, true_and, and_true, implies_true, true_implies, false_implies, not_true_eq_false, not_false_eq_true, Nat.zero_add, Nat.add_zero, ite_true, ite_false, if_true, if_false, true_or, or_true, false_or, or_false, and_self, and_false, false_and, Nat.reduceEqDiff, reduceIte, hN.2.1]
        refine ⟨fun z3 => h0 (by rw [ea, if_neg (by omega)]), fun z3 => hs j (by rw [ea, if_pos (by omega)]) hP (by omega) (by omega) rfl (by omega)⟩
    · have ea : ahd P s x lo hi = none := by unfold ahd; rw [e1]
      refine ⟨fun z => ?_, fun z => ⟨fun z2 => ?_, fun z2 => by omega⟩⟩
      · simp (disch := omega) only [i_0, i_1, i_2, i_3, i_4, i_5, i_6, i_7, i_8, i_9, i_10, i_11, i_12, i_13, i_16, i_19, i_20, i_21, i_22, i_23, i_24, i_25, i_30, i_31, i_32, i_39, i_40, i_41, i_42, i_43, i_44, i_45, i_47, i_48, i_49, i_50, i_51, i_52, i_57, i_59, i_60, i_61, i_62, i_63, i_64, i_71, i_72, i_80, i_91, i_93, i_97, i_99, i_100, i_122, i_227, i_228, i_232, i_251, i_255, i_256, i_463, i_999, i_1000, i_1519, i_1600, i_9999, i_100000000, i_2147483639, i_2147483647, neg_nI1, nI_add, pk_mul, nI_remL, pk_sub, pk_div, nI_clamp, nI_leI, nI_ltI, nI_eq, vpT, nI_m1, m1_nI, nI_lem1, m1_le, m1_lt, nI_ltm1, nI_bit, nI_shl, nI_xor, nI_or, n_rem, forall_eq, true_and, and_true, implies_true, true_implies, false_implies, not_true_eq_false, not_false_eq_true, Nat.zero_add, Nat.add_zero, ite_true, ite_false, if_true, if_false, true_or, or_true, false_or, or_false, and_self, and_false, false_and, Nat.reduceEqDiff, reduceIte]
        exact h0 ea
      · simp (disch := omega) only [i_0, i_1, i_2, i_3, i_4, i_5, i_6, i_7, i_8, i_9, i_10, i_11, i_12, i_13, i_16, i_19, i_20, i_21, i_22, i_23, i_24, i_25, i_30, i_31, i_32, i_39, i_40, i_41, i_42, i_43, i_44, i_45, i_47, i_48, i_49, i_50, i_51, i_52, i_57, i_59, i_60, i_61, i_62, i_63, i_64, i_71, i_72, i_80, i_91, i_93, i_97, i_99, i_100, i_122, i_227, i_228, i_232, i_251, i_255, i_256, i_463, i_999, i_1000, i_1519, i_1600, i_9999, i_100000000, i_2147483639, i_2147483647, neg_nI1, nI_add, pk_mul, nI_remL, pk_sub, pk_div, nI_clamp, nI_leI, nI_ltI, nI_eq, vpT, nI_m1, m1_nI, nI_lem1, m1_le, m1_lt, nI_ltm1, nI_bit, nI_shl, nI_xor, nI_or, n_rem, forall_eq, true_and, and_true, implies_true, true_implies, false_implies, not_true_eq_false, not_false_eq_true, Nat.zero_add, Nat.add_zero, ite_true, ite_false, if_true, if_false, true_or, or_true, false_or, or_false, and_self, and_false, false_and, Nat.reduceEqDiff, reduceIte]
        exact h0 ea
  · rw [h50]
    simp (disch := omega) only [i_0, i_1, i_2, i_3, i_4, i_5, i_6, i_7, i_8, i_9, i_10, i_11, i_12, i_13, i_16, i_19, i_20, i_21, i_22, i_23, i_24, i_25, i_30, i_31, i_32, i_39, i_40, i_41, i_42, i_43, i_44, i_45, i_47, i_48, i_49, i_50, i_51, i_52, i_57, i_59, i_60, i_61, i_62, i_63, i_64, i_71, i_72, i_80, i_91, i_93, i_97, i_99, i_100, i_122, i_227, i_228, i_232, i_251, i_255, i_256, i_463, i_999, i_1000, i_1519, i_1600, i_9999, i_100000000, i_2147483639, i_2147483647, neg_nI1, nI_add, pk_mul, nI_remL, pk_sub, pk_div, nI_clamp, nI_leI, nI_ltI, nI_eq, vpT, nI_m1, m1_nI, nI_lem1, m1_le, m1_lt, nI_ltm1, nI_bit, nI_shl, nI_xor, nI_or, n_rem, forall_eq, true_and, and_true, implies_true, true_implies, false_implies, not_true_eq_false, not_false_eq_true, Nat.zero_add, Nat.add_zero, ite_true, ite_false, if_true, if_false, true_or, or_true, false_or, or_false, and_self, and_false, false_and, Nat.reduceEqDiff, reduceIte]
    refine h0 ?_
    unfold ahd
    split
    · rw [if_neg (by rw [P0_facts.1]; omega)]
    · rfl
