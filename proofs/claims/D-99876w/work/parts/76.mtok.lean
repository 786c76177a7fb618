/-! THE REFERENCE: words, numbers, signs -/
def TokI (σ : FS) (t : Nat → Nat) (e : Nat) : Prop := fI σ 0 3 = nI e ∧ e ≤ 1600 ∧ (∀ i, i < 1600 → fA σ 0 i = nI (t i)) ∧ (∀ i, t i < 256) ∧ mWs σ
def Ed (σ : FS) (t : Nat → Nat) (a : Nat) : Prop := ((fI σ 0 4 = M1 ∨ ∃ n, n ≤ a ∧ fI σ 0 4 = nI n) ∧ fI σ 0 6 = M1) ∧ (fI σ 0 4 = nI a ↔ prt t a = true)
/-- reading stands at a, all is well so far -/
def Tok (σ : FS) (t : Nat → Nat) (e a : Nat) : Prop := TokI σ t e ∧ fI σ 0 2 = nI a ∧ a ≤ e ∧ fI σ 0 5 = nI 0 ∧ Ed σ t a
/-- a fault was found -/
def Bd (σ : FS) (q : Nat × Nat) : Prop := fI σ 0 5 = nI q.1 ∧ fI σ 0 6 = nI q.2 ∧ 0 < q.1 ∧ q.1 < 10
abbrev kT : List Nat := [2, 4, 5, 6, 10, 38]
abbrev FT (σ σ' : FS) : Prop := Fm kT [] [] σ σ'
theorem TokI.fm {ks as bs : List Nat} {σ σ' : FS} {t : Nat → Nat} {e : Nat} (h : TokI σ t e) (f : Fm ks as bs σ σ') (hk : 3 ∉ ks) (ha : ∀ a ∈ as, a ≠ 0 ∧ ¬ ((11 ≤ a ∧ a ≤ 37) ∨ (79 ≤ a ∧ a ≤ 101))) : TokI σ' t e :=
  ⟨by rw [f.1 3 hk]; exact h.1, h.2.1, by rw [f.2.1 0 (fun z => (ha 0 z).1 rfl)]; exact h.2.2.1, h.2.2.2.1, h.2.2.2.2.fm (fun a z => f.2.1 a (fun q => (ha a q).2 z))⟩
theorem Tok.le {σ : FS} {t : Nat → Nat} {e a : Nat} (h : Tok σ t e a) : a ≤ 1600 := Nat.le_trans h.2.2.1 h.1.2.1
/-- the place moves on over what is no letter, no digit -/
theorem Ed.on {σ : FS} {t : Nat → Nat} {a b : Nat} (h : Ed σ t a) (hb : b ≤ 1600) (ha : a < b) (hp : prt t b = false) : Ed σ t b := by
  refine ⟨?_, ?_⟩
  · rcases h.1 with ⟨h1 | ⟨n, hn, h1⟩, h6⟩
    · exact ⟨Or.inl h1, h6⟩
    · exact ⟨Or.inr ⟨n, by omega, h1⟩, h6⟩
  · rw [hp]
    refine ⟨fun q => ?_, fun q => by cases q⟩
    rcases h.1.1 with h1 | ⟨n, hn, h1⟩
    · rw [h1, m1_nI (by omega)] at q; exact q.elim
    · rw [h1, nI_eq (by omega) (by omega)] at q; omega
theorem Ed.eqv {σ σ' : FS} {t : Nat → Nat} {a : Nat} (h : Ed σ t a) (e : fI σ' 0 4 = fI σ 0 4) (e6 : fI σ' 0 6 = fI σ 0 6) : Ed σ' t a := by unfold Ed; rw [e, e6]; exact h
def byI (t : Nat → Nat) (e a : Nat) : Int32 := if a < e then nI (t a) else M1
theorem ml_look {σ : FS} {t : Nat → Nat} {e a : Nat} {Q : Int32 → FS → Prop} (h : Tok σ t e a) (hQ : Tok (sI σ 0 2 (nI (lk t e a))) t e (lk t e a) → Q (byI t e (lk t e a)) (sI σ 0 2 (nI (lk t e a)))) : mw_look σ Q := by
  obtain ⟨hI, h2, ha, h5, hE⟩ := h
  have he := hI.2.1
  have hl := lk_spec (t := t) ha
  unfold mw_look mw_look_0
  intro X hX
  have key : ∀ n b, e - b = n → b ≤ e → a ≤ b → lk t e b = lk t e a → X (sI σ 0 2 (nI b)) := by
    intro n
    induction n with
    | zero =>
      intro b hn hb hab heq
      have hbe : b = e := by omega
      subst hbe
      have hs : lk t b b = b := run_stop (by omega)
      refine hX _ ?_
      unfold mw_look_52
      simp (disch := omega) only [i_0, i_1, i_2, i_3, i_4, i_5, i_6, i_7, i_8, i_9, i_10, i_11, i_12, i_13, i_16, i_19, i_20, i_21, i_22, i_23, i_24, i_25, i_30, i_31, i_32, i_39, i_40, i_41, i_42, i_43, i_44, i_45, i_47, i_48, i_49, i_50, i_51, i_52, i_57, i_59, i_60, i_61, i_62, i_63, i_64, i_71, i_72, i_80, i_91, i_93, i_97, i_99, i_100, i_122, i_227, i_228, i_232, i_251, i_255, i_256, i_463, i_999, i_1000, i_1519, i_1600, i_9999, i_100000000, i_2147483639, i_2147483647, neg_nI1, nI_add, pk_mul, nI_remL, pk_sub, pk_div, nI_clamp, nI_leI, nI_ltI, nI_eq, vpT, nI_m1, m1_nI, nI_lem1, m1_le, m1_lt, nI_ltm1, nI_bit, nI_shl, nI_xor, nI_or, n_rem, forall_eq, true_and, and_true, implies_true, true_implies, false_implies, not_true_eq_false, not_false_eq_true, Nat.zero_add, Nat.add_zero, ite_true, ite_false, if_true, if_false, true_or, or_true, false_or, or_false, and_self, and_false, false_and, Nat.reduceEqDiff, reduceIte, fI_sI, fI_sL, fI_sA, fI_sB, fL_sI, fL_sL, fL_sA, fL_sB, fA_sI, fA_sL, fA_sA, fA_sB, fB_sI, fB_sL, fB_sA, fB_sB]
      rw [hI.1]
      have fin : Q M1 (sI σ 0 2 (nI b)) := by
        rw [← heq, hs] at hQ
        have := hQ ⟨hI.fm (Fm.sI (ks := kT) (as := []) (bs := []) σ _ (by decide)) (by decide) (by simp), by rw [fI_sI]; simp, Nat.le_refl _, by rw [fI_sI]; simpa using h5, ?_⟩
        · unfold byI at this; rw [if_neg (by omega)] at this; exact this
        · by_cases z : a = b
          · subst z; exact hE.eqv (by rw [fI_sI]; simp) (by rw [fI_sI]; simp)
          · rw [hs] at heq
            exact (hE.on (by omega) (by omega) (by rw [heq]; exact prt_lk ha (by omega))).eqv (by rw [fI_sI]; simp) (by rw [fI_sI]; simp)
      exact ⟨fun _ => ⟨fun _ => fin, fun z => absurd ((nI_leI (by omega) (by omega)).mpr (Nat.le_refl _)) z⟩, fun z => absurd ((nI_leI (by omega) (by omega)).mpr (Nat.le_refl _)) z⟩
    | succ n ih =>
      intro b hn hb hab heq
      have hbt := hI.2.2.2.1 b
      have htb := hI.2.2.1 b (by omega)
      refine hX _ ?_
      unfold mw_look_39 mw_look_52
      simp (disch := omega) only [i_0, i_1, i_2, i_3, i_4, i_5, i_6, i_7, i_8, i_9, i_10, i_11, i_12, i_13, i_16, i_19, i_20, i_21, i_22, i_23, i_24, i_25, i_30, i_31, i_32, i_39, i_40, i_41, i_42, i_43, i_44, i_45, i_47, i_48, i_49, i_50, i_51, i_52, i_57, i_59, i_60, i_61, i_62, i_63, i_64, i_71, i_72, i_80, i_91, i_93, i_97, i_99, i_100, i_122, i_227, i_228, i_232, i_251, i_255, i_256, i_463, i_999, i_1000, i_1519, i_1600, i_9999, i_100000000, i_2147483639, i_2147483647, neg_nI1, nI_add, pk_mul, nI_remL, pk_sub, pk_div, nI_clamp, nI_leI, nI_ltI, nI_eq, vpT, nI_m1, m1_nI, nI_lem1, m1_le, m1_lt, nI_ltm1, nI_bit, nI_shl, nI_xor, nI_or, n_rem, forall_eq, true_and, and_true, implies_true, true_implies, false_implies, not_true_eq_false, not_false_eq_true, Nat.zero_add, Nat.add_zero, ite_true, ite_false, if_true, if_false, true_or, or_true, false_or, or_false, and_self, and_false, false_and, Nat.reduceEqDiff, reduceIte, fI_sI, fI_sL, fI_sA, fI_sB, fL_sI, fL_sL, fL_sA, fL_sB, fA_sI, fA_sL, fA_sA, fA_sB, fB_sI, fB_sL, fB_sA, fB_sB]
      rw [hI.1, htb]
      simp (disch := omega) only [i_0, i_1, i_2, i_3, i_4, i_5, i_6, i_7, i_8, i_9, i_10, i_11, i_12, i_13, i_16, i_19, i_20, i_21, i_22, i_23, i_24, i_25, i_30, i_31, i_32, i_39, i_40, i_41, i_42, i_43, i_44, i_45, i_47, i_48, i_49, i_50, i_51, i_52, i_57, i_59, i_60, i_61, i_62, i_63, i_64, i_71, i_72, i_80, i_91, i_93, i_97, i_99, i_100, i_122, i_227, i_228, i_232, i_251, i_255, i_256, i_463, i_999, i_1000, i_1519, i_1600, i_9999, i_100000000, i_2147483639, i_2147483647, neg_nI1, nI_add, pk_mul, nI_remL, pk_sub, pk_div, nI_clamp, nI_leI, nI_ltI, nI_eq, vpT, nI_m1, m1_nI, nI_lem1, m1_le, m1_lt, nI_ltm1, nI_bit, nI_shl, nI_xor, nI_or, n_rem, forall_eq, true_and, and_true, implies_true, true_implies, false_implies, not_true_eq_false, not_false_eq_true, Nat.zero_add, Nat.add_zero, ite_true, ite_false, if_true, if_false, true_or, or_true, false_or, or_false, and_self, and_false, false_and, Nat.reduceEqDiff, reduceIte]
      have go : isBl (t b) = true → X (sI (sI σ 0 2 (nI b)) 0 2 (nI (b + 1))) := by
        intro hbl
        rw [sI_sI]
        exact ih (b + 1) (by omega) (by omega) (by omega) (by rw [← heq]; exact (run_go (by omega) hbl).symm)
      have stop : isBl (t b) = false → Q (nI (t b)) (sI σ 0 2 (nI b)) := by
        intro hbl
        have hs : lk t e b = b := run_stop (fun q => by rw [hbl] at q; cases q.2)
        rw [hs] at heq
        rw [← heq] at hQ
        have := hQ ⟨hI.fm (Fm.sI (ks := kT) (as := []) (bs := []) σ _ (by decide)) (by decide) (by simp), by rw [fI_sI]; simp, by omega, by rw [fI_sI]; simpa using h5, ?_⟩
        · unfold byI at this; rw [if_pos (by omega)] at this; exact this
        · by_cases z : a = b
          · subst z; exact hE.eqv (by rw [fI_sI]; simp) (by rw [fI_sI]; simp)
          · exact (hE.on (by omega) (by omega) (by rw [heq]; exact prt_lk ha (by omega))).eqv (by rw [fI_sI]; simp) (by rw [fI_sI]; simp)
      refine ⟨fun z => by omega, fun _ => ⟨fun z => go (by unfold isBl; rw [decide_eq_true_iff]; exact Or.inl z), fun z => ⟨fun z2 => ⟨fun w => by omega, fun _ => stop (by unfold isBl; exact decide_eq_false (by omega))⟩, fun z2 => go (by unfold isBl; rw [decide_eq_true_iff]; exact Or.inr z2)⟩⟩⟩
  have := key _ a rfl ha (Nat.le_refl _) rfl
  rw [sI_self h2] at this
  exact this
/-- what look leaves -/
theorem FT.at (σ : FS) (v : Int32) : FT σ (sI σ 0 2 v) := Fm.sI σ _ (by decide)
theorem ml_isLetter {σ : FS} {t : Nat → Nat} {e a : Nat} {Q : Int32 → FS → Prop} (hb : t a < 256) (hQ : Q (nI (if isLt (bt t e a) = true then 1 else 0)) σ) : mw_isLetter (byI t e a) σ Q := by
  unfold mw_isLetter byI
  unfold bt at hQ
  split
  · rename_i h
    rw [if_pos h] at hQ
    simp (disch := omega) only [i_0, i_1, i_2, i_3, i_4, i_5, i_6, i_7, i_8, i_9, i_10, i_11, i_12, i_13, i_16, i_19, i_20, i_21, i_22, i_23, i_24, i_25, i_30, i_31, i_32, i_39, i_40, i_41, i_42, i_43, i_44, i_45, i_47, i_48, i_49, i_50, i_51, i_52, i_57, i_59, i_60, i_61, i_62, i_63, i_64, i_71, i_72, i_80, i_91, i_93, i_97, i_99, i_100, i_122, i_227, i_228, i_232, i_251, i_255, i_256, i_463, i_999, i_1000, i_1519, i_1600, i_9999, i_100000000, i_2147483639, i_2147483647, neg_nI1, nI_add, pk_mul, nI_remL, pk_sub, pk_div, nI_clamp, nI_leI, nI_ltI, nI_eq, vpT, nI_m1, m1_nI, nI_lem1, m1_le, m1_lt, nI_ltm1, nI_bit, nI_shl, nI_xor, nI_or, n_rem, forall_eq, true_and, and_true, implies_true, true_implies, false_implies, not_true_eq_false, not_false_eq_true, Nat.zero_add, Nat.add_zero, ite_true, ite_false, if_true, if_false, true_or, or_true, false_or, or_false, and_self, and_false, false_and, Nat.reduceEqDiff, reduceIte]
    unfold isLt at hQ
    refine ⟨fun z => ?_, fun z => ⟨fun z2 => ?_, fun z2 => ?_⟩⟩
    · rw [if_neg (by simp; omega)] at hQ; exact hQ
    · rw [if_neg (by simp; omega)] at hQ; exact hQ
    · rw [if_pos (by simp; omega)] at hQ; exact hQ
  · rename_i h
    rw [if_neg h] at hQ
    simp (disch := omega) only [i_0, i_1, i_2, i_3, i_4, i_5, i_6, i_7, i_8, i_9, i_10, i_11, i_12, i_13, i_16, i_19, i_20, i_21, i_22, i_23, i_24, i_25, i_30, i_31, i_32, i_39, i_40, i_41, i_42, i_43, i_44, i_45, i_47, i_48, i_49, i_50, i_51, i_52, i_57, i_59, i_60, i_61, i_62, i_63, i_64, i_71, i_72, i_80, i_91, i_93, i_97, i_99, i_100, i_122, i_227, i_228, i_232, i_251, i_255, i_256, i_463, i_999, i_1000, i_1519, i_1600, i_9999, i_100000000, i_2147483639, i_2147483647, neg_nI1, nI_add, pk_mul, nI_remL, pk_sub, pk_div, nI_clamp, nI_leI, nI_ltI, nI_eq, vpT, nI_m1, m1_nI, nI_lem1, m1_le, m1_lt, nI_ltm1, nI_bit, nI_shl, nI_xor, nI_or, n_rem, forall_eq, true_and, and_true, implies_true, true_implies, false_implies, not_true_eq_false, not_false_eq_true, Nat.zero_add, Nat.add_zero, ite_true, ite_false, if_true, if_false, true_or, or_true, false_or, or_false, and_self, and_false, false_and, Nat.reduceEqDiff, reduceIte]
    exact hQ
theorem ml_isDigit {σ : FS} {t : Nat → Nat} {e a : Nat} {Q : Int32 → FS → Prop} (hb : t a < 256) (hQ : Q (nI (if isDg (bt t e a) = true then 1 else 0)) σ) : mw_isDigit (byI t e a) σ Q := by
  unfold mw_isDigit byI
  unfold bt at hQ
  split
  · rename_i h
    rw [if_pos h] at hQ
    simp (disch := omega) only [i_0, i_1, i_2, i_3, i_4, i_5, i_6, i_7, i_8, i_9, i_10, i_11, i_12, i_13, i_16, i_19, i_20, i_21, i_22, i_23, i_24, i_25, i_30, i_31, i_32, i_39, i_40, i_41, i_42, i_43, i_44, i_45, i_47, i_48, i_49, i_50, i_51, i_52, i_57, i_59, i_60, i_61, i_62, i_63, i_64, i_71, i_72, i_80, i_91, i_93, i_97, i_99, i_100, i_122, i_227, i_228, i_232, i_251, i_255, i_256, i_463, i_999, i_1000, i_1519, i_1600, i_9999, i_100000000, i_2147483639, i_2147483647, neg_nI1, nI_add, pk_mul, nI_remL, pk_sub, pk_div, nI_clamp, nI_leI, nI_ltI, nI_eq, vpT, nI_m1, m1_nI, nI_lem1, m1_le, m1_lt, nI_ltm1, nI_bit, nI_shl, nI_xor, nI_or, n_rem, forall_eq, true_and, and_true, implies_true, true_implies, false_implies, not_true_eq_false, not_false_eq_true, Nat.zero_add, Nat.add_zero, ite_true, ite_false, if_true, if_false, true_or, or_true, false_or, or_false, and_self, and_false, false_and, Nat.reduceEqDiff, reduceIte]
    unfold isDg at hQ
    refine ⟨fun z => ?_, fun z => ⟨fun z2 => ?_, fun z2 => ?_⟩⟩
    · rw [if_neg (by simp; omega)] at hQ; exact hQ
    · rw [if_neg (by simp; omega)] at hQ; exact hQ
    · rw [if_pos (by simp; omega)] at hQ; exact hQ
  · rename_i h
    rw [if_neg h] at hQ
    simp (disch := omega) only [i_0, i_1, i_2, i_3, i_4, i_5, i_6, i_7, i_8, i_9, i_10, i_11, i_12, i_13, i_16, i_19, i_20, i_21, i_22, i_23, i_24, i_25, i_30, i_31, i_32, i_39, i_40, i_41, i_42, i_43, i_44, i_45, i_47, i_48, i_49, i_50, i_51, i_52, i_57, i_59, i_60, i_61, i_62, i_63, i_64, i_71, i_72, i_80, i_91, i_93, i_97, i_99, i_100, i_122, i_227, i_228, i_232, i_251, i_255, i_256, i_463, i_999, i_1000, i_1519, i_1600, i_9999, i_100000000, i_2147483639, i_2147483647, neg_nI1, nI_add, pk_mul, nI_remL, pk_sub, pk_div, nI_clamp, nI_leI, nI_ltI, nI_eq, vpT, nI_m1, m1_nI, nI_lem1, m1_le, m1_lt, nI_ltm1, nI_bit, nI_shl, nI_xor, nI_or, n_rem, forall_eq, true_and, and_true, implies_true, true_implies, false_implies, not_true_eq_false, not_false_eq_true, Nat.zero_add, Nat.add_zero, ite_true, ite_false, if_true, if_false, true_or, or_true, false_or, or_false, and_self, and_false, false_and, Nat.reduceEqDiff, reduceIte]
    exact hQ
theorem byI_at {t : Nat → Nat} {e a : Nat} (h : a < e) : byI t e a = nI (t a) := by unfold byI; rw [if_pos h]
theorem bt_at {t : Nat → Nat} {e a : Nat} (h : a < e) : bt t e a = t a := by unfold bt; rw [if_pos h]
/-- the word k is here -/
def hereW (t : Nat → Nat) (e a : Nat) (w : List Nat) : Prop := isLt (bt t e a) = true ∧ prt t a = false ∧ wd t a (wE t e a) = w
theorem bt_lt {t : Nat → Nat} {e a : Nat} (h : isLt (bt t e a) = true) : a < e := by
  unfold bt at h
  split at h
  · assumption
  · exact absurd h (by decide)
theorem wstr (k i c : Nat) (h : (str k)[i]? = some c) : c < 256 := by
  have hk := str_k k (fun z => by rw [z] at h; simp at h)
  have hall : ∀ k, k < 110 → ∀ c ∈ str k, c < 256 := by decide
  exact hall k (by omega) c (List.mem_of_getElem? h)
theorem ml_isHere {σ : FS} {t : Nat → Nat} {e a k : Nat} {Q : Int32 → FS → Prop} (h : Tok σ t e a) (hk : mok 3 k) (hl : mlen k = (str k).length) (h7 : (str k).length ≤ 6) (hy : Tok (sI σ 0 2 (nI (lk t e a))) t e (lk t e a) → hereW t e (lk t e a) (str k) → Q (nI 1) (sI σ 0 2 (nI (lk t e a)))) (hn : Tok (sI σ 0 2 (nI (lk t e a))) t e (lk t e a) → ¬ hereW t e (lk t e a) (str k) → Q (nI 0) (sI σ 0 2 (nI (lk t e a)))) : mw_isHere k σ Q := by
  have hle := h.le
  have he := h.1.2.1
  have hbts := h.1.2.2.2.1
  have hlk := lk_spec (t := t) h.2.2.1
  unfold mw_isHere
  rw [h.2.2.2.1]
  simp (disch := omega) only [i_0, i_1, i_2, i_3, i_4, i_5, i_6, i_7, i_8, i_9, i_10, i_11, i_12, i_13, i_16, i_19, i_20, i_21, i_22, i_23, i_24, i_25, i_30, i_31, i_32, i_39, i_40, i_41, i_42, i_43, i_44, i_45, i_47, i_48, i_49, i_50, i_51, i_52, i_57, i_59, i_60, i_61, i_62, i_63, i_64, i_71, i_72, i_80, i_91, i_93, i_97, i_99, i_100, i_122, i_227, i_228, i_232, i_251, i_255, i_256, i_463, i_999, i_1000, i_1519, i_1600, i_9999, i_100000000, i_2147483639, i_2147483647, neg_nI1, nI_add, pk_mul, nI_remL, pk_sub, pk_div, nI_clamp, nI_leI, nI_ltI, nI_eq, vpT, nI_m1, m1_nI, nI_lem1, m1_le, m1_lt, nI_ltm1, nI_bit, nI_shl, nI_xor, nI_or, n_rem, forall_eq, true_and, and_true, implies_true, true_implies, false_implies, not_true_eq_false, not_false_eq_true, Nat.zero_add, Nat.add_zero, ite_true, ite_false, if_true, if_false, true_or, or_true, false_or, or_false, and_self, and_false, false_and, Nat.reduceEqDiff, reduceIte]
  refine ml_look h (fun hT => ?_)
  have hy := hy hT; have hn := hn hT
  generalize hb : lk t e a = b at hT hy hn hlk ⊢
  have e2 : fI (sI σ 0 2 (nI b)) 0 2 = nI b := hT.2.1
  generalize sI σ 0 2 (nI b) = σ1 at hT hy hn e2 ⊢
  refine ml_isLetter (hbts b) ?_
  by_cases z : isLt (bt t e b) = true
  · rw [if_pos z]
    have hbe := bt_lt z
    simp (disch := omega) only [i_0, i_1, i_2, i_3, i_4, i_5, i_6, i_7, i_8, i_9, i_10, i_11, i_12, i_13, i_16, i_19, i_20, i_21, i_22, i_23, i_24, i_25, i_30, i_31, i_32, i_39, i_40, i_41, i_42, i_43, i_44, i_45, i_47, i_48, i_49, i_50, i_51, i_52, i_57, i_59, i_60, i_61, i_62, i_63, i_64, i_71, i_72, i_80, i_91, i_93, i_97, i_99, i_100, i_122, i_227, i_228, i_232, i_251, i_255, i_256, i_463, i_999, i_1000, i_1519, i_1600, i_9999, i_100000000, i_2147483639, i_2147483647, neg_nI1, nI_add, pk_mul, nI_remL, pk_sub, pk_div, nI_clamp, nI_leI, nI_ltI, nI_eq, vpT, nI_m1, m1_nI, nI_lem1, m1_le, m1_lt, nI_ltm1, nI_bit, nI_shl, nI_xor, nI_or, n_rem, forall_eq, true_and, and_true, implies_true, true_implies, false_implies, not_true_eq_false, not_false_eq_true, Nat.zero_add, Nat.add_zero, ite_true, ite_false, if_true, if_false, true_or, or_true, false_or, or_false, and_self, and_false, false_and, Nat.reduceEqDiff, reduceIte]
    rw [e2]
    refine ⟨fun z2 => ?_, fun z2 => hn (fun w => ?_)⟩
    · have hp : prt t b = false := by
        cases hp : prt t b with
        | false => rfl
        | true => exact absurd (hT.2.2.2.2.2.mpr hp).symm z2
      unfold mw_isHere_35
      intro X hX
      have cmp : mw_isHere_61 k (nI (wE t e b)) σ1 Q := by
        obtain ⟨w1, w2, w3, w4⟩ := run_spec isLt t e _ b rfl (by omega)
        have w1 : b ≤ wE t e b := w1
        have w2 : wE t e b ≤ e := w2
        unfold mw_isHere_61
        rw [e2]
        have el : Int32.ofNat (mlen k) = nI (str k).length := by rw [hl]; rfl
        rw [el, pk_sub w1, nI_eq (by omega) (by omega)]
        refine ⟨hk, fun z3 => ?_, fun z3 => hn (fun w => z3 ?_)⟩
        · unfold mw_isHere_76
          intro Y hY
          have key : ∀ j i, (str k).length - i = j → i ≤ (str k).length → (∀ i', i' < i → (str k)[i']? = some (t (b + i'))) → Y k (nI i) σ1 := by
            intro j
            induction j with
            | zero =>
              intro i hj hi hall
              refine hY _ _ _ ⟨hk, ?_⟩
              rw [el]
              refine ⟨fun _ => hy ⟨z, hp, ?_⟩, fun w => absurd ((nI_leI (by omega) (by omega)).mpr (by omega)) w⟩
              apply List.ext_getElem?
              intro i'
              rcases Nat.lt_or_ge i' (wE t e b - b) with w | w
              · rw [wd_at w, hall i' (by omega)]
              · rw [List.getElem?_eq_none_iff.mpr (by rw [wd_len]; omega), List.getElem?_eq_none_iff.mpr (by omega)]
            | succ j ih =>
              intro i hj hi hall
              obtain ⟨c, hc⟩ : ∃ c, (str k)[i]? = some c := ⟨_, List.getElem?_eq_getElem (by omega)⟩
              have hwc := hT.1.2.2.2.2 k i c hc
              have hcb : c < 256 := by
                have h1 := wstr k i c hc
                exact h1
              have hbi := hbts (b + i)
              refine hY _ _ _ ⟨hk, ?_⟩
              rw [el, e2]
              refine ⟨fun w => absurd ((nI_leI (by omega) (by omega)).mp w) (by omega), fun _ => ?_⟩
              simp (disch := omega) only [i_0, i_1, i_2, i_3, i_4, i_5, i_6, i_7, i_8, i_9, i_10, i_11, i_12, i_13, i_16, i_19, i_20, i_21, i_22, i_23, i_24, i_25, i_30, i_31, i_32, i_39, i_40, i_41, i_42, i_43, i_44, i_45, i_47, i_48, i_49, i_50, i_51, i_52, i_57, i_59, i_60, i_61, i_62, i_63, i_64, i_71, i_72, i_80, i_91, i_93, i_97, i_99, i_100, i_122, i_227, i_228, i_232, i_251, i_255, i_256, i_463, i_999, i_1000, i_1519, i_1600, i_9999, i_100000000, i_2147483639, i_2147483647, neg_nI1, nI_add, pk_mul, nI_remL, pk_sub, pk_div, nI_clamp, nI_leI, nI_ltI, nI_eq, vpT, nI_m1, m1_nI, nI_lem1, m1_le, m1_lt, nI_ltm1, nI_bit, nI_shl, nI_xor, nI_or, n_rem, forall_eq, true_and, and_true, implies_true, true_implies, false_implies, not_true_eq_false, not_false_eq_true, Nat.zero_add, Nat.add_zero, ite_true, ite_false, if_true, if_false, true_or, or_true, false_or, or_false, and_self, and_false, false_and, Nat.reduceEqDiff, reduceIte]
              rw [hT.1.2.2.1 _ (by omega), hwc]
              simp (disch := omega) only [i_0, i_1, i_2, i_3, i_4, i_5, i_6, i_7, i_8, i_9, i_10, i_11, i_12, i_13, i_16, i_19, i_20, i_21, i_22, i_23, i_24, i_25, i_30, i_31, i_32, i_39, i_40, i_41, i_42, i_43, i_44, i_45, i_47, i_48, i_49, i_50, i_51, i_52, i_57, i_59, i_60, i_61, i_62, i_63, i_64, i_71, i_72, i_80, i_91, i_93, i_97, i_99, i_100, i_122, i_227, i_228, i_232, i_251, i_255, i_256, i_463, i_999, i_1000, i_1519, i_1600, i_9999, i_100000000, i_2147483639, i_2147483647, neg_nI1, nI_add, pk_mul, nI_remL, pk_sub, pk_div, nI_clamp, nI_leI, nI_ltI, nI_eq, vpT, nI_m1, m1_nI, nI_lem1, m1_le, m1_lt, nI_ltm1, nI_bit, nI_shl, nI_xor, nI_or, n_rem, forall_eq, true_and, and_true, implies_true, true_implies, false_implies, not_true_eq_false, not_false_eq_true, Nat.zero_add, Nat.add_zero, ite_true, ite_false, if_true, if_false, true_or, or_true, false_or, or_false, and_self, and_false, false_and, Nat.reduceEqDiff, reduceIte]
              refine ⟨hk, fun w => ih (i + 1) (by omega) (by omega) (fun i' hi' => ?_), fun w => hn (fun q => w ?_)⟩
              · rcases Nat.lt_or_ge i' i with v | v
                · exact hall i' v
                · have : i' = i := by omega
                  subst this; rw [hc, w]
              · have q3 := q.2.2
                have : (wd t b (wE t e b))[i]? = some (t (b + i)) := wd_at (by omega)
                rw [q3, hc] at this
                cases this; rfl
          exact key _ 0 rfl (by omega) (fun i' hi' => by omega)
        · rw [← w.2.2, wd_len]
      have key : ∀ n c, e - c = n → b ≤ c → c ≤ e → wE t e c = wE t e b → X k (nI c) σ1 := by
        intro n
        induction n with
        | zero =>
          intro c hn2 hbc hc heq
          refine hX _ _ _ ?_
          rw [hT.1.1]
          refine ⟨fun _ => ?_, fun w => absurd ((nI_leI (by omega) (by omega)).mpr (by omega)) w⟩
          have : wE t e c = c := run_stop (by omega)
          rw [this] at heq
          rw [heq]; exact cmp
        | succ n ih =>
          intro c hn2 hbc hc heq
          refine hX _ _ _ ?_
          rw [hT.1.1]
          refine ⟨fun w => absurd ((nI_leI (by omega) (by omega)).mp w) (by omega), fun _ => ?_⟩
          simp (disch := omega) only [i_0, i_1, i_2, i_3, i_4, i_5, i_6, i_7, i_8, i_9, i_10, i_11, i_12, i_13, i_16, i_19, i_20, i_21, i_22, i_23, i_24, i_25, i_30, i_31, i_32, i_39, i_40, i_41, i_42, i_43, i_44, i_45, i_47, i_48, i_49, i_50, i_51, i_52, i_57, i_59, i_60, i_61, i_62, i_63, i_64, i_71, i_72, i_80, i_91, i_93, i_97, i_99, i_100, i_122, i_227, i_228, i_232, i_251, i_255, i_256, i_463, i_999, i_1000, i_1519, i_1600, i_9999, i_100000000, i_2147483639, i_2147483647, neg_nI1, nI_add, pk_mul, nI_remL, pk_sub, pk_div, nI_clamp, nI_leI, nI_ltI, nI_eq, vpT, nI_m1, m1_nI, nI_lem1, m1_le, m1_lt, nI_ltm1, nI_bit, nI_shl, nI_xor, nI_or, n_rem, forall_eq, true_and, and_true, implies_true, true_implies, false_implies, not_true_eq_false, not_false_eq_true, Nat.zero_add, Nat.add_zero, ite_true, ite_false, if_true, if_false, true_or, or_true, false_or, or_false, and_self, and_false, false_and, Nat.reduceEqDiff, reduceIte]
          rw [hT.1.2.2.1 _ (by omega), ← byI_at (t := t) (show c < e by omega)]
          refine ml_isLetter (hbts c) ?_
          rw [bt_at (by omega)]
          by_cases w : isLt (t c) = true
          · rw [if_pos w]
            simp (disch := omega) only [i_0, i_1, i_2, i_3, i_4, i_5, i_6, i_7, i_8, i_9, i_10, i_11, i_12, i_13, i_16, i_19, i_20, i_21, i_22, i_23, i_24, i_25, i_30, i_31, i_32, i_39, i_40, i_41, i_42, i_43, i_44, i_45, i_47, i_48, i_49, i_50, i_51, i_52, i_57, i_59, i_60, i_61, i_62, i_63, i_64, i_71, i_72, i_80, i_91, i_93, i_97, i_99, i_100, i_122, i_227, i_228, i_232, i_251, i_255, i_256, i_463, i_999, i_1000, i_1519, i_1600, i_9999, i_100000000, i_2147483639, i_2147483647, neg_nI1, nI_add, pk_mul, nI_remL, pk_sub, pk_div, nI_clamp, nI_leI, nI_ltI, nI_eq, vpT, nI_m1, m1_nI, nI_lem1, m1_le, m1_lt, nI_ltm1, nI_bit, nI_shl, nI_xor, nI_or, n_rem, forall_eq, true_and, and_true, implies_true, true_implies, false_implies, not_true_eq_false, not_false_eq_true, Nat.zero_add, Nat.add_zero, ite_true, ite_false, if_true, if_false, true_or, or_true, false_or, or_false, and_self, and_false, false_and, Nat.reduceEqDiff, reduceIte]
            exact ih (c + 1) (by omega) (by omega) (by omega) (by rw [← heq]; exact (run_go (by omega) w).symm)
          · rw [if_neg w]
            simp (disch := omega) only [i_0, i_1, i_2, i_3, i_4, i_5, i_6, i_7, i_8, i_9, i_10, i_11, i_12, i_13, i_16, i_19, i_20, i_21, i_22, i_23, i_24, i_25, i_30, i_31, i_32, i_39, i_40, i_41, i_42, i_43, i_44, i_45, i_47, i_48, i_49, i_50, i_51, i_52, i_57, i_59, i_60, i_61, i_62, i_63, i_64, i_71, i_72, i_80, i_91, i_93, i_97, i_99, i_100, i_122, i_227, i_228, i_232, i_251, i_255, i_256, i_463, i_999, i_1000, i_1519, i_1600, i_9999, i_100000000, i_2147483639, i_2147483647, neg_nI1, nI_add, pk_mul, nI_remL, pk_sub, pk_div, nI_clamp, nI_leI, nI_ltI, nI_eq, vpT, nI_m1, m1_nI, nI_lem1, m1_le, m1_lt, nI_ltm1, nI_bit, nI_shl, nI_xor, nI_or, n_rem, forall_eq, true_and, and_true, implies_true, true_implies, false_implies, not_true_eq_false, not_false_eq_true, Nat.zero_add, Nat.add_zero, ite_true, ite_false, if_true, if_false, true_or, or_true, false_or, or_false, and_self, and_false, false_and, Nat.reduceEqDiff, reduceIte]
            have : wE t e c = c := run_stop (fun q => w q.2)
            rw [this] at heq
            rw [heq]; exact cmp
      exact key _ b rfl (Nat.le_refl _) (by omega) rfl
    · have := hT.2.2.2.2.2.mp z2.symm
      rw [w.2.1] at this; cases this
  · rw [if_neg z]
    simp (disch := omega) only [i_0, i_1, i_2, i_3, i_4, i_5, i_6, i_7, i_8, i_9, i_10, i_11, i_12, i_13, i_16, i_19, i_20, i_21, i_22, i_23, i_24, i_25, i_30, i_31, i_32, i_39, i_40, i_41, i_42, i_43, i_44, i_45, i_47, i_48, i_49, i_50, i_51, i_52, i_57, i_59, i_60, i_61, i_62, i_63, i_64, i_71, i_72, i_80, i_91, i_93, i_97, i_99, i_100, i_122, i_227, i_228, i_232, i_251, i_255, i_256, i_463, i_999, i_1000, i_1519, i_1600, i_9999, i_100000000, i_2147483639, i_2147483647, neg_nI1, nI_add, pk_mul, nI_remL, pk_sub, pk_div, nI_clamp, nI_leI, nI_ltI, nI_eq, vpT, nI_m1, m1_nI, nI_lem1, m1_le, m1_lt, nI_ltm1, nI_bit, nI_shl, nI_xor, nI_or, n_rem, forall_eq, true_and, and_true, implies_true, true_implies, false_implies, not_true_eq_false, not_false_eq_true, Nat.zero_add, Nat.add_zero, ite_true, ite_false, if_true, if_false, true_or, or_true, false_or, or_false, and_self, and_false, false_and, Nat.reduceEqDiff, reduceIte]
    exact hn (fun w => z w.1)
