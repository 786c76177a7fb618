/-! THE SYSTEM: what is kept; one is asked; days -/
theorem fP_sA (σ : FS) (a k : Nat) (v : Int32) : fP (sA σ a k v) = fP σ := rfl
theorem fP_sI (σ : FS) (a k : Nat) (v : Int32) : fP (sI σ a k v) = fP σ := rfl
theorem fP_sB (σ : FS) (a k : Nat) (v : Int64) : fP (sB σ a k v) = fP σ := rfl
theorem fI_sP (σ : FS) (a k v : Nat) : fI (sP σ a k v) = fI σ := rfl
theorem fA_sP (σ : FS) (a k v : Nat) : fA (sP σ a k v) = fA σ := rfl
/-- the rows of an object hold these -/
def xRw (σ : FS) (o : Nat) (l : List (Nat × Nat × Nat × Nat)) : Prop := ∀ (k : Nat) r, l[k]? = some r → fA σ (fP σ (rK o) k) 0 = nI r.1 ∧ fA σ (fP σ (rK o) k) 1 = nI r.2.1 ∧ fA σ (fP σ (rK o) k) 2 = nI r.2.2.1 ∧ fA σ (fP σ (rK o) k) 3 = nI r.2.2.2
theorem xl_tells68 {ν : XN} {o d p t m : Nat} {l : List (Nat × Nat × Nat × Nat)} {Q : XN → Prop} (h1 : 10 ≤ o) (h2 : o < 36) (hr : xRk ν.1 o) (hn : fI ν.1 o 1 = nI l.length) (hl : l.length < 40) (h0 : fI ν.1 o 0 = nI d) (hw : xRw ν.1 o l)
    (hQ : ∀ ν', XGo o ν.1 ν'.1 → ν'.2 = ν.2 → fI ν'.1 o 0 = nI d → fI ν'.1 o 1 = nI (l.length + 1) → fP ν'.1 = fP ν.1 → (∀ a, (∀ i, i < 40 → a ≠ fP ν.1 (rK o) i) → fA ν'.1 a = fA ν.1 a) → xRw ν'.1 o (l ++ [(d, p, t, m)]) → Q ν') : xw_X5_tells_68 o (nI p) (nI t) (nI m) ν Q := by
  obtain ⟨kr1, kr2, kr3⟩ := xk_r h1 h2
  obtain ⟨r1, r2⟩ := hr.ok h1 h2 hl
  have rd := (hr.ne hl).2.2.2.2
  unfold xw_X5_tells_68
  simp only [kr1, kr2, kr3, xoc_st h1 h2]
  simp (disch := omega) only [i_0, i_1, i_2, i_3, i_4, i_5, i_6, i_7, i_8, i_9, i_10, i_11, i_12, i_13, i_16, i_19, i_20, i_21, i_22, i_23, i_24, i_25, i_30, i_31, i_32, i_39, i_40, i_41, i_42, i_43, i_44, i_45, i_47, i_48, i_49, i_50, i_51, i_52, i_57, i_59, i_60, i_61, i_62, i_63, i_64, i_71, i_72, i_80, i_91, i_93, i_97, i_99, i_100, i_122, i_227, i_228, i_232, i_251, i_255, i_256, i_463, i_999, i_1000, i_1519, i_1600, i_9999, i_100000000, i_2147483639, i_2147483647, neg_nI1, nI_add, pk_mul, nI_remL, pk_sub, pk_div, nI_clamp, nI_leI, nI_ltI, nI_eq, vpT, nI_m1, m1_nI, nI_lem1, m1_le, m1_lt, nI_ltm1, nI_bit, nI_shl, nI_xor, nI_or, n_rem, forall_eq, true_and, and_true, implies_true, true_implies, false_implies, not_true_eq_false, not_false_eq_true, Nat.zero_add, Nat.add_zero, ite_true, ite_false, if_true, if_false, true_or, or_true, false_or, or_false, and_self, and_false, false_and, Nat.reduceEqDiff, reduceIte, hn, h0, fI_sA, fP_sA, r1, r2]
  refine hQ _ ((XGo.sA _ _ _ rd).trans ((XGo.sA _ _ _ rd).trans ((XGo.sA _ _ _ rd).trans ((XGo.sA _ _ _ rd).trans (XGo.sI _ _ _ (by decide)))))) rfl ?_ ?_ rfl ?_ ?_
  · rw [fI_sI, if_neg (by omega)]; exact h0
  · rw [fI_sI, if_pos ⟨rfl, rfl⟩]
  · intro a ha
    funext i
    have := ha _ hl
    rw [fA_sI, fA_sA, if_neg (fun q => this q.1), fA_sA, if_neg (fun q => this q.1), fA_sA, if_neg (fun q => this q.1), fA_sA, if_neg (fun q => this q.1)]
  · intro k r hk
    simp only [fP_sI, fP_sA, fA_sI]
    rcases Nat.lt_or_ge k l.length with z | z
    · rw [List.getElem?_append_left z] at hk
      have hne : fP ν.1 (rK o) k ≠ fP ν.1 (rK o) l.length := fun q => by
        have := hr.2 _ _ (by omega) hl q
        omega
      simp only [fA_sA, hne, false_and, if_false]
      exact hw k r hk
    · rw [List.getElem?_append_right z] at hk
      have hk0 : k = l.length := by
        rcases Nat.lt_or_ge l.length k with y | y
        · rw [List.getElem?_eq_none (by simp; omega)] at hk; cases hk
        · omega
      subst hk0
      simp at hk
      subst hk
      simp [fA_sA]
theorem keep_lt {l : List (Nat × Nat × Nat × Nat)} {r : Nat × Nat × Nat × Nat} (h : l.length ≠ 40) : keep l r = l ++ [r] := by unfold keep; rw [if_neg h]
theorem keep_eq {l : List (Nat × Nat × Nat × Nat)} {r : Nat × Nat × Nat × Nat} (h : l.length = 40) : keep l r = l.drop 1 ++ [r] := by unfold keep; rw [if_pos h]
theorem xl_tells {ν : XN} {o d p t m : Nat} {l : List (Nat × Nat × Nat × Nat)} {Q : XN → Prop} (h1 : 10 ≤ o) (h2 : o < 36) (hr : xRk ν.1 o) (hn : fI ν.1 o 1 = nI l.length) (hl : l.length ≤ 40) (h0 : fI ν.1 o 0 = nI d) (hw : xRw ν.1 o l)
    (hQ : ∀ ν', XGo o ν.1 ν'.1 → ν'.2 = ν.2 → fI ν'.1 o 0 = nI d → fI ν'.1 o 1 = nI (keep l (d, p, t, m)).length → xRk ν'.1 o → (∀ a, (∀ i, i < 40 → a ≠ fP ν.1 (rK o) i) → fA ν'.1 a = fA ν.1 a) → xRw ν'.1 o (keep l (d, p, t, m)) → Q ν') : xw_X5_tells o (nI p) (nI t) (nI m) ν Q := by
  obtain ⟨kr1, kr2, kr3⟩ := xk_r h1 h2
  unfold xw_X5_tells
  simp only [kr1, kr2, kr3, xoc_st h1 h2]
  simp (disch := omega) only [i_0, i_1, i_2, i_3, i_4, i_5, i_6, i_7, i_8, i_9, i_10, i_11, i_12, i_13, i_16, i_19, i_20, i_21, i_22, i_23, i_24, i_25, i_30, i_31, i_32, i_39, i_40, i_41, i_42, i_43, i_44, i_45, i_47, i_48, i_49, i_50, i_51, i_52, i_57, i_59, i_60, i_61, i_62, i_63, i_64, i_71, i_72, i_80, i_91, i_93, i_97, i_99, i_100, i_122, i_227, i_228, i_232, i_251, i_255, i_256, i_463, i_999, i_1000, i_1519, i_1600, i_9999, i_100000000, i_2147483639, i_2147483647, neg_nI1, nI_add, pk_mul, nI_remL, pk_sub, pk_div, nI_clamp, nI_leI, nI_ltI, nI_eq, vpT, nI_m1, m1_nI, nI_lem1, m1_le, m1_lt, nI_ltm1, nI_bit, nI_shl, nI_xor, nI_or, n_rem, forall_eq, true_and, and_true, implies_true, true_implies, false_implies, not_true_eq_false, not_false_eq_true, Nat.zero_add, Nat.add_zero, ite_true, ite_false, if_true, if_false, true_or, or_true, false_or, or_false, and_self, and_false, false_and, Nat.reduceEqDiff, reduceIte, hn]
  refine ⟨fun z => ?_, fun z => ?_⟩
  · rw [keep_lt z] at hQ
    refine xl_tells68 h1 h2 hr hn (by omega) h0 hw (fun ν' g e e0 e1 eP eA ew => hQ ν' g e e0 (by rw [e1]; simp) ?_ eA ew)
    unfold xRk; rw [eP]; exact hr
  · rw [keep_eq z] at hQ
    unfold xw_X5_tells_20
    intro X hX
    have key : ∀ n k (ν2 : XN), 40 - k = n → 1 ≤ k → k ≤ 40 → (∀ i, i < 40 → fP ν2.1 (rK o) i = fP ν.1 (rK o) (if i + 1 < k then i + 1 else i)) → XGo o ν.1 ν2.1 → ν2.2 = ν.2 → fI ν2.1 = fI ν.1 → fA ν2.1 = fA ν.1 → X o (nI p) (nI t) (nI m) (fP ν.1 (rK o) 0) (nI k) ν2 := by
      intro n
      induction n with
      | zero =>
        intro k ν2 hn1 hk1 hk2 hf g e eI eA
        refine hX _ _ _ _ _ _ _ ⟨fun _ => ?_, fun q => absurd ((nI_leI (by omega) (by omega)).mpr (by omega) : nI 40 ≤ nI k) q⟩
        simp only [kr1, kr2, kr3, xoc_st h1 h2]
        have hi1 : fI ν2.1 o 1 = nI 40 := by rw [eI, hn, z]
        simp (disch := omega) only [i_0, i_1, i_2, i_3, i_4, i_5, i_6, i_7, i_8, i_9, i_10, i_11, i_12, i_13, i_16, i_19, i_20, i_21, i_22, i_23, i_24, i_25, i_30, i_31, i_32, i_39, i_40, i_41, i_42, i_43, i_44, i_45, i_47, i_48, i_49, i_50, i_51, i_52, i_57, i_59, i_60, i_61, i_62, i_63, i_64, i_71, i_72, i_80, i_91, i_93, i_97, i_99, i_100, i_122, i_227, i_228, i_232, i_251, i_255, i_256, i_463, i_999, i_1000, i_1519, i_1600, i_9999, i_100000000, i_2147483639, i_2147483647, neg_nI1, nI_add, pk_mul, nI_remL, pk_sub, pk_div, nI_clamp, nI_leI, nI_ltI, nI_eq, vpT, nI_m1, m1_nI, nI_lem1, m1_le, m1_lt, nI_ltm1, nI_bit, nI_shl, nI_xor, nI_or, n_rem, forall_eq, true_and, and_true, implies_true, true_implies, false_implies, not_true_eq_false, not_false_eq_true, Nat.zero_add, Nat.add_zero, ite_true, ite_false, if_true, if_false, true_or, or_true, false_or, or_false, and_self, and_false, false_and, Nat.reduceEqDiff, reduceIte, hi1, fI_sP, (hr.ok h1 h2 (show 0 < 40 by decide)).1]
        have hf3 : ∀ i, i < 40 → fP (sI (sP ν2.1 (rK o) 39 (fP ν.1 (rK o) 0)) o 1 (nI (40 - 1))) (rK o) i = fP ν.1 (rK o) (if i < 39 then i + 1 else 0) := by
          intro i hi
          rw [fP_sI, fP_sP]
          by_cases z9 : i = 39
          · rw [if_pos ⟨rfl, z9⟩, if_neg (by omega)]
          · rw [if_neg (fun q => z9 q.2), hf i hi, if_pos (by omega), if_pos (by omega)]
        have hr3 : xRk (sI (sP ν2.1 (rK o) 39 (fP ν.1 (rK o) 0)) o 1 (nI (40 - 1))) o := by
          refine ⟨fun i hi => ?_, fun i i' hi hi' q => ?_⟩
          · rw [hf3 i hi]; exact hr.1 _ (by split <;> omega)
          · rw [hf3 i hi, hf3 i' hi'] at q
            have := hr.2 _ _ (by split <;> omega) (by split <;> omega) q
            split at this <;> split at this <;> omega
        have hd1 : (l.drop 1).length = 39 := by rw [List.length_drop, z]
        refine xl_tells68 (l := l.drop 1) h1 h2 hr3 ?_ (by omega) ?_ ?_ (fun ν' g' e' e0 e1 eP eA' ew => hQ ν' ((g.trans ((XGo.sP _ _ _).trans (XGo.sI _ _ _ (by decide)))).trans g') (e'.trans e) e0 (by rw [e1]; simp) ?_ ?_ ew)
        · show fI (sI _ o 1 _) o 1 = _
          rw [fI_sI, if_pos ⟨rfl, rfl⟩, hd1]
        · show fI (sI _ o 1 _) o 0 = _
          rw [fI_sI, if_neg (by omega), fI_sP, eI]; exact h0
        · intro i r hir
          have hi : i < 39 := by
            have := (List.getElem?_eq_some_iff.mp hir).1
            omega
          rw [List.getElem?_drop] at hir
          rw [hf3 i (by omega), if_pos hi]
          show fA ν2.1 _ 0 = _ ∧ fA ν2.1 _ 1 = _ ∧ fA ν2.1 _ 2 = _ ∧ fA ν2.1 _ 3 = _
          rw [eA]
          have := hw (i + 1) r (by rw [Nat.add_comm]; exact hir)
          exact this
        · unfold xRk; rw [eP]; exact hr3
        · intro a ha
          refine (eA' a (fun i hi => ?_)).trans (by show fA ν2.1 a = _; rw [eA])
          rw [hf3 i hi]
          exact ha _ (by split <;> omega)
      | succ n ih =>
        intro k ν2 hn1 hk1 hk2 hf g e eI eA
        refine hX _ _ _ _ _ _ _ ⟨fun q => ?_, fun _ => ?_⟩
        · have q2 : nI 40 ≤ nI k := q
          rw [nI_leI (by omega) (by omega)] at q2; omega
        · simp only [kr1, kr2, kr3, xoc_st h1 h2]
          have hkk := hf k (by omega)
          rw [if_neg (by omega)] at hkk
          simp (disch := omega) only [i_0, i_1, i_2, i_3, i_4, i_5, i_6, i_7, i_8, i_9, i_10, i_11, i_12, i_13, i_16, i_19, i_20, i_21, i_22, i_23, i_24, i_25, i_30, i_31, i_32, i_39, i_40, i_41, i_42, i_43, i_44, i_45, i_47, i_48, i_49, i_50, i_51, i_52, i_57, i_59, i_60, i_61, i_62, i_63, i_64, i_71, i_72, i_80, i_91, i_93, i_97, i_99, i_100, i_122, i_227, i_228, i_232, i_251, i_255, i_256, i_463, i_999, i_1000, i_1519, i_1600, i_9999, i_100000000, i_2147483639, i_2147483647, neg_nI1, nI_add, pk_mul, nI_remL, pk_sub, pk_div, nI_clamp, nI_leI, nI_ltI, nI_eq, vpT, nI_m1, m1_nI, nI_lem1, m1_le, m1_lt, nI_ltm1, nI_bit, nI_shl, nI_xor, nI_or, n_rem, forall_eq, true_and, and_true, implies_true, true_implies, false_implies, not_true_eq_false, not_false_eq_true, Nat.zero_add, Nat.add_zero, ite_true, ite_false, if_true, if_false, true_or, or_true, false_or, or_false, and_self, and_false, false_and, Nat.reduceEqDiff, reduceIte, hkk, (hr.ok h1 h2 (show k < 40 by omega)).1]
          refine ih (k + 1) _ (by omega) (by omega) (by omega) (fun i hi => ?_) (g.trans (XGo.sP _ _ _)) e eI eA
          show fP (sP ν2.1 (rK o) (k - 1) (fP ν.1 (rK o) k)) (rK o) i = _
          rw [fP_sP]
          by_cases z9 : i = k - 1
          · rw [if_pos ⟨rfl, z9⟩, if_pos (by omega), show i + 1 = k from by omega]
          · rw [if_neg (fun q => z9 q.2), hf i hi]
            by_cases z8 : i + 1 < k
            · rw [if_pos z8, if_pos (by omega)]
            · rw [if_neg z8, if_neg (by omega)]
    exact key 39 1 ν rfl (by decide) (by decide) (fun i hi => by rw [if_neg (by omega)]) (XGo.refl _ _) rfl rfl rfl
theorem xl_shr {VA : Nat → Nat → XN → (Int64 → XN → Prop) → Prop} {TA : Nat → Nat → XN → (Int32 → XN → Prop) → Prop} {ν : XN} {o p t m v : Nat} {P : Pl} {s : St} {Q : Int32 → XN → Prop} (h1 : 10 ≤ o) (h2 : o < 36) (hs : xSt ν.1 o P s) (hp : p < nP P) (hp7 : nP P ≤ 7) (hv : v ≤ 9)
    (hQ : ∀ ν', XGo o ν.1 ν'.1 → ν'.2 = ν.2 → xSt ν'.1 o P (zD s, zH s, zA s, up (zT s) p v, zK s, keep (zE s) (zD s, p, t, m)) → Q (nI m) ν') : xw_X5_shrugs_103 VA TA o (nI p) (nI t) (nI m) (nI v) (nI p) (tK' o) ν Q := by
  obtain ⟨kt1, kt2, kt3⟩ := xk_t h1 h2
  obtain ⟨s1, s2, s3, s4, s5, s6, s7⟩ := hs
  unfold xw_X5_shrugs_103
  simp only [kt2, kt3, xoc_st h1 h2]
  simp (disch := omega) only [i_0, i_1, i_2, i_3, i_4, i_5, i_6, i_7, i_8, i_9, i_10, i_11, i_12, i_13, i_16, i_19, i_20, i_21, i_22, i_23, i_24, i_25, i_30, i_31, i_32, i_39, i_40, i_41, i_42, i_43, i_44, i_45, i_47, i_48, i_49, i_50, i_51, i_52, i_57, i_59, i_60, i_61, i_62, i_63, i_64, i_71, i_72, i_80, i_91, i_93, i_97, i_99, i_100, i_122, i_227, i_228, i_232, i_251, i_255, i_256, i_463, i_999, i_1000, i_1519, i_1600, i_9999, i_100000000, i_2147483639, i_2147483647, neg_nI1, nI_add, pk_mul, nI_remL, pk_sub, pk_div, nI_clamp, nI_leI, nI_ltI, nI_eq, vpT, nI_m1, m1_nI, nI_lem1, m1_le, m1_lt, nI_ltm1, nI_bit, nI_shl, nI_xor, nI_or, n_rem, forall_eq, true_and, and_true, implies_true, true_implies, false_implies, not_true_eq_false, not_false_eq_true, Nat.zero_add, Nat.add_zero, ite_true, ite_false, if_true, if_false, true_or, or_true, false_or, or_false, and_self, and_false, false_and, Nat.reduceEqDiff, reduceIte]
  refine xl_tells (l := zE s) (d := zD s) h1 h2 s6 s3 s1.2.2.2 s2 ?_ (fun ν' g e e0 e1 er eA ew => hQ ν' ((XGo.sA _ _ _ kdiv.2.2.1).trans g) e ?_)
  · intro k r hk
    have hk4 : k < 40 := Nat.lt_of_lt_of_le (List.getElem?_eq_some_iff.mp hk).1 s1.2.2.2
    have := (s6.ne hk4).2.2.1
    simp only [fP_sA, fA_sA, this, false_and, if_false]
    exact s7 k r hk
  · have hne : ∀ a, (a = hK o ∨ a = aK o ∨ a = tK' o ∨ a = kK o) → ∀ i, i < 40 → a ≠ fP (sA ν.1 (tK' o) p (nI v)) (rK o) i := by
      intro a ha i hi
      have := s6.ne hi
      rw [fP_sA]
      rcases ha with rfl | rfl | rfl | rfl
      · exact this.1.symm
      · exact this.2.1.symm
      · exact this.2.2.1.symm
      · exact this.2.2.2.1.symm
    have eh := eA _ (hne (hK o) (Or.inl rfl))
    have ea := eA _ (hne (aK o) (Or.inr (Or.inl rfl)))
    have et := eA _ (hne (tK' o) (Or.inr (Or.inr (Or.inl rfl))))
    have ek := eA _ (hne (kK o) (Or.inr (Or.inr (Or.inr rfl))))
    refine ⟨⟨s1.1, s1.2.1, fun q hq => ⟨(s1.2.2.1 q hq).1, ?_, (s1.2.2.1 q hq).2.2⟩, keep_len s1.2.2.2 _⟩, e0, e1, fun c hc => ?_, fun q hq => ⟨?_, ?_, ?_⟩, er, ew⟩
    · show up (zT s) p v q ≤ 9
      unfold up
      split
      · exact hv
      · exact (s1.2.2.1 q hq).2.1
    · rw [eh, fA_sA, if_neg (fun z => kne.2.1 z.1)]; exact s4 c hc
    · rw [ea, fA_sA, if_neg (fun z => kne.2.2.2.1 z.1)]; exact (s5 q hq).1
    · rw [et, fA_sA]
      show _ = nI (up (zT s) p v q)
      unfold up
      by_cases z : q = p
      · rw [if_pos ⟨rfl, z⟩, if_pos z]
      · rw [if_neg (fun w => z w.2), if_neg z]; exact (s5 q hq).2.1
    · rw [ek, fA_sA, if_neg (fun z => kne.2.2.2.2.2 z.1.symm)]; exact (s5 q hq).2.2
theorem xl_liftN {VA : Nat → Nat → XN → (Int64 → XN → Prop) → Prop} {TA : Nat → Nat → XN → (Int32 → XN → Prop) → Prop} {ν : XN} {o b c : Nat} {x1 x2 : Int32} {P : Pl} {Q : Int32 → XN → Prop} (h1 : 10 ≤ o) (h2 : o < 36) (hC : xPb ν b P) (hc : ¬ isC P c) (hc2 : c < 100000) (hQ : Q (nI 0) ν) : xw_X5_lifted VA TA o x1 x2 (nI c) ν Q := by
  unfold xw_X5_lifted
  exact ⟨xoc_st h1 h2, xl_isCellN hC hc2 (fun z => absurd z hc) (fun _ => ⟨fun _ => hQ, fun q => absurd rfl q⟩)⟩
theorem xl_liftM {VA : Nat → Nat → XN → (Int64 → XN → Prop) → Prop} {TA : Nat → Nat → XN → (Int32 → XN → Prop) → Prop} {ν : XN} {o : Nat} {x1 x2 : Int32} {Q : Int32 → XN → Prop} (h1 : 10 ≤ o) (h2 : o < 36) (hQ : Q (nI 0) ν) : xw_X5_lifted VA TA o x1 x2 (nI 0 - 1) ν Q := by
  unfold xw_X5_lifted xw_X0_isCell
  exact ⟨xoc_st h1 h2, fun _ => ⟨fun _ => hQ, fun q => absurd rfl q⟩, fun q => absurd (by decide) q⟩
theorem xl_liftL {VA : Nat → Nat → XN → (Int64 → XN → Prop) → Prop} {TA : Nat → Nat → XN → (Int32 → XN → Prop) → Prop} {ν : XN} {o p t b : Nat} {P : Pl} {s : St} {Q : Int32 → XN → Prop} (h1 : 10 ≤ o) (h2 : o < 36) (hC : xCx VA TA ν b P) (hs : xSt ν.1 o P s) (hp : p < nP P) (ht : t < nT P)
    (hQ : ∀ ν', XGo o ν.1 ν'.1 → ν'.2 = ν.2 → xSt ν'.1 o P (zS1 P s p t) → Q (nI (zLl P s p t).1) ν') : xw_X5_lifted VA TA o (nI p) (nI t) (nI (zA s p) - 1) ν Q := by
  have hP := hC.2.1
  have c1 := (hs.1.2.2.1 p hp).1
  have hol := isC_lt hP c1
  have h7 := hP.1
  unfold zS1 zLl at hQ
  by_cases z : 0 < zA s p % 8
  · rw [if_pos z] at hQ
    rw [i_1, pk_sub (by omega)]
    have c2 := c1.1
    have c3 := c1.2
    exact xl_lifted h1 h2 hC hs hp ht ⟨by omega, by omega⟩ ⟨by omega, by omega, by omega⟩ hQ
  · rw [if_neg z] at hQ
    have h9 := hQ ν (XGo.refl _ _) rfl hs
    rcases Nat.eq_zero_or_pos (zA s p) with z0 | z0
    · rw [z0]; exact xl_liftM h1 h2 h9
    · rw [i_1, pk_sub (by omega)]
      exact xl_liftN h1 h2 hC.1 (fun q => by have := q.1; omega) (by omega) h9
theorem xl_liftR {VA : Nat → Nat → XN → (Int64 → XN → Prop) → Prop} {TA : Nat → Nat → XN → (Int32 → XN → Prop) → Prop} {ν : XN} {o p t b : Nat} {P : Pl} {s : St} {Q : Int32 → XN → Prop} (h1 : 10 ≤ o) (h2 : o < 36) (hC : xCx VA TA ν b P) (hs : xSt ν.1 o P s) (hp : p < nP P) (ht : t < nT P)
    (hQ : ∀ ν', XGo o ν.1 ν'.1 → ν'.2 = ν.2 → xSt ν'.1 o P (setH s (zLr P s p t).2) → Q (nI (zLr P s p t).1) ν') : xw_X5_lifted VA TA o (nI p) (nI t) (nI (zA s p) + 1) ν Q := by
  have hP := hC.2.1
  have c1 := (hs.1.2.2.1 p hp).1
  have hol := isC_lt hP c1
  have h7 := hP.1
  unfold zLr at hQ
  rw [i_1, nI_add]
  have c2 := c1.1
  have c3 := c1.2
  by_cases z : zA s p % 8 + 1 < plC P
  · rw [if_pos z] at hQ
    exact xl_lifted h1 h2 hC hs hp ht ⟨by omega, by omega⟩ ⟨by omega, by omega, by omega⟩ hQ
  · rw [if_neg z] at hQ
    exact xl_liftN h1 h2 hC.1 (fun q => by have := q.1; omega) (by omega) (hQ ν (XGo.refl _ _) rfl hs)
theorem xl_shrugs {VA : Nat → Nat → XN → (Int64 → XN → Prop) → Prop} {TA : Nat → Nat → XN → (Int32 → XN → Prop) → Prop} {ν : XN} {o p t b : Nat} {P : Pl} {s : St} {Q : Int32 → XN → Prop} (h1 : 10 ≤ o) (h2 : o < 36) (hC : xCx VA TA ν b P) (hs : xSt ν.1 o P s) (hp : p < nP P) (ht : t < nT P)
    (hQ : ∀ ν', XGo o ν.1 ν'.1 → ν'.2 = ν.2 → xSt ν'.1 o P (zSh P s p t) → Q (nI (zMu P s p t)) ν') : xw_X5_shrugs VA TA o (nI p) (nI t) ν Q := by
  have hP := hC.2.1
  obtain ⟨ka1, ka2, ka3⟩ := xk_a h1 h2
  obtain ⟨kt1, kt2, kt3⟩ := xk_t h1 h2
  have h7 := hP.2.2.2.2.1
  have h5 := hP.2.2.2.1
  have a1 := (hs.2.2.2.2.1 p hp).1
  have vin : vp_in (nI p) 7 := vp_in_nI (by omega) (by decide)
  unfold xw_X5_shrugs
  simp only [ka1, ka2, ka3, kt1, kt2, kt3, xoc_st h1 h2, vin, true_and, nI_clamp (show p < 2 ^ 31 by omega), a1]
  refine xl_liftL h1 h2 hC hs hp ht (fun ν1 g1 e1 hs1 => ?_)
  have a2 : fA ν1.1 (aK o) p = nI (zA (zS1 P s p t) p) := (hs1.2.2.2.2.1 p hp).1
  rw [a2]
  have hC1 : xCx VA TA ν1 b P := hC.e g1.r e1
  refine xl_liftR h1 h2 hC1 hs1 hp ht (fun ν2 g2 e2 hs2 => ?_)
  have hC2 : xCx VA TA ν2 b P := hC1.e g2.r e2
  have hs2' : xSt ν2.1 o P (zS2 P s p t) := hs2
  have hmu : nI (zLl P s p t).1 + nI (zLr P (zS1 P s p t) p t).1 = nI (zMu P s p t) := nI_add _ _
  rw [hmu]
  refine xl_asks h1 h2 hP hs2' hp (by omega) (fun ν3 hB e3 hv => ?_)
  have hb := hC2.1.b hB e3
  have hs3 := hs2'.b hB
  have hG : XGo o ν.1 ν3.1 := (g1.trans g2).trans hB.g
  have eG : ν3.2 = ν.2 := e3.trans (e2.trans e1)
  refine ⟨b, hb.1, hb.2.1, ?_⟩
  have a5 : fA ν3.1 (tK' o) p = nI (zT (zS2 P s p t) p) := (hs3.2.2.2.2.1 p hp).2.1
  have hT9 := (hs3.1.2.2.1 p hp).2.1
  have fin : ∀ (ν4 : XN), ν4 = ν3 → xw_X5_shrugs_103 VA TA o (nI p) (nI t) (nI (zMu P s p t)) (nI (zTi P (zS2 P s p t) p t)) (nI p) (tK' o) ν4 Q := by
    intro ν4 h4
    subst h4
    refine xl_shr h1 h2 hs3 hp h7 ?_ (fun ν' g e hs' => hQ ν' (hG.trans g) (e.trans eG) hs')
    unfold zTi
    split
    · omega
    · exact cut9_le _
  unfold zTi at fin
  rw [e3]
  rcases hC2.2.2.1.2.1 with ⟨x1, x2⟩ | ⟨cs, a, x1, x2, x3⟩
  · rw [x1] at fin
    rw [x2]
    refine ⟨fun _ => ?_, fun b12 q => by cases q⟩
    rw [a5]
    unfold xw_J12_min
    simp (disch := omega) only [i_0, i_1, i_2, i_3, i_4, i_5, i_6, i_7, i_8, i_9, i_10, i_11, i_12, i_13, i_16, i_19, i_20, i_21, i_22, i_23, i_24, i_25, i_30, i_31, i_32, i_39, i_40, i_41, i_42, i_43, i_44, i_45, i_47, i_48, i_49, i_50, i_51, i_52, i_57, i_59, i_60, i_61, i_62, i_63, i_64, i_71, i_72, i_80, i_91, i_93, i_97, i_99, i_100, i_122, i_227, i_228, i_232, i_251, i_255, i_256, i_463, i_999, i_1000, i_1519, i_1600, i_9999, i_100000000, i_2147483639, i_2147483647, neg_nI1, nI_add, pk_mul, nI_remL, pk_sub, pk_div, nI_clamp, nI_leI, nI_ltI, nI_eq, vpT, nI_m1, m1_nI, nI_lem1, m1_le, m1_lt, nI_ltm1, nI_bit, nI_shl, nI_xor, nI_or, n_rem, forall_eq, true_and, and_true, implies_true, true_implies, false_implies, not_true_eq_false, not_false_eq_true, Nat.zero_add, Nat.add_zero, ite_true, ite_false, if_true, if_false, true_or, or_true, false_or, or_false, and_self, and_false, false_and, Nat.reduceEqDiff, reduceIte]
    have f9 := fin ν3 rfl
    simp only [] at f9
    refine ⟨fun q => ?_, fun q => ?_⟩
    · rw [show min 9 (zT (zS2 P s p t) p + 1) = zT (zS2 P s p t) p + 1 by omega] at f9; exact f9
    · rw [show min 9 (zT (zS2 P s p t) p + 1) = 9 by omega] at f9; exact f9
  · rw [x1] at fin
    rw [x2]
    refine ⟨fun q => (by cases q), fun b12 q => ⟨b, hb.1, e3 ▸ hb.2.1, a, x2, ?_⟩⟩
    refine x3 ν3 (zPt (zS2 P s p t) p t 0) _ e3 (fun i hi ha => ⟨hv 0 i (by simp [al0] at ha; omega), zPt_in hP hs3.1 hp (by omega) (by decide) i hi⟩) ?_
    have hty := (hP.2.2.2.2.2.2.2.2.1 cs x1).1
    have hv := evV_in hP hs3.1 hp (show t < 1000 by omega) (show 0 < 1000 by decide) hty
    exact xl_cut (v := evV (zPt (zS2 P s p t) p t 0) lk0 cs) (Q := fun r ν' => xw_X5_shrugs_103 VA TA o (nI p) (nI t) (nI (zMu P s p t)) r (nI p) (tK' o) ν' Q) (by omega) (by omega) (fin ν3 rfl)
theorem xl_asked {VA : Nat → Nat → XN → (Int64 → XN → Prop) → Prop} {TA : Nat → Nat → XN → (Int32 → XN → Prop) → Prop} {ν : XN} {o p t b sil : Nat} {P : Pl} {s : St} {Q : Int32 → XN → Prop} (h1 : 10 ≤ o) (h2 : o < 36) (hC : xCx VA TA ν b P) (hs : xSt ν.1 o P s) (hsi : fI ν.1 o 2 = nI sil) (hsl : sil < 128) (hp : p < nP P) (ht : t < nT P)
    (hQ : ∀ ν', XGo o ν.1 ν'.1 → ν'.2 = ν.2 → xSt ν'.1 o P (zAs P sil s p t) → Q (nI (zWo P sil s p t)) ν') : xw_X5_asked VA TA o (nI p) (nI t) ν Q := by
  unfold xw_X5_asked
  refine ⟨xoc_st h1 h2, xl_would h1 h2 hC hs hsi hsl hp ht (fun ν1 hB e1 => ?_)⟩
  have hw := zWo_lt P sil s p t
  have hs1 := hs.b hB
  have hC1 : xCx VA TA ν1 b P := hC.e hB.2.2.2.2.2 e1
  unfold zAs at hQ
  simp (disch := omega) only [i_0, i_1, i_2, i_3, i_4, i_5, i_6, i_7, i_8, i_9, i_10, i_11, i_12, i_13, i_16, i_19, i_20, i_21, i_22, i_23, i_24, i_25, i_30, i_31, i_32, i_39, i_40, i_41, i_42, i_43, i_44, i_45, i_47, i_48, i_49, i_50, i_51, i_52, i_57, i_59, i_60, i_61, i_62, i_63, i_64, i_71, i_72, i_80, i_91, i_93, i_97, i_99, i_100, i_122, i_227, i_228, i_232, i_251, i_255, i_256, i_463, i_999, i_1000, i_1519, i_1600, i_9999, i_100000000, i_2147483639, i_2147483647, neg_nI1, nI_add, pk_mul, nI_remL, pk_sub, pk_div, nI_clamp, nI_leI, nI_ltI, nI_eq, vpT, nI_m1, m1_nI, nI_lem1, m1_le, m1_lt, nI_ltm1, nI_bit, nI_shl, nI_xor, nI_or, n_rem, forall_eq, true_and, and_true, implies_true, true_implies, false_implies, not_true_eq_false, not_false_eq_true, Nat.zero_add, Nat.add_zero, ite_true, ite_false, if_true, if_false, true_or, or_true, false_or, or_false, and_self, and_false, false_and, Nat.reduceEqDiff, reduceIte]
  refine ⟨fun z => ?_, fun z => ?_⟩
  · rw [if_neg z] at hQ
    exact hQ ν1 hB.g e1 hs1
  · rw [if_pos z] at hQ
    exact xl_shrugs h1 h2 hC1 hs1 hp ht (fun ν2 g2 e2 hs2 => hQ ν2 (hB.g.trans g2) (e2.trans e1) hs2)
theorem xl_lifts {VA : Nat → Nat → XN → (Int64 → XN → Prop) → Prop} {TA : Nat → Nat → XN → (Int32 → XN → Prop) → Prop} {ν : XN} {o p t b sil : Nat} {P : Pl} {s : St} {Q : Int32 → XN → Prop} (h1 : 10 ≤ o) (h2 : o < 36) (hC : xCx VA TA ν b P) (hs : xSt ν.1 o P s) (hsi : fI ν.1 o 2 = nI sil) (hsl : sil < 128) (hp : p < nP P) (ht : t < nT P)
    (hQ : ∀ ν', XGo o ν.1 ν'.1 → ν'.2 = ν.2 → xSt ν'.1 o P (zAs P sil s p t) → Q (nI (zAm P sil s p t)) ν') : xw_X5_lifts VA TA o (nI p) (nI t) ν Q := by
  unfold xw_X5_lifts
  refine ⟨xoc_st h1 h2, xl_would h1 h2 hC hs hsi hsl hp ht (fun ν1 hB e1 => ?_)⟩
  have hw := zWo_lt P sil s p t
  have hs1 := hs.b hB
  have hC1 : xCx VA TA ν1 b P := hC.e hB.2.2.2.2.2 e1
  unfold zAs zAm at hQ
  simp (disch := omega) only [i_0, i_1, i_2, i_3, i_4, i_5, i_6, i_7, i_8, i_9, i_10, i_11, i_12, i_13, i_16, i_19, i_20, i_21, i_22, i_23, i_24, i_25, i_30, i_31, i_32, i_39, i_40, i_41, i_42, i_43, i_44, i_45, i_47, i_48, i_49, i_50, i_51, i_52, i_57, i_59, i_60, i_61, i_62, i_63, i_64, i_71, i_72, i_80, i_91, i_93, i_97, i_99, i_100, i_122, i_227, i_228, i_232, i_251, i_255, i_256, i_463, i_999, i_1000, i_1519, i_1600, i_9999, i_100000000, i_2147483639, i_2147483647, neg_nI1, nI_add, pk_mul, nI_remL, pk_sub, pk_div, nI_clamp, nI_leI, nI_ltI, nI_eq, vpT, nI_m1, m1_nI, nI_lem1, m1_le, m1_lt, nI_ltm1, nI_bit, nI_shl, nI_xor, nI_or, n_rem, forall_eq, true_and, and_true, implies_true, true_implies, false_implies, not_true_eq_false, not_false_eq_true, Nat.zero_add, Nat.add_zero, ite_true, ite_false, if_true, if_false, true_or, or_true, false_or, or_false, and_self, and_false, false_and, Nat.reduceEqDiff, reduceIte]
  refine ⟨fun z => ?_, fun z => ?_⟩
  · rw [if_neg z, if_neg z] at hQ
    exact hQ ν1 hB.g e1 hs1
  · rw [if_pos z, if_pos z] at hQ
    exact xl_shrugs h1 h2 hC1 hs1 hp ht (fun ν2 g2 e2 hs2 => hQ ν2 (hB.g.trans g2) (e2.trans e1) hs2)
theorem xl_check {ν : XN} {k n : Nat} {Q : Int32 → XN → Prop} (hk : k < n) (hn : n < 2 ^ 31) (hQ : Q (nI k) ν) : xw_J11_checkIndex (nI k) (nI n) ν Q := by
  unfold xw_J11_checkIndex xw_J8_checkIndex
  rw [i_0, nI_ltI (by omega) (by omega), nI_ltI (by omega) (by omega)]
  exact ⟨fun q => absurd q (by omega), fun _ => ⟨fun _ => hQ, fun q => absurd hk q⟩⟩
theorem xl_get {ν : XN} {la k x : Nat} {as : List Nat} {Q : Option Nat → XN → Prop} (h : LRep ν.2 la as) (hk : as[k]? = some x) (hQ : Q (some x) ν) : xw_J2_get la (nI k) ν Q := by
  obtain ⟨l1, l2, ea, l3, l4, l5, l5', l6⟩ := h
  have hkl := (List.getElem?_eq_some_iff.mp hk).1
  unfold xw_J2_get xw_J2_elementData
  rw [l2]
  refine ⟨l1, xl_check hkl (by omega) ⟨l1, l1, ea, l3, l4, vp_in_nI (by omega) l5', ?_⟩⟩
  rw [nI_clamp (by omega), l6 k x hk]; exact hQ
theorem xl_empty {ν : XN} {la : Nat} {as : List Nat} {Q : Int32 → XN → Prop} (h : LRep ν.2 la as) (hQ : Q (nI (if as.length = 0 then 1 else 0)) ν) : xw_J2_isEmpty la ν Q := by
  obtain ⟨l1, l2, ea, l3, l4, l5, l5', l6⟩ := h
  unfold xw_J2_isEmpty
  rw [l2, i_0, nI_eq (by omega) (by omega)]
  refine ⟨l1, fun q => ?_, fun q => ?_⟩
  · rw [if_neg q] at hQ; exact hQ
  · rw [if_pos q] at hQ; exact hQ
theorem xl_day {VA : Nat → Nat → XN → (Int64 → XN → Prop) → Prop} {TA : Nat → Nat → XN → (Int32 → XN → Prop) → Prop} {ν : XN} {o r : Nat} {P : Pl} {s : St} {Q : Int32 → XN → Prop} (h1 : 10 ≤ o) (h2 : o < 36) (hs : xSt ν.1 o P s) (hd : zD s < 5000) (hr : r < 2)
    (hQ : ∀ ν', XGo o ν.1 ν'.1 → ν'.2 = ν.2 → xSt ν'.1 o P (nxt s) → Q (nI r) ν') : xw_X5_passes_81 VA TA o (nI r) ν Q := by
  unfold xw_X5_passes_81
  simp (disch := omega) only [i_0, i_1, i_2, i_3, i_4, i_5, i_6, i_7, i_8, i_9, i_10, i_11, i_12, i_13, i_16, i_19, i_20, i_21, i_22, i_23, i_24, i_25, i_30, i_31, i_32, i_39, i_40, i_41, i_42, i_43, i_44, i_45, i_47, i_48, i_49, i_50, i_51, i_52, i_57, i_59, i_60, i_61, i_62, i_63, i_64, i_71, i_72, i_80, i_91, i_93, i_97, i_99, i_100, i_122, i_227, i_228, i_232, i_251, i_255, i_256, i_463, i_999, i_1000, i_1519, i_1600, i_9999, i_100000000, i_2147483639, i_2147483647, neg_nI1, nI_add, pk_mul, nI_remL, pk_sub, pk_div, nI_clamp, nI_leI, nI_ltI, nI_eq, vpT, nI_m1, m1_nI, nI_lem1, m1_le, m1_lt, nI_ltm1, nI_bit, nI_shl, nI_xor, nI_or, n_rem, forall_eq, true_and, and_true, implies_true, true_implies, false_implies, not_true_eq_false, not_false_eq_true, Nat.zero_add, Nat.add_zero, ite_true, ite_false, if_true, if_false, true_or, or_true, false_or, or_false, and_self, and_false, false_and, Nat.reduceEqDiff, reduceIte, hs.2.1]
  obtain ⟨s1, s2, s3, s4, s5, s6, s7⟩ := hs
  refine ⟨xoc_st h1 h2, ?_, hQ _ (XGo.sI _ _ _ (by decide)) rfl ⟨⟨hd, s1.2.1, s1.2.2.1, s1.2.2.2⟩, ?_, ?_, s4, s5, s6, s7⟩⟩
  · rcases (show r = 0 ∨ r = 1 by omega) with rfl | rfl
    · exact nb_0
    · exact nb_1
  · rw [fI_sI, if_pos ⟨rfl, rfl⟩]; rfl
  · rw [fI_sI, if_neg (by omega)]; exact s3
theorem xl_passes {VA : Nat → Nat → XN → (Int64 → XN → Prop) → Prop} {TA : Nat → Nat → XN → (Int32 → XN → Prop) → Prop} {ν : XN} {o b sil : Nat} {P : Pl} {s : St} {Q : Int32 → XN → Prop} (h1 : 10 ≤ o) (h2 : o < 36) (hC : xCx VA TA ν b P) (hs : xSt ν.1 o P s) (hsi : fI ν.1 o 2 = nI sil) (hsl : sil < 128) (hd : zD s < 5000)
    (hQ : ∀ ν', XGo o ν.1 ν'.1 → ν'.2 = ν.2 → xSt ν'.1 o P (zDy P sil s) → Q (nI (zDc P sil s)) ν') : xw_X5_passes VA TA o ν Q := by
  have hP := hC.2.1
  have hb := hC.1
  obtain ⟨l, as, k1, k2, k3, k4⟩ := hC.2.2.2
  have hl12 := hP.2.2.2.2.2.1
  unfold xw_X5_passes
  refine ⟨xoc_st h1 h2, b, hb.1, hb.2.1, l, k1, k2.1, xl_empty k2 ?_⟩
  unfold zDy zDc at hQ
  by_cases z : as.length = 0
  · rw [if_pos z]
    rw [List.getElem?_eq_none (by omega)] at hQ
    exact ⟨fun _ => xl_day h1 h2 hs hd (by decide) hQ, fun q => absurd q (by decide)⟩
  · rw [if_neg z]
    refine ⟨fun q => absurd rfl q, fun _ => ⟨b, hb.1, hb.2.1, b, hb.1, hb.2.1, l, k1, k2.1, xl_size k2 ?_⟩⟩
    have hlt : zD s % (plL P).length < (plL P).length := Nat.mod_lt _ (by omega)
    rw [hs.2.1]
    simp (disch := omega) only [i_0, i_1, i_2, i_3, i_4, i_5, i_6, i_7, i_8, i_9, i_10, i_11, i_12, i_13, i_16, i_19, i_20, i_21, i_22, i_23, i_24, i_25, i_30, i_31, i_32, i_39, i_40, i_41, i_42, i_43, i_44, i_45, i_47, i_48, i_49, i_50, i_51, i_52, i_57, i_59, i_60, i_61, i_62, i_63, i_64, i_71, i_72, i_80, i_91, i_93, i_97, i_99, i_100, i_122, i_227, i_228, i_232, i_251, i_255, i_256, i_463, i_999, i_1000, i_1519, i_1600, i_9999, i_100000000, i_2147483639, i_2147483647, neg_nI1, nI_add, pk_mul, nI_remL, pk_sub, pk_div, nI_clamp, nI_leI, nI_ltI, nI_eq, vpT, nI_m1, m1_nI, nI_lem1, m1_le, m1_lt, nI_ltm1, nI_bit, nI_shl, nI_xor, nI_or, n_rem, forall_eq, true_and, and_true, implies_true, true_implies, false_implies, not_true_eq_false, not_false_eq_true, Nat.zero_add, Nat.add_zero, ite_true, ite_false, if_true, if_false, true_or, or_true, false_or, or_false, and_self, and_false, false_and, Nat.reduceEqDiff, reduceIte]
    rw [k3]
    have hq := List.getElem?_eq_getElem hlt
    obtain ⟨a, y1, y2, y3, y4⟩ := k4 _ _ hq
    rw [hq] at hQ
    generalize (plL P)[zD s % (plL P).length] = q at *
    have hmem : q ∈ plL P := List.mem_of_getElem? hq
    obtain ⟨m1, m2⟩ := hP.2.2.2.2.2.2.1 q hmem
    refine ⟨by omega, l, k1, k2.1, ?_⟩
    refine xl_get k2 y1 ⟨a, rfl, y2, y2, y2, ?_⟩
    rw [y3, y4]
    refine xl_asked h1 h2 hC hs hsi hsl m1 m2 (fun ν' g e hs' => ?_)
    have hw := zWo_lt P sil s q.1 q.2
    unfold xw_X5_passes_80
    rw [nI_eq (by omega) (by omega)]
    have hd2 : zD (zAs P sil s q.1 q.2) < 5000 := by rw [zAs_D]; exact hd
    simp only [] at hQ
    refine ⟨fun w => ?_, fun w => ?_⟩
    · rw [if_neg w] at hQ
      exact xl_day h1 h2 hs' hd2 (by decide) (fun ν2 g2 e2 hs2 => hQ ν2 (g.trans g2) (e2.trans e) hs2)
    · rw [if_pos w] at hQ
      exact xl_day h1 h2 hs' hd2 (by decide) (fun ν2 g2 e2 hs2 => hQ ν2 (g.trans g2) (e2.trans e) hs2)
theorem xl_days {VA : Nat → Nat → XN → (Int64 → XN → Prop) → Prop} {TA : Nat → Nat → XN → (Int32 → XN → Prop) → Prop} {ν : XN} {o b sil n : Nat} {P : Pl} {s : St} {Q : Nat → XN → Prop} (h1 : 10 ≤ o) (h2 : o < 36) (hC : xCx VA TA ν b P) (hs : xSt ν.1 o P s) (hsi : fI ν.1 o 2 = nI sil) (hsl : sil < 128) (hd : zD s + n ≤ 5000)
    (hQ : ∀ ν', XGo o ν.1 ν'.1 → ν'.2 = ν.2 → xSt ν'.1 o P (zDs P sil n s) → Q o ν') : xw_X5_days VA TA o (nI n) ν Q := by
  unfold xw_X5_days xw_X5_days_2
  intro X hX
  have key : ∀ j k (s2 : St) (ν2 : XN), n - k = j → k ≤ n → XGo o ν.1 ν2.1 → ν2.2 = ν.2 → xSt ν2.1 o P s2 → zD s2 + j ≤ 5000 → zDs P sil j s2 = zDs P sil n s → X o (nI n) (nI k) ν2 := by
    intro j
    induction j with
    | zero =>
      intro k s2 ν2 hj hk g e hs2 hd2 ez
      refine hX _ _ _ _ ⟨fun _ => hQ ν2 g e (by rw [← ez]; exact hs2), fun q => absurd ((nI_leI (by omega) (by omega)).mpr (by omega)) q⟩
    | succ j ih =>
      intro k s2 ν2 hj hk g e hs2 hd2 ez
      refine hX _ _ _ _ ⟨fun q => absurd ((nI_leI (by omega) (by omega)).mp q) (by omega), fun _ => ⟨xoc_st h1 h2, ?_⟩⟩
      refine xl_passes h1 h2 (hC.e g.r e) hs2 (g.2.trans hsi) hsl (by omega) (fun ν3 g3 e3 hs3 => ?_)
      rw [nI_1]
      refine ih (k + 1) _ ν3 (by omega) (by omega) (g.trans g3) (e3.trans e) hs3 ?_ ez
      rw [zDy_D]; omega
  exact key n 0 s ν rfl (by omega) (XGo.refl _ _) rfl hs (by omega) rfl
