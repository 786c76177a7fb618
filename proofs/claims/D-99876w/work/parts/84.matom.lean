/-! THE REFERENCE: a part -/
theorem str_no11 : wIx (str 89) = 11 ∧ wIx (str 90) = 11 ∧ str 89 ≠ str 90 := by decide
theorem pNum_nd {t : Nat → Nat} {e a lo hi : Nat} (h : isDg (bt t e (lk t e a)) = false) : pNum lo hi t e a = .inr (1, lk t e a) := by
  unfold pNum; rw [if_neg (by rw [h]; simp)]
theorem lt_dg {c : Nat} (h : isLt c = true) : isDg c = false ∧ c ≠ 40 := by
  unfold isLt at h; simp at h
  constructor
  · unfold isDg; simp; omega
  · omega
theorem pAt_brN {al : Nat → Bool} {t : Nat → Nat} {e a : Nat} (h : bt t e (lk t e a) = 40) : pAtomG al none t e a = .inr (4, lk t e a) := by
  unfold pAtomG; rw [if_pos h]
theorem pAt_brS {al : Nat → Bool} {t : Nat → Nat} {e a : Nat} {AT : Nat → PR (List Nat)} (h : bt t e (lk t e a) = 40) : pAtomG al (some AT) t e a = pB (pSum AT t e (lk t e a + 1)) (fun cs b => pB (pSign 41 t e b) (fun _ b2 => .inl (cs, b2))) := by
  unfold pAtomG; rw [if_pos h]
theorem mm11 {k : Nat} (h : k = 89 ∨ k = 90) : wIx (str k) = 11 ∧ (str k = str 89 ∨ str k = str 90) := by
  rcases h with rfl | rfl
  · exact ⟨str_no11.1, Or.inl rfl⟩
  · exact ⟨str_no11.2.1, Or.inr rfl⟩
theorem pAt_mmS {al : Nat → Bool} {t : Nat → Nat} {e a k : Nat} {AT : Nat → PR (List Nat)} (hk : k = 89 ∨ k = 90) (hw : hereW t e (lk t e a) (str k)) (h : bt t e (lk t e (wE t e (lk t e a))) = 40) : pAtomG al (some AT) t e a = pB (pSum AT t e (lk t e (wE t e (lk t e a)) + 1)) (fun cs b1 => pB (pSign 44 t e b1) (fun _ b2 => pB (pSum AT t e b2) (fun ds b3 => pB (pSign 41 t e b3) (fun _ b4 => .inl (cs ++ ds ++ [if str k = str 89 then 5 else 6], b4))))) := by
  unfold pAtomG
  rw [if_neg (lt_dg hw.1).2, if_neg (by rw [(lt_dg hw.1).1]; simp), pWord_here hw, pB_inl]
  simp only [(mm11 hk).1]
  rw [if_neg (by omega), if_neg (by omega), if_pos (mm11 hk).2, if_pos h]
theorem pAt_mmN {al : Nat → Bool} {t : Nat → Nat} {e a k : Nat} (hk : k = 89 ∨ k = 90) (hw : hereW t e (lk t e a) (str k)) (h : bt t e (lk t e (wE t e (lk t e a))) = 40) : pAtomG al none t e a = .inr (4, lk t e (wE t e (lk t e a))) := by
  unfold pAtomG
  rw [if_neg (lt_dg hw.1).2, if_neg (by rw [(lt_dg hw.1).1]; simp), pWord_here hw, pB_inl]
  simp only [(mm11 hk).1]
  rw [if_neg (by omega), if_neg (by omega), if_pos (mm11 hk).2, if_pos h]
theorem pAt_mmX {al : Nat → Bool} {rec : Option (Nat → PR (List Nat))} {t : Nat → Nat} {e a k : Nat} (hk : k = 89 ∨ k = 90) (hw : hereW t e (lk t e a) (str k)) (h : ¬ bt t e (lk t e (wE t e (lk t e a))) = 40) : pAtomG al rec t e a = .inr (1, lk t e (wE t e (lk t e a))) := by
  unfold pAtomG
  rw [if_neg (lt_dg hw.1).2, if_neg (by rw [(lt_dg hw.1).1]; simp), pWord_here hw, pB_inl]
  simp only [(mm11 hk).1]
  rw [if_neg (by omega), if_neg (by omega), if_pos (mm11 hk).2, if_neg h]
theorem pAt_num {al : Nat → Bool} {rec : Option (Nat → PR (List Nat))} {t : Nat → Nat} {e a : Nat} (h : isDg (bt t e (lk t e a)) = true) : pAtomG al rec t e a = pB (pNum 0 9999 t e a) (fun v b => .inl ([1000 + v.1], b)) := by
  unfold pAtomG
  rw [if_neg (fun z => by rw [z] at h; exact absurd h (by decide)), if_pos h]
theorem pAt_part {al : Nat → Bool} {rec : Option (Nat → PR (List Nat))} {t : Nat → Nat} {e a k : Nat} (hw : hereW t e (lk t e a) (str (91 + k))) (hk : wIx (str (91 + k)) = k) (h9 : k < 9) (ha : al k = true) : pAtomG al rec t e a = .inl ([40 + k], wE t e (lk t e a)) := by
  unfold pAtomG
  rw [if_neg (lt_dg hw.1).2, if_neg (by rw [(lt_dg hw.1).1]; simp), pWord_here hw, pB_inl]
  simp only [hk]
  rw [if_pos ⟨h9, ha⟩]
theorem pAt_knS {al : Nat → Bool} {AT : Nat → PR (List Nat)} {t : Nat → Nat} {e a k : Nat} (hw : hereW t e (lk t e a) (str (91 + k))) (hk : wIx (str (91 + k)) = k) (h9 : 9 ≤ k ∧ k < 11) (ha : al k = true) : pAtomG al (some AT) t e a = pB (AT (wE t e (lk t e a))) (fun cs b2 => .inl (cs ++ [51 + k], b2)) := by
  unfold pAtomG
  rw [if_neg (lt_dg hw.1).2, if_neg (by rw [(lt_dg hw.1).1]; simp), pWord_here hw, pB_inl]
  simp only [hk]
  rw [if_neg (by omega), if_pos ⟨h9.1, h9.2, ha⟩]
theorem pAt_knN {al : Nat → Bool} {t : Nat → Nat} {e a k : Nat} (hw : hereW t e (lk t e a) (str (91 + k))) (hk : wIx (str (91 + k)) = k) (h9 : 9 ≤ k ∧ k < 11) (ha : al k = true) : pAtomG al none t e a = .inr (4, lk t e a) := by
  unfold pAtomG
  rw [if_neg (lt_dg hw.1).2, if_neg (by rw [(lt_dg hw.1).1]; simp), pWord_here hw, pB_inl]
  simp only [hk]
  rw [if_neg (by omega), if_pos ⟨h9.1, h9.2, ha⟩]
theorem pAt_no {al : Nat → Bool} {rec : Option (Nat → PR (List Nat))} {t : Nat → Nat} {e a : Nat} (h40 : ¬ bt t e (lk t e a) = 40) (hd : isDg (bt t e (lk t e a)) = false) (h1 : ¬ hereW t e (lk t e a) (str 89)) (h2 : ¬ hereW t e (lk t e a) (str 90)) (h3 : ¬ (wHere t e (lk t e a) < 11 ∧ al (wHere t e (lk t e a)) = true)) : pAtomG al rec t e a = .inr (1, lk t e a) := by
  unfold pAtomG
  rw [if_neg h40, if_neg (by rw [hd]; simp)]
  unfold pWord
  by_cases z : isLt (bt t e (lk t e a)) = true ∧ prt t (lk t e a) = false
  · rw [if_pos z, pB_inl]
    have hw : wHere t e (lk t e a) = wIx (wd t (lk t e a) (wE t e (lk t e a))) := by unfold wHere; rw [if_pos z]
    rw [hw] at h3
    simp only
    rw [if_neg (fun q => h3 ⟨by omega, q.2⟩), if_neg (fun q => h3 ⟨q.2.1, q.2.2⟩), if_neg (fun q => q.elim (fun q => h1 ⟨z.1, z.2, q⟩) (fun q => h2 ⟨z.1, z.2, q⟩))]
  · rw [if_neg z]; rfl
section
variable {t : Nat → Nat} {e : Nat} {W0 : List Nat} {B : Nat} {σ0 : FS} {X : Int32 → Int32 → FS → Prop} {x1 : Int32} {Q : FS → Prop}
theorem Bd.at {σ : FS} {q : Nat × Nat} (h : Bd σ q) (v : Int32) : Bd (sI σ 0 2 v) q := ⟨by rw [fI_sI]; simpa using h.1, by rw [fI_sI]; simpa using h.2.1, h.2.2⟩
theorem ml_qCodeB {σ : FS} {n : Nat} {v : Int32} {Q : FS → Prop} (h : fI σ 0 103 = nI n) (hl : n < 1700) (hQ : ∀ σ', Fm [103] [102] [] σ σ' → fI σ' 0 103 = nI (n + 1) → Q σ') : mw_qCode v σ Q := by
  unfold mw_qCode
  rw [h]
  simp (disch := omega) only [i_0, i_1, i_2, i_3, i_4, i_5, i_6, i_7, i_8, i_9, i_10, i_11, i_12, i_13, i_16, i_19, i_20, i_21, i_22, i_23, i_24, i_25, i_30, i_31, i_32, i_39, i_40, i_41, i_42, i_43, i_44, i_45, i_47, i_48, i_49, i_50, i_51, i_52, i_57, i_59, i_60, i_61, i_62, i_63, i_64, i_71, i_72, i_80, i_91, i_93, i_97, i_99, i_100, i_122, i_227, i_228, i_232, i_251, i_255, i_256, i_463, i_999, i_1000, i_1519, i_1600, i_9999, i_100000000, i_2147483639, i_2147483647, neg_nI1, nI_add, pk_mul, nI_remL, pk_sub, pk_div, nI_clamp, nI_leI, nI_ltI, nI_eq, vpT, nI_m1, m1_nI, nI_lem1, m1_le, m1_lt, nI_ltm1, nI_bit, nI_shl, nI_xor, nI_or, n_rem, forall_eq, true_and, and_true, implies_true, true_implies, false_implies, not_true_eq_false, not_false_eq_true, Nat.zero_add, Nat.add_zero, ite_true, ite_false, if_true, if_false, true_or, or_true, false_or, or_false, and_self, and_false, false_and, Nat.reduceEqDiff, reduceIte, fI_sI, fI_sL, fI_sA, fI_sB, fL_sI, fL_sL, fL_sA, fL_sB, fA_sI, fA_sL, fA_sA, fA_sB, fB_sI, fB_sL, fB_sA, fB_sB]
  rw [h, nI_add]
  exact hQ _ ((Fm.sA σ _ _ (by decide)).trans (Fm.sI _ _ (by decide))) (by rw [fI_sI]; simp)
theorem Bd.fm {ks as bs : List Nat} {σ σ' : FS} {q : Nat × Nat} (h : Bd σ q) (f : Fm ks as bs σ σ') (h5 : 5 ∉ ks) (h6 : 6 ∉ ks) : Bd σ' q := ⟨by rw [f.1 5 h5]; exact h.1, by rw [f.1 6 h6]; exact h.2.1, h.2.2⟩
theorem ml_asksB {σ : FS} {q : Nat × Nat} {c : Int32} {Q : FS → Prop} (h : Bd σ q) (hQ : Q σ) : mw_asksSign c σ Q := by
  unfold mw_asksSign
  exact ⟨fun _ => hQ, fun z => absurd z h.ne⟩
theorem ml_endsB {σ : FS} {q : Nat × Nat} {Q : FS → Prop} (h : Bd σ q) (hQ : Q σ) : mw_qEndsPart σ Q := by
  unfold mw_qEndsPart mw_qEndsPart_0
  exact fun X0 h0 => h0 σ ⟨fun _ => hQ, fun z => absurd z h.ne⟩
theorem ml_needsB {σ : FS} {q : Nat × Nat} {k : Nat} {Q : FS → Prop} (h : Bd σ q) (hQ : Q σ) : mw_needs k σ Q := by
  unfold mw_needs
  exact ⟨fun _ => hQ, fun z => absurd z h.ne⟩
theorem ml_asksWB {σ : FS} {q : Nat × Nat} {k : Nat} {Q : FS → Prop} (h : Bd σ q) (hk : k < 11) (hQ : Q σ) : mw_qAsksWord (nI k) σ Q := by
  unfold mw_qAsksWord
  have hkk : k = 0 ∨ k = 1 ∨ k = 2 ∨ k = 3 ∨ k = 4 ∨ k = 5 ∨ k = 6 ∨ k = 7 ∨ k = 8 ∨ k = 9 ∨ k = 10 := by omega
  rcases hkk with rfl | rfl | rfl | rfl | rfl | rfl | rfl | rfl | rfl | rfl | rfl <;> simp (disch := omega) only [i_0, i_1, i_2, i_3, i_4, i_5, i_6, i_7, i_8, i_9, i_10, i_11, i_12, i_13, i_16, i_19, i_20, i_21, i_22, i_23, i_24, i_25, i_30, i_31, i_32, i_39, i_40, i_41, i_42, i_43, i_44, i_45, i_47, i_48, i_49, i_50, i_51, i_52, i_57, i_59, i_60, i_61, i_62, i_63, i_64, i_71, i_72, i_80, i_91, i_93, i_97, i_99, i_100, i_122, i_227, i_228, i_232, i_251, i_255, i_256, i_463, i_999, i_1000, i_1519, i_1600, i_9999, i_100000000, i_2147483639, i_2147483647, neg_nI1, nI_add, pk_mul, nI_remL, pk_sub, pk_div, nI_clamp, nI_leI, nI_ltI, nI_eq, vpT, nI_m1, m1_nI, nI_lem1, m1_le, m1_lt, nI_ltm1, nI_bit, nI_shl, nI_xor, nI_or, n_rem, forall_eq, true_and, and_true, implies_true, true_implies, false_implies, not_true_eq_false, not_false_eq_true, Nat.zero_add, Nat.add_zero, ite_true, ite_false, if_true, if_false, true_or, or_true, false_or, or_false, and_self, and_false, false_and, Nat.reduceEqDiff, reduceIte] <;> exact ml_needsB h hQ
theorem ml_atom {kd : Nat} {rec : Option (Nat → PR (List Nat))} {r : Nat} (h51 : fI σ0 0 51 = nI kd) (hk : kd < 3) (hB : B = W0.length) (hW0 : ∀ x U', W0 = x :: U' → 4 < x) (hE : ∀ σ, fI σ 0 5 = nI 0 → cE X x1 Q σ → X x1 (nI 1) σ)
    (hr0 : r = 0 → rec = none) (hr1 : ∀ r', r = r' + 1 → ∃ AT, rec = some AT ∧ AtP t e W0 B σ0 X x1 Q AT r' ∧ adv e AT) : AtP t e W0 B σ0 X x1 Q (pAtomG (alK kd) rec t e) r := by
  intro σ a C V o hF h hor hok hbd
  have hbe := h.1.2.2.1
  have hlk := lk_spec (t := t) hbe
  have hll := lk_lk (t := t) hbe
  have hle := h.1.le
  have he := h.1.1.2.1
  unfold cE mw_qPartTold_2
  intro X2 h2
  have hcE : ∀ σ', cE X x1 Q σ' → X2 (nI 1) σ' := fun σ' hc => hc X2 h2
  have qKb : ∀ σ' q, BdC σ' q → pAtomG (alK kd) rec t e a = .inr q → FQ σ0 σ' → qK X x1 Q σ' := by
    intro σ' q hb hp hf
    unfold qK mw_qSums_48 mw_qSums_49
    exact ⟨fun _ => hbd q hp σ' hf hb, fun z => absurd z hb.ne⟩
  have h186b : ∀ σ' q, BdC σ' q → pAtomG (alK kd) rec t e a = .inr q → FQ σ0 σ' → mw_qPartTold_186 σ' (qK X x1 Q) := by
    intro σ' q hb hp hf
    unfold mw_qPartTold_186
    exact ⟨fun z => absurd z hb.ne, fun _ => qKb σ' q hb hp hf⟩
  have bad : ∀ (x : Int32) σ' q, BdC σ' q → pAtomG (alK kd) rec t e a = .inr q → FQ σ0 σ' → X2 x σ' := by
    intro x σ' q hb hp hf
    exact h2 x σ' ⟨fun _ => h186b σ' q hb hp hf, fun _ => ⟨fun _ => h186b σ' q hb hp hf, fun z => absurd z hb.ne⟩⟩
  refine h2 _ σ ⟨fun z => absurd z (by decide), fun _ => ⟨fun z => absurd h.1.2.2.2.1 z, fun _ => ?_⟩⟩
  refine ml_look h.1 (fun hT => ?_)
  have hFa : FT σ (sI σ 0 2 (nI (lk t e a))) := FT.at σ _
  have hX1 := h.tok hFa hT hlk.1
  revert hT hX1 hFa
  generalize sI σ 0 2 (nI (lk t e a)) = σ1
  intro hT hFa hX1
  have hF1 : FQ σ0 σ1 := hF.trans (FT.q hFa)
  refine ml_qWordOf (lo := 9) (hi := 11) hT hll (by rw [hF1.1 51 (by decide)]; exact h51) hk (by decide) (by decide) ?_
  simp (disch := omega) only [i_0, i_1, i_2, i_3, i_4, i_5, i_6, i_7, i_8, i_9, i_10, i_11, i_12, i_13, i_16, i_19, i_20, i_21, i_22, i_23, i_24, i_25, i_30, i_31, i_32, i_39, i_40, i_41, i_42, i_43, i_44, i_45, i_47, i_48, i_49, i_50, i_51, i_52, i_57, i_59, i_60, i_61, i_62, i_63, i_64, i_71, i_72, i_80, i_91, i_93, i_97, i_99, i_100, i_122, i_227, i_228, i_232, i_251, i_255, i_256, i_463, i_999, i_1000, i_1519, i_1600, i_9999, i_100000000, i_2147483639, i_2147483647, byI_eq (h.1.1.2.2.2.1 _) (show 40 < 256 by decide)]
  have hlh := hX1.2.2.2.2.2
  by_cases c40 : bt t e (lk t e a) = 40
  · refine ⟨fun z => absurd c40 z, fun _ => ?_⟩
    have hlt : lk t e a < e := by
      rcases Nat.lt_or_ge (lk t e a) e with w | w
      · exact w
      · unfold bt at c40; rw [if_neg (by omega)] at c40; omega
    rw [hT.2.1]
    unfold mw_qPartTold_183
    refine ml_qOpens hX1 (by decide) (fun ho6 σ2 hF2 hX2 => ?_) (fun ho6 σ2 hF2 hB2 => ?_)
    · obtain ⟨r', hr'⟩ : ∃ r', r = r' + 1 := ⟨r - 1, by omega⟩
      obtain ⟨AT, hrec, hA, hadv⟩ := hr1 r' hr'
      simp (disch := omega) only [forall_eq, true_and, and_true, implies_true, true_implies, false_implies, not_true_eq_false, not_false_eq_true, Nat.zero_add, Nat.add_zero, ite_true, ite_false, if_true, if_false, true_or, or_true, false_or, or_false, and_self, and_false, false_and, Nat.reduceEqDiff, reduceIte]
      rw [hX2.1.2.1, nI_add]
      have hT3 := hX2.1.sign (c := 40) hlt (by rw [← bt_at (t := t) hlt]; exact c40) (by decide) (by decide)
      have hX3 := (hX2.tok (FT.at _ _) hT3).s (by simp; simp at hlh; omega)
      have hF3 : FQ σ0 (sI σ2 0 2 (nI (lk t e a + 1))) := hF1.trans (hF2.q.trans (FT.q (FT.at _ _)))
      have hpa : pAtomG (alK kd) rec t e a = pB (pSum AT t e (lk t e a + 1)) (fun cs b => pB (pSign 41 t e b) (fun _ b2 => .inl (cs, b2))) := by
        rw [hrec]; exact pAt_brS c40
      refine hcE _ (ml_sum hB hW0 hE hA hadv _ _ C (20 :: V) (o + 1) hF3 hX3 (by omega) (fun x U' he => by cases he; exact ⟨by decide, by decide⟩) (fun ds b' hp σ4 C4 Vp bb hbb hbe4 hm hpa4 hF4 hX4 h14 hC4 => ?_) (fun q hp σ4 hF4 hB4 => hbd q (by rw [hpa, hp]; rfl) σ4 hF4 hB4))
      have hVp : ∀ x ∈ Vp, ¬ isBr x := fun x hx hb => by have := h14 x hx; have h20 : 20 ≤ x := hb.1; omega
      have hX4' : Xs σ4 t e bb C4 (Vp ++ 20 :: V ++ W0) (o + 1) B := by simpa using hX4
      have hlb' : lk t e b' = b' := by rw [← hbb]; exact lk_lk hbe4
      have hpb : pAtomG (alK kd) rec t e a = pB (pSign 41 t e b') (fun _ b2 => .inl (ds, b2)) := by rw [hpa, hp]; rfl
      by_cases c41 : bt t e b' = 41
      · refine cF_close hX4' hB hVp (Or.inl rfl) (by rw [hbb]; exact c41) (fun σ5 hF5 hX5 => hok ds (b' + 1) ?_ σ5 (hF4.trans hF5) ?_)
        · rw [hpb]; unfold pSign; rw [hlb', if_pos c41]; rfl
        · have : brC 20 = [] := rfl
          rw [this, List.append_nil, hC4, hbb] at hX5; exact hX5
      · refine cF_fail hX4' hB hVp (Or.inl rfl) (by rw [hbb]; exact hm) (by rw [hbb]; exact hpa4) (by rw [hbb]; exact c41) (fun σ5 hF5 hB5 => hbd (1, b') ?_ σ5 (hF4.trans hF5) (by rw [hbb] at hB5; exact hB5))
        rw [hpb]; unfold pSign; rw [hlb', if_neg c41]; rfl
    · simp (disch := omega) only [forall_eq, true_and, and_true, implies_true, true_implies, false_implies, not_true_eq_false, not_false_eq_true, Nat.zero_add, Nat.add_zero, ite_true, ite_false, if_true, if_false, true_or, or_true, false_or, or_false, and_self, and_false, false_and, Nat.reduceEqDiff, reduceIte]
      refine bad _ _ (4, lk t e a) ((hB2.at _).c (hF2.trans (FT.at _ _)) hX1.2.1 hX1.cl) ?_ (hF1.trans ((FT.q hF2).trans (FT.q (FT.at _ _))))
      rw [hr0 (by omega)]; exact pAt_brN c40
  · refine ⟨fun _ => ?_, fun z => absurd z c40⟩
    -- min, max
    have mm : ∀ k, (k = 89 ∨ k = 90) → hereW t e (lk t e a) (str k) → ∀ σ2, FT σ1 σ2 → Tok σ2 t e (wE t e (lk t e a)) → ∀ x4 : Int32, (x4 = 0 ↔ k = 90) → mw_qPartTold_101 X2 (nI 1) x4 σ2 (qK X x1 Q) := by
      intro k hkk hw σ2 hF2 hT2 x4 hx4
      have hpw := pWord_here hw
      have hwi : wIx (str k) = 11 := by rcases hkk with rfl | rfl; exact str_no11.1; exact str_no11.2.1
      have hws := wE_spec hw.1
      have hbe2 := hT2.2.2.1
      have hlk2 := lk_spec (t := t) hbe2
      have hll2 := lk_lk (t := t) hbe2
      unfold mw_qPartTold_101
      refine ml_look hT2 (fun hT3 => ?_)
      have hX2 := hX1.tok hF2 hT2 (by omega)
      have hFb : FT σ2 (sI σ2 0 2 (nI (lk t e (wE t e (lk t e a))))) := FT.at σ2 _
      have hX3 := hX2.tok hFb hT3 hlk2.1
      revert hT3 hX3 hFb
      generalize sI σ2 0 2 (nI (lk t e (wE t e (lk t e a)))) = σ3
      intro hT3 hFb hX3
      have hF3 : FQ σ0 σ3 := hF1.trans ((FT.q hF2).trans (FT.q hFb))
      simp (disch := omega) only [i_0, i_1, i_2, i_3, i_4, i_5, i_6, i_7, i_8, i_9, i_10, i_11, i_12, i_13, i_16, i_19, i_20, i_21, i_22, i_23, i_24, i_25, i_30, i_31, i_32, i_39, i_40, i_41, i_42, i_43, i_44, i_45, i_47, i_48, i_49, i_50, i_51, i_52, i_57, i_59, i_60, i_61, i_62, i_63, i_64, i_71, i_72, i_80, i_91, i_93, i_97, i_99, i_100, i_122, i_227, i_228, i_232, i_251, i_255, i_256, i_463, i_999, i_1000, i_1519, i_1600, i_9999, i_100000000, i_2147483639, i_2147483647, byI_eq (h.1.1.2.2.2.1 _) (show 40 < 256 by decide)]
      unfold mw_qPartTold_118
      by_cases d40 : bt t e (lk t e (wE t e (lk t e a))) = 40
      · refine ⟨fun z => absurd d40 z, fun _ => ?_⟩
        rw [hT3.2.1]
        have hlt : lk t e (wE t e (lk t e a)) < e := by
          rcases Nat.lt_or_ge (lk t e (wE t e (lk t e a))) e with w | w
          · exact w
          · unfold bt at d40; rw [if_neg (by omega)] at d40; omega
        have main : ∀ br, (br = 21 ∨ br = 22) → (br = 21 ↔ k = 89) → mw_qPartTold_139 X2 (nI 1) (nI (lk t e (wE t e (lk t e a)))) (nI br) σ3 (qK X x1 Q) := by
          intro br hbr hbk
          unfold mw_qPartTold_139 mw_qPartTold_144 mw_qPartTold_183
          refine ml_qOpens hX3 (by omega) (fun ho6 σ4 hF4 hX4 => ?_) (fun ho6 σ4 hF4 hB4 => ml_asksB hB4 (bad _ _ _ (hB4.c hF4 hX3.2.1 hX3.cl) ?_ (hF3.trans (FT.q hF4))))
          · obtain ⟨r', hr'⟩ : ∃ r', r = r' + 1 := ⟨r - 1, by omega⟩
            obtain ⟨AT, hrec, hA, hadv⟩ := hr1 r' hr'
            have hpa := pAt_mmS (al := alK kd) (AT := AT) hkk hw d40
            rw [← hrec] at hpa
            have hps : pSign 40 t e (lk t e (wE t e (lk t e a))) = .inl ((), lk t e (wE t e (lk t e a)) + 1) := by unfold pSign; rw [hll2, if_pos d40]
            have hlx := hX3.2.2.2.2.2
            refine ml_asksSign (c := 40) hX4.1 (by decide) (by decide) (by decide) (fun b5 σ5 hp5 hF5 hT5 => ?_) (fun q σ5 hp5 => ?_)
            · rw [hps] at hp5
              cases hp5
              have hX5 := (hX4.tok hF5 hT5).s (by simp; simp at hlx; omega)
              have hF05 : FQ σ0 σ5 := hF3.trans (hF4.q.trans (FT.q hF5))
              refine hcE _ (ml_sum hB hW0 hE hA hadv _ _ C (br :: V) (o + 1) hF05 hX5 (by omega) (fun x U' he => by cases he; unfold isBr; omega) (fun cs b' hp σ6 C6 Vp bb hbb hbe6 hm hpa6 hF6 hX6 h14 hC6 => ?_) (fun q hp σ6 hF6 hB6 => hbd q (by rw [hpa, hp]; rfl) σ6 hF6 hB6))
              have hVp : ∀ x ∈ Vp, ¬ isBr x := fun x hx hb => by have := h14 x hx; have h20 : 20 ≤ x := hb.1; omega
              have hX6' : Xs σ6 t e bb C6 (Vp ++ br :: V ++ W0) (o + 1) B := by simpa using hX6
              rw [hp, pB_inl] at hpa
              simp only at hpa
              refine cF_comma hX6' hB hVp hbr (by rw [hbb]; exact hm) (by rw [hbb]; exact hpa6) hE (fun b2 hp7 σ7 hF7 hX7 => ?_) (fun q hp7 σ7 hF7 hB7 => hbd q (by rw [hbb] at hp7; rw [hpa, hp7]; rfl) σ7 (hF6.trans hF7) hB7)
              rw [hbb] at hp7
              rw [hp7, pB_inl] at hpa
              simp only at hpa
              rw [hC6] at hX7
              refine ml_sum hB hW0 hE hA hadv _ _ (C ++ cs) ((br + 2) :: V) (o + 1) (hF6.trans hF7) hX7 (by omega) (fun x U' he => by cases he; unfold isBr; omega) (fun ds b3 hp8 σ8 C8 Vp8 bb8 hbb8 hbe8 hm8 hpa8 hF8 hX8 h148 hC8 => ?_) (fun q hp8 σ8 hF8 hB8 => hbd q (by rw [hpa, hp8]; rfl) σ8 hF8 hB8)
              have hVp8 : ∀ x ∈ Vp8, ¬ isBr x := fun x hx hb => by have := h148 x hx; have h20 : 20 ≤ x := hb.1; omega
              have hX8' : Xs σ8 t e bb8 C8 (Vp8 ++ (br + 2) :: V ++ W0) (o + 1) B := by simpa using hX8
              rw [hp8, pB_inl] at hpa
              simp only at hpa
              have hlb3 : lk t e b3 = b3 := by rw [← hbb8]; exact lk_lk hbe8
              by_cases c41 : bt t e b3 = 41
              · refine cF_close hX8' hB hVp8 (by omega) (by rw [hbb8]; exact c41) (fun σ9 hF9 hX9 => hok (cs ++ ds ++ [if str k = str 89 then 5 else 6]) (b3 + 1) ?_ σ9 (hF8.trans hF9) ?_)
                · rw [hpa]; unfold pSign; rw [hlb3, if_pos c41]; rfl
                · have hbc : brC (br + 2) = [if str k = str 89 then 5 else 6] := by
                    rcases hbr with rfl | rfl
                    · have hk9 := hbk.mp rfl
                      rw [hk9]; rfl
                    · have hk9 : k = 90 := by
                        rcases hkk with q | q
                        · exact absurd (hbk.mpr q) (by decide)
                        · exact q
                      rw [hk9, if_neg (fun z => str_no11.2.2 z.symm)]; rfl
                  rw [hC8, hbb8, hbc] at hX9
                  simpa using hX9
              · refine cF_fail hX8' hB hVp8 (by omega) (by rw [hbb8]; exact hm8) (by rw [hbb8]; exact hpa8) (by rw [hbb8]; exact c41) (fun σ9 hF9 hB9 => hbd (1, b3) ?_ σ9 (hF8.trans hF9) (by rw [hbb8] at hB9; exact hB9))
                rw [hpa]; unfold pSign; rw [hlb3, if_neg c41]; rfl
            · rw [hps] at hp5; cases hp5
          · rw [hr0 (by omega)]; exact pAt_mmN hkk hw d40
        refine ⟨fun z => absurd (z.trans neg_nI1) (by rw [nI_m1 (by omega)]; exact id), fun _ => ⟨fun z => main 22 (Or.inr rfl) ?_, fun z => main 21 (Or.inl rfl) ?_⟩⟩
        · have := hx4.mp z; rw [this]; decide
        · have : k = 89 := by
            rcases hkk with q | q
            · exact q
            · exact absurd (hx4.mpr q) z
          rw [this]; decide
      · refine ⟨fun _ => ⟨fun _ => ?_, fun z => absurd rfl z⟩, fun z => absurd z d40⟩
        have hpa := pAt_mmX (al := alK kd) (rec := rec) hkk hw d40
        unfold mw_qPartTold_144 mw_qPartTold_183
        refine ml_asksSign (c := 40) hT3 (by decide) (by decide) (by decide) (fun b5 σ5 hp5 hF5 hT5 => ?_) (fun q σ5 hp5 hF5 hB5 => bad _ _ q (hB5.c hF5 hX3.2.1 hX3.cl) ?_ (hF3.trans (FT.q hF5)))
        · unfold pSign at hp5; rw [hll2, if_neg d40] at hp5; cases hp5
        · unfold pSign at hp5; rw [hll2, if_neg d40] at hp5; cases hp5; exact hpa
    refine ml_is1 (k := 89) hT hll (by unfold mok; decide) (by decide) (by decide) (fun hw => ?_) (fun n89 => ?_)
    · refine ⟨fun _ => ?_, fun z => absurd z (by decide)⟩
      unfold mw_qPartTold_78
      refine ml_takes (k := 89) hT (by unfold mok; decide) (by decide) (by decide) (fun σ2 hw2 hF2 hT2 => ?_) (fun σ2 hn2 => absurd (by rw [hll]; exact hw) hn2)
      rw [hll] at hT2
      exact ⟨fun _ => mm 89 (Or.inl rfl) hw σ2 hF2 hT2 (nI 1) (by decide), fun z => absurd z (by decide)⟩
    · refine ⟨fun z => absurd rfl z, fun _ => ml_is1 (k := 90) hT hll (by unfold mok; decide) (by decide) (by decide) (fun hw => ?_) (fun n90 => ?_)⟩
      · refine ⟨fun z => absurd z (by decide), fun _ => ?_⟩
        unfold mw_qPartTold_78
        refine ml_takes (k := 89) hT (by unfold mok; decide) (by decide) (by decide) (fun σ2 hw2 => absurd (by rw [hll] at hw2; exact hw2) n89) (fun σ2 hn2 hF2 hT2 => ?_)
        rw [hll] at hT2
        exact ⟨fun z => absurd rfl z, fun _ => ml_needsHere (k := 90) hT2 hll (by unfold mok; decide) (by decide) (by decide) hw (fun σ3 hF3 hT3 => mm 90 (Or.inr rfl) hw σ3 (hF2.trans hF3) hT3 (nI 0) (by decide))⟩
      · refine ⟨fun _ => ?_, fun z => absurd rfl z⟩
        unfold mw_qPartTold_183
        by_cases kn : 9 ≤ wHere t e (lk t e a) ∧ wHere t e (lk t e a) < 11 ∧ alK kd (wHere t e (lk t e a)) = true
        · rw [if_pos kn]
          obtain ⟨hw, hwi⟩ := wHere_here kn.2.1
          rw [hw.2.2] at hwi
          have hws := wE_spec hw.1
          generalize wHere t e (lk t e a) = w at kn hw hwi
          obtain ⟨k1, k2, k3⟩ := kn
          refine ⟨fun z => absurd (z.trans neg_nI1) (by rw [nI_m1 (by omega)]; exact id), fun _ => ?_⟩
          rw [hT.2.1]
          simp (disch := omega) only [i_0, i_1, i_2, i_3, i_4, i_5, i_6, i_7, i_8, i_9, i_10, i_11, i_12, i_13, i_16, i_19, i_20, i_21, i_22, i_23, i_24, i_25, i_30, i_31, i_32, i_39, i_40, i_41, i_42, i_43, i_44, i_45, i_47, i_48, i_49, i_50, i_51, i_52, i_57, i_59, i_60, i_61, i_62, i_63, i_64, i_71, i_72, i_80, i_91, i_93, i_97, i_99, i_100, i_122, i_227, i_228, i_232, i_251, i_255, i_256, i_463, i_999, i_1000, i_1519, i_1600, i_9999, i_100000000, i_2147483639, i_2147483647, neg_nI1, nI_add, pk_mul, nI_remL, pk_sub, pk_div, nI_clamp, nI_leI, nI_ltI, nI_eq, vpT, nI_m1, m1_nI, nI_lem1, m1_le, m1_lt, nI_ltm1, nI_bit, nI_shl, nI_xor, nI_or, n_rem]
          have e51 : 60 + w - 9 = 51 + w := by omega
          rw [e51]
          refine ml_qOpens hX1 (by omega) (fun ho6 σ2 hF2 hX2 => ?_) (fun ho6 σ2 hF2 hB2 => ml_asksWB hB2 (by omega) (bad _ _ _ (hB2.c hF2 hX1.2.1 hX1.cl) ?_ (hF1.trans (FT.q hF2))))
          · obtain ⟨r', hr'⟩ : ∃ r', r = r' + 1 := ⟨r - 1, by omega⟩
            obtain ⟨AT, hrec, hA, hadv⟩ := hr1 r' hr'
            have hpa := pAt_knS (al := alK kd) (AT := AT) hw hwi ⟨k1, k2⟩ k3
            rw [← hrec] at hpa
            refine ml_qAsksWord hX2.1 hll k2 hw (fun σ3 hF3 hT3 => ?_)
            have hX3 := (hX2.tok hF3 hT3).s (by simp; simp at hlh; omega)
            have hF03 : FQ σ0 σ3 := hF1.trans (hF2.q.trans (FT.q hF3))
            refine hcE _ (hA σ3 _ C ((51 + w) :: V) (o + 1) hF03 hX3 (by omega) (fun cs b hat σ4 hF4 hX4 => ?_) (fun q hat σ4 hF4 hB4 => hbd q (by rw [hpa, hat]; rfl) σ4 hF4 hB4))
            refine cG_60 hX4 hB (by omega) (fun σ5 hF5 hX5 => hok (cs ++ [51 + w]) b (by rw [hpa, hat]; rfl) σ5 (hF4.trans hF5.q) ?_)
            rw [List.append_assoc] at hX5; exact hX5
          · rw [hr0 (by omega)]; exact pAt_knN hw hwi ⟨k1, k2⟩ k3
        · rw [if_neg kn]
          refine ⟨fun _ => ?_, fun z => absurd rfl z⟩
          have qKo : ∀ σ', fI σ' 0 5 = nI 0 → cF X x1 Q σ' → qK X x1 Q σ' := by
            intro σ' h5 hc
            exact ⟨fun z => absurd h5 z, fun _ => hc⟩
          have code : ∀ c b σ2, FT σ1 σ2 → Tok σ2 t e b → lk t e a < b → pAtomG (alK kd) rec t e a = .inl ([c], b) → mw_qPartTold_237 (nI c) σ2 (qK X x1 Q) := by
            intro c b σ2 hF2 hT2 hlb hp
            unfold mw_qPartTold_237 mw_qEndsPart
            have hX2 := hX1.tok hF2 hT2 (by omega)
            have hle2 := hT2.le
            have hlen : C.length < 1700 := by omega
            refine ml_qCode hX2.2.1 hlen (fun σ3 hF3 hC3 => hok [c] b hp σ3 (hF1.trans ((FT.q hF2).trans (hF3.wide (by decide) (by decide) (by decide)))) ?_ _ qKo)
            have hF3' : FW σ2 σ3 := hF3.wide (by decide) (by decide) (by decide)
            exact ⟨hX2.1.q hF3', hC3, hX2.2.2.1.eqv (hF3.1 105 (by decide)) (hF3.2.1 104 (by decide)), ⟨by rw [hF3.1 106 (by decide)]; exact hX2.2.2.2.1.1, hX2.2.2.2.1.2⟩, by rw [hF3.1 107 (by decide)]; exact hX2.2.2.2.2.1, by rw [List.length_append]; simp; simp at hlh; omega⟩
          refine h2 _ σ1 ⟨fun _ => ?_, fun z => absurd rfl z⟩
          unfold mw_qPartTold_186
          refine ⟨fun _ => ?_, fun z => absurd hT.2.2.2.1 z⟩
          refine ml_qWordOf (lo := 0) (hi := 9) hT hll (by rw [hF1.1 51 (by decide)]; exact h51) hk (by decide) (by decide) ?_
          unfold mw_qPartTold_212
          by_cases pt : 0 ≤ wHere t e (lk t e a) ∧ wHere t e (lk t e a) < 9 ∧ alK kd (wHere t e (lk t e a)) = true
          · rw [if_pos pt]
            obtain ⟨hw, hwi⟩ := wHere_here (show wHere t e (lk t e a) < 11 by omega)
            rw [hw.2.2] at hwi
            have hws := wE_spec hw.1
            generalize wHere t e (lk t e a) = w at pt hw hwi
            obtain ⟨-, k2, k3⟩ := pt
            have nm : ¬ (nI w = -(1 : Int32)) := fun z => absurd (z.trans neg_nI1) (by rw [nI_m1 (by omega)]; exact id)
            refine ⟨fun z => absurd z nm, fun _ => ml_qAsksWord hT hll (by omega) hw (fun σ2 hF2 hT2 => ⟨fun z => absurd z nm, fun _ => ?_⟩)⟩
            have := code (40 + w) _ σ2 hF2 hT2 (by omega) (pAt_part hw hwi k2 k3)
            rw [← nI_add] at this; exact this
          · rw [if_neg pt]
            refine ⟨fun _ => ⟨fun _ => ?_, fun z => absurd rfl z⟩, fun z => absurd rfl z⟩
            have hno : ¬ (wHere t e (lk t e a) < 11 ∧ alK kd (wHere t e (lk t e a)) = true) := by
              intro z
              rcases Nat.lt_or_ge (wHere t e (lk t e a)) 9 with q | q
              · exact pt ⟨Nat.zero_le _, q, z.2⟩
              · exact kn ⟨q, z.1, z.2⟩
            refine ml_number (lo := 0) (hi := 9999) hT (by decide) (by decide) (fun v b f σ2 hp hF2 hT2 h10 hv1 hv2 => ?_) (fun q rr σ2 hp hF2 hB2 => ?_)
            · have hpe : pNum 0 9999 t e a = pNum 0 9999 t e (lk t e a) := by unfold pNum; rw [hll]
              have hok2 := pNum_ok (hT.2.2.1) hp
              have hd : isDg (bt t e (lk t e a)) = true := by
                by_cases z : isDg (bt t e (lk t e a)) = true
                · exact z
                · rw [pNum_nd (by rw [hll]; simpa using z)] at hp; cases hp
              have := code (1000 + v) b σ2 hF2 hT2 (by omega) (by rw [pAt_num hd, hpe, hp]; rfl)
              rw [← nI_add] at this; exact this
            · have hpe : pNum 0 9999 t e a = pNum 0 9999 t e (lk t e a) := by unfold pNum; rw [hll]
              have hpa : pAtomG (alK kd) rec t e a = .inr q := by
                by_cases z : isDg (bt t e (lk t e a)) = true
                · rw [pAt_num z, hpe, hp]; rfl
                · have zz : isDg (bt t e (lk t e a)) = false := by simpa using z
                  rw [pNum_nd (by rw [hll]; exact zz), hll] at hp
                  cases hp
                  exact pAt_no c40 zz n89 n90 hno
              unfold mw_qPartTold_237
              have h103 : fI σ2 0 103 = nI C.length := by rw [hF2.1 103 (by decide)]; exact hX1.2.1.1
              have hcl := hX1.cl
              refine ml_qCodeB h103 (by omega) (fun σ3 hF3 h3n => ml_endsB (q := q) (hB2.fm hF3 (by decide) (by decide)) (qKb σ3 q ⟨hB2.fm hF3 (by decide) (by decide), C.length + 1, by omega, h3n⟩ hpa (hF1.trans ((FT.q hF2).trans (hF3.wide (by decide) (by decide) (by decide))))))
end
