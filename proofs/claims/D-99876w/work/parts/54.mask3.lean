/-! THE REFERENCE: one is asked -/
def mSd (σ : FS) : Prop := ∃ sd, sd < 1000 ∧ fI σ 0 56 = nI sd
theorem ml_would {σ : FS} {P : Pl} {s : St} {p t : Nat} {Q : Int32 → FS → Prop} (hP : mP σ P) (hN : mN σ P s) (hS : mSd σ) (hp : p < nP P) (ht : t < nT P) (hQ : ∀ σ', Fm [51, 54, 55, 109] [] [108] σ σ' → (zWo P 0 s p t ≠ 0 → fI σ' 0 54 = nI p ∧ fI σ' 0 55 = nI t) → Q (nI (zWo P 0 s p t)) σ') : mw_wouldDo (nI p) (nI t) σ Q := by
  have h7 := hP.1.2.2.2.2.1
  have h5 := hP.1.2.2.2.1
  obtain ⟨hcell, hti, hkn⟩ := hN.1.2.2.1 p hp
  have hk32 : zK s p < 128 := Nat.lt_of_lt_of_le hkn (Nat.le_trans (Nat.pow_le_pow_right (by decide) h5) (by decide))
  obtain ⟨sd, hsd, e56⟩ := hS
  have h00 : ¬ 0 / 2 ^ p % 2 = 1 := by simp
  unfold mw_wouldDo
  refine ml_knowsOf hP hN hp ?_
  have hb2 : zK s p / 2 ^ t % 2 < 2 := Nat.mod_lt _ (by decide)
  simp (disch := omega) only [i_0, i_1, i_2, i_3, i_4, i_5, i_6, i_7, i_8, i_9, i_10, i_11, i_12, i_13, i_16, i_19, i_20, i_21, i_22, i_23, i_24, i_25, i_30, i_31, i_32, i_39, i_40, i_41, i_42, i_43, i_44, i_45, i_47, i_48, i_49, i_50, i_51, i_52, i_57, i_59, i_60, i_61, i_62, i_63, i_64, i_71, i_72, i_80, i_91, i_93, i_97, i_99, i_100, i_122, i_227, i_228, i_232, i_251, i_255, i_256, i_463, i_999, i_1000, i_1519, i_1600, i_9999, i_100000000, i_2147483639, i_2147483647, neg_nI1, nI_add, pk_mul, nI_remL, pk_sub, pk_div, nI_clamp, nI_leI, nI_ltI, nI_eq, vpT, nI_m1, m1_nI, nI_lem1, m1_le, m1_lt, nI_ltm1, nI_bit, nI_shl, nI_xor, nI_or, n_rem, forall_eq, true_and, and_true, implies_true, true_implies, false_implies, not_true_eq_false, not_false_eq_true, Nat.zero_add, Nat.add_zero, ite_true, ite_false, if_true, if_false, true_or, or_true, false_or, or_false, and_self, and_false, false_and, Nat.reduceEqDiff, reduceIte, fI_sI, fI_sL, fI_sA, fI_sB, fL_sI, fL_sL, fL_sA, fL_sB, fA_sI, fA_sL, fA_sA, fA_sB, fB_sI, fB_sL, fB_sA, fB_sB]
  refine ⟨fun c => ?_, fun c => ?_⟩
  · have hF1 : Fm [51, 54, 55, 109] [] [108] σ (sI (sI σ 0 54 (nI p)) 0 55 (nI t)) := (Fm.sI σ _ (by decide)).trans (Fm.sI _ _ (by decide))
    have hcd := hP.2.2.2.2.2.1.2.2
    have hok := hP.1.2.2.2.2.2.2.2.2.2
    unfold zWo at hQ
    rw [if_neg (by rw [not_or]; exact ⟨c, h00⟩)] at hQ
    cases hh : plH P with
    | none =>
      rw [hh] at hcd hQ
      simp only [mCd] at hcd
      rw [hcd]
      refine ⟨fun _ => hQ _ hF1 (fun _ => ⟨?_, ?_⟩), fun z => absurd rfl z⟩
      · rw [fI_sI, fI_sI]; simp
      · rw [fI_sI]; simp
    | some cs =>
      rw [hh] at hcd
      simp only [hh] at hQ
      obtain ⟨hty, hlen⟩ := hok cs hh
      have hcd0 := hcd
      obtain ⟨f, c1, c2, c3, c4⟩ := hcd
      rw [c1]
      refine ⟨fun z => ?_, fun _ => ?_⟩
      · rw [nI_m1 (by omega)] at z; exact z.elim
      · have hP1 : mP (sI (sI σ 0 54 (nI p)) 0 55 (nI t)) P := hP.fm hF1 (by decide) (by decide) (by decide)
        have hN1 : mN (sI (sI σ 0 54 (nI p)) 0 55 (nI t)) P s := hN.eqv rfl
        have hA1 : mAk (sI (sI σ 0 54 (nI p)) 0 55 (nI t)) p t sd := by
          refine ⟨?_, ?_, ?_⟩
          · rw [fI_sI, fI_sI]; simp
          · rw [fI_sI]; simp
          · rw [fI_sI, fI_sI]; simpa using e56
        refine ml_tell (al := al0) hP1 hN1 hA1 hp (by omega) hsd (by decide) (hcd0.eqv rfl rfl rfl) (fun i hi => by simp [al0] at hi; omega) hty (fun σ' hF2 => ?_)
        have hev : evV (zPt s p t sd) lk0 cs = evV (zPt s p t 0) lk0 cs := by
          unfold evV
          rw [evL_al (al := al0) (pt' := zPt s p t 0) (fun i _ hi => by simp [al0] at hi; unfold zPt; repeat' split; all_goals first | rfl | omega) hty]
        rw [hev]
        have hF3 := hF1.trans (hF2.wide (by decide) (by decide) (by decide))
        have hfit := evL_fit (lk := lk0) (fun i hi _ => zPt_in hP.1 hN.1 hp (show t < 1000 by omega) (show 0 < 1000 by decide) i hi) hty (l := []) trivial
        obtain ⟨v, hv, hv2⟩ := fitV_one hfit
        have hev2 : evV (zPt s p t 0) lk0 cs = v := by unfold evV; rw [hv]; rfl
        rw [hev2] at hQ ⊢
        have h54 : fI σ' 0 54 = nI p := (hF2.1 54 (by decide)).trans hA1.1
        have h55 : fI σ' 0 55 = nI t := (hF2.1 55 (by decide)).trans hA1.2.1
        simp only [if_true] at hv2
        simp (disch := omega) only [i_0, i_1, i_2, i_3, i_4, i_5, i_6, i_7, i_8, i_9, i_10, i_11, i_12, i_13, i_16, i_19, i_20, i_21, i_22, i_23, i_24, i_25, i_30, i_31, i_32, i_39, i_40, i_41, i_42, i_43, i_44, i_45, i_47, i_48, i_49, i_50, i_51, i_52, i_57, i_59, i_60, i_61, i_62, i_63, i_64, i_71, i_72, i_80, i_91, i_93, i_97, i_99, i_100, i_122, i_227, i_228, i_232, i_251, i_255, i_256, i_463, i_999, i_1000, i_1519, i_1600, i_9999, i_100000000, i_2147483639, i_2147483647, neg_nI1, nI_add, pk_mul, nI_remL, pk_sub, pk_div, nI_clamp, nI_leI, nI_ltI, nI_eq, vpT, nI_m1, m1_nI, nI_lem1, m1_le, m1_lt, nI_ltm1, nI_bit, nI_shl, nI_xor, nI_or, n_rem, l_0, l_1, l_9, l_27, l_64, l_12345, l_1000000, l_1103515245, l_2147483648, l_1000000000000000, lI_neg, lI_add, lI_sub, lI_mul, lgc_le, lgc_ge, lgc_eq, lgc_lt, lgc_gt, nI_toL, lI_toI, lI_eq]
        refine ⟨fun z => ?_, fun z => ?_⟩
        · have h9 := hQ σ' hF3 (fun _ => ⟨h54, h55⟩)
          rw [if_neg z] at h9; exact h9
        · have h9 := hQ σ' hF3 (fun _ => ⟨h54, h55⟩)
          rw [if_pos z] at h9; exact h9
  · have h9 := hQ σ (Fm.refl _ _ _ _)
    have hz : zWo P 0 s p t = 0 := by unfold zWo; rw [if_pos (Or.inl c)]
    rw [hz] at h9
    exact h9 (fun z => absurd rfl z)
/-! cells in their order -/
def ordC (P : Pl) (k : Nat) : Nat := k % plC P + 8 * (k / plC P)
theorem cls_CR : ∀ C, C < 8 → 3 ≤ C → ∀ R, R < 8 → 3 ≤ R → (List.range 64).filter (fun c => decide (c % 8 < C ∧ c / 8 < R)) = (List.range (C * R)).map (fun k => k % C + 8 * (k / C)) := by decide +kernel
theorem cls_map {P : Pl} (hP : plOK P) : cls P = (List.range (plC P * plR P)).map (ordC P) := cls_CR _ (by have := hP.1; omega) hP.1.1 _ (by have := hP.2.1; omega) hP.2.1.1
theorem cr_le {P : Pl} (hP : plOK P) : plC P * plR P ≤ 49 := Nat.mul_le_mul hP.1.2 hP.2.1.2
theorem ordC_ok {P : Pl} (hP : plOK P) {k : Nat} (hk : k < plC P * plR P) : isC P (ordC P k) ∧ c7 (ordC P k) = k % plC P + 7 * (k / plC P) := by
  have h1 : k % plC P < plC P := Nat.mod_lt _ (by have := hP.1; omega)
  have h2 : k / plC P < plR P := Nat.div_lt_of_lt_mul hk
  have h3 := hP.1
  unfold isC c7 ordC
  generalize k % plC P = r at *
  generalize k / plC P = q at *
  omega
theorem mem_cls {P : Pl} (hP : plOK P) {c : Nat} : c ∈ cls P ↔ isC P c := by
  unfold cls
  rw [List.mem_filter, List.mem_range, decide_eq_true_iff]
  refine ⟨fun h => h.2, fun h => ⟨?_, h⟩⟩
  have := isC_lt hP h
  omega
theorem cls_at {P : Pl} (hP : plOK P) {k : Nat} (hk : k < plC P * plR P) : (cls P).drop k = ordC P k :: (cls P).drop (k + 1) := by
  have hl : (cls P).length = plC P * plR P := by rw [cls_map hP]; simp
  rw [List.drop_eq_getElem_cons (by omega)]
  congr 1
  simp only [cls_map hP, List.getElem_map, List.getElem_range]
theorem cls_end {P : Pl} (hP : plOK P) {k : Nat} (hk : plC P * plR P ≤ k) : (cls P).drop k = [] := by
  have hl : (cls P).length = plC P * plR P := by rw [cls_map hP]; simp
  exact List.drop_eq_nil_of_le (by omega)
theorem ml_cellMany {σ : FS} {P : Pl} {Q : Int32 → FS → Prop} (hP : mP σ P) (hQ : Q (nI (plC P * plR P)) σ) : mw_cellMany σ Q := by
  unfold mw_cellMany
  simp (disch := omega) only [i_0, i_1, i_2, i_3, i_4, i_5, i_6, i_7, i_8, i_9, i_10, i_11, i_12, i_13, i_16, i_19, i_20, i_21, i_22, i_23, i_24, i_25, i_30, i_31, i_32, i_39, i_40, i_41, i_42, i_43, i_44, i_45, i_47, i_48, i_49, i_50, i_51, i_52, i_57, i_59, i_60, i_61, i_62, i_63, i_64, i_71, i_72, i_80, i_91, i_93, i_97, i_99, i_100, i_122, i_227, i_228, i_232, i_251, i_255, i_256, i_463, i_999, i_1000, i_1519, i_1600, i_9999, i_100000000, i_2147483639, i_2147483647, neg_nI1, nI_add, pk_mul, nI_remL, pk_sub, pk_div, nI_clamp, nI_leI, nI_ltI, nI_eq, vpT, nI_m1, m1_nI, nI_lem1, m1_le, m1_lt, nI_ltm1, nI_bit, nI_shl, nI_xor, nI_or, n_rem, forall_eq, true_and, and_true, implies_true, true_implies, false_implies, not_true_eq_false, not_false_eq_true, Nat.zero_add, Nat.add_zero, ite_true, ite_false, if_true, if_false, true_or, or_true, false_or, or_false, and_self, and_false, false_and, Nat.reduceEqDiff, reduceIte]
  rw [hP.2.2.1.1, hP.2.2.1.2.1, pk_mul]; exact hQ
theorem ml_cellOrder {σ : FS} {P : Pl} {k : Nat} {Q : Int32 → FS → Prop} (hP : mP σ P) (hk : k < plC P * plR P) (hQ : Q (nI (c7 (ordC P k))) σ) : mw_cellOrder (nI k) σ Q := by
  have h1 := hP.1.1
  have h2 := cr_le hP.1
  unfold mw_cellOrder
  simp (disch := omega) only [i_0, i_1, i_2, i_3, i_4, i_5, i_6, i_7, i_8, i_9, i_10, i_11, i_12, i_13, i_16, i_19, i_20, i_21, i_22, i_23, i_24, i_25, i_30, i_31, i_32, i_39, i_40, i_41, i_42, i_43, i_44, i_45, i_47, i_48, i_49, i_50, i_51, i_52, i_57, i_59, i_60, i_61, i_62, i_63, i_64, i_71, i_72, i_80, i_91, i_93, i_97, i_99, i_100, i_122, i_227, i_228, i_232, i_251, i_255, i_256, i_463, i_999, i_1000, i_1519, i_1600, i_9999, i_100000000, i_2147483639, i_2147483647, neg_nI1, nI_add, pk_mul, nI_remL, pk_sub, pk_div, nI_clamp, nI_leI, nI_ltI, nI_eq, vpT, nI_m1, m1_nI, nI_lem1, m1_le, m1_lt, nI_ltm1, nI_bit, nI_shl, nI_xor, nI_or, n_rem, forall_eq, true_and, and_true, implies_true, true_implies, false_implies, not_true_eq_false, not_false_eq_true, Nat.zero_add, Nat.add_zero, ite_true, ite_false, if_true, if_false, true_or, or_true, false_or, or_false, and_self, and_false, false_and, Nat.reduceEqDiff, reduceIte]
  rw [hP.2.2.1.1]
  simp (disch := omega) only [i_0, i_1, i_2, i_3, i_4, i_5, i_6, i_7, i_8, i_9, i_10, i_11, i_12, i_13, i_16, i_19, i_20, i_21, i_22, i_23, i_24, i_25, i_30, i_31, i_32, i_39, i_40, i_41, i_42, i_43, i_44, i_45, i_47, i_48, i_49, i_50, i_51, i_52, i_57, i_59, i_60, i_61, i_62, i_63, i_64, i_71, i_72, i_80, i_91, i_93, i_97, i_99, i_100, i_122, i_227, i_228, i_232, i_251, i_255, i_256, i_463, i_999, i_1000, i_1519, i_1600, i_9999, i_100000000, i_2147483639, i_2147483647, neg_nI1, nI_add, pk_mul, nI_remL, pk_sub, pk_div, nI_clamp, nI_leI, nI_ltI, nI_eq, vpT, nI_m1, m1_nI, nI_lem1, m1_le, m1_lt, nI_ltm1, nI_bit, nI_shl, nI_xor, nI_or, n_rem, forall_eq, true_and, and_true, implies_true, true_implies, false_implies, not_true_eq_false, not_false_eq_true, Nat.zero_add, Nat.add_zero, ite_true, ite_false, if_true, if_false, true_or, or_true, false_or, or_false, and_self, and_false, false_and, Nat.reduceEqDiff, reduceIte]
  rw [(ordC_ok hP.1 hk).2] at hQ
  exact ⟨by omega, by omega, hQ⟩
def oI (o : Option Nat) : Int32 := match o with
  | none => M1
  | some d => nI (c7 d)
def exl (own d : Nat) : Prop := d / 8 = own / 8 ∧ d ≤ own + 1 ∧ own ≤ d + 1
theorem hiS_skip {h : Nat → Nat} {own c : Nat} {b : Option Nat} (he : exl own c) : hiS h own b c = b := by unfold hiS; exact if_pos he
theorem hiS_none {h : Nat → Nat} {own c : Nat} (he : ¬ exl own c) : hiS h own none c = some c := by unfold hiS; exact if_neg he
theorem hiS_take {h : Nat → Nat} {own c d : Nat} (he : ¬ exl own c) (hh : h d < h c) : hiS h own (some d) c = some c := by
  unfold hiS
  refine (if_neg he).trans ?_
  exact if_pos hh
theorem hiS_keep {h : Nat → Nat} {own c d : Nat} (he : ¬ exl own c) (hh : ¬ h d < h c) : hiS h own (some d) c = some d := by
  unfold hiS
  refine (if_neg he).trans ?_
  exact if_neg hh
theorem ml_highestBut {σ : FS} {P : Pl} {s : St} {own : Nat} {x1 x2 x3 : Int32} {Q : Int32 → FS → Prop} (hP : mP σ P) (hN : mN σ P s) (hx : ∀ d, isC P d → ((nI (c7 d) = x1 ∨ nI (c7 d) = x2 ∨ nI (c7 d) = x3) ↔ exl own d)) (hQ : Q (oI (zHi P (zH s) own)) σ) : mw_highestBut x1 x2 x3 σ Q := by
  have h2 := cr_le hP.1
  unfold mw_highestBut mw_highestBut_6
  intro X hX
  have key : ∀ n k (b : Option Nat), plC P * plR P - k = n → k ≤ plC P * plR P → (∀ d, b = some d → isC P d) → Q (oI (((cls P).drop k).foldl (hiS (zH s) own) b)) σ → X x1 x2 x3 (oI b) (nI k) σ := by
    intro n
    induction n with
    | zero =>
      intro k b hn hkk hb hq
      have hk : plC P * plR P ≤ k := by omega
      refine hX _ _ _ _ _ _ (ml_cellMany hP ⟨fun _ => ?_, fun c => absurd (?_ : nI (plC P * plR P) ≤ nI k) c⟩)
      · rw [cls_end hP.1 hk] at hq; exact hq
      · rw [nI_leI (by omega) (by omega)]; omega
    | succ n ih =>
      intro k b hn hkk hb hq
      have hk : k < plC P * plR P := by omega
      obtain ⟨hc, h7⟩ := ordC_ok hP.1 hk
      have h49 := c7_lt hP.1 hc
      rw [cls_at hP.1 hk, List.foldl_cons] at hq
      have next : ∀ b', b' = hiS (zH s) own b (ordC P k) → X x1 x2 x3 (oI b') (nI k + 1) σ := by
        intro b' hb'
        rw [nI_1]
        refine ih (k + 1) b' (by omega) (by omega) ?_ (by rw [hb']; exact hq)
        intro d hd
        rw [hb'] at hd
        unfold hiS at hd
        split at hd
        · exact hb d hd
        · split at hd
          · cases hd; exact hc
          · split at hd
            · cases hd; exact hc
            · cases hd; exact hb _ rfl
      have skip : exl own (ordC P k) → mw_highestBut_69 X x1 x2 x3 (oI b) (nI k) σ Q := by
        intro he
        unfold mw_highestBut_69
        exact next b (hiS_skip he).symm
      refine hX _ _ _ _ _ _ (ml_cellMany hP ⟨fun c => ?_, fun _ => ?_⟩)
      · rw [nI_leI (by omega) (by omega)] at c; omega
      · refine ml_cellOrder hP hk ?_
        refine ⟨fun c => skip ((hx _ hc).mp (Or.inl c)), fun c1 => ⟨fun c => skip ((hx _ hc).mp (Or.inr (Or.inl c))), fun c2 => ⟨fun c3 => ?_, fun c => skip ((hx _ hc).mp (Or.inr (Or.inr c)))⟩⟩⟩
        have hne : ¬ exl own (ordC P k) := fun z => by
          rcases (hx _ hc).mpr z with z | z | z
          · exact c1 z
          · exact c2 z
          · exact c3 z
        cases b with
        | none =>
          refine ⟨fun _ => ?_, fun z => absurd rfl z⟩
          unfold mw_highestBut_65 mw_highestBut_69
          exact next (some (ordC P k)) (hiS_none hne).symm
        | some d =>
          have hd := hb d rfl
          have hd7 := c7_lt hP.1 hd
          refine ⟨fun z => ?_, fun _ => ?_⟩
          · have : nI (c7 d) = M1 := z
            rw [nI_m1 (by omega)] at this; exact this.elim
          · refine ml_heightOf hP hN hc (ml_heightOf hP hN hd ?_)
            have g1 := hN.1.2.1 _ hc
            have g2 := hN.1.2.1 _ hd
            rw [nI_leI (by omega) (by omega)]
            refine ⟨fun z => ?_, fun z => ?_⟩
            · unfold mw_highestBut_69
              exact next (some d) (hiS_keep hne (by omega)).symm
            · unfold mw_highestBut_65 mw_highestBut_69
              exact next (some (ordC P k)) (hiS_take hne (by omega)).symm
  exact key _ 0 none rfl (by omega) (fun d hd => by cases hd) (by rw [List.drop_zero]; exact hQ)
