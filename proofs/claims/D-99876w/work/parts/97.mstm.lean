/-! THE REFERENCE: a statement, all statements -/
theorem ml_stm {σ0 σ : FS} {t : Nat → Nat} {e a n u : Nat} {D : Dr} {Q : FS → Prop} (h : Tok σ t e a) (hla : lk t e a = a) (hD : Dm σ D n u) (hd : drOK D) (hu : u ≤ a) (hP : Pf σ0 σ)
    (ho : ∀ D' b, pStm n D t e a = .inl (D', b) → ∀ σ' u', Pf σ0 σ' → Tok σ' t e b → Dm σ' D' (n + 1) u' → u' ≤ b → drOK D' → Q σ') (hx : ∀ q, pStm n D t e a = .inr q → ∀ σ', Pf σ0 σ' → Bd σ' q → Q σ') : mw_statementTold σ Q := by
  have hn80 := hD.1.2.1
  unfold mw_statementTold
  rw [hD.1.1]
  simp (disch := omega) only [i_0, i_1, i_2, i_3, i_4, i_5, i_6, i_7, i_8, i_9, i_10, i_11, i_12, i_13, i_16, i_19, i_20, i_21, i_22, i_23, i_24, i_25, i_30, i_31, i_32, i_39, i_40, i_41, i_42, i_43, i_44, i_45, i_47, i_48, i_49, i_50, i_51, i_52, i_57, i_59, i_60, i_61, i_62, i_63, i_64, i_71, i_72, i_80, i_91, i_93, i_97, i_99, i_100, i_122, i_227, i_228, i_232, i_251, i_255, i_256, i_463, i_999, i_1000, i_1519, i_1600, i_9999, i_100000000, i_2147483639, i_2147483647, neg_nI1, nI_add, pk_mul, nI_remL, pk_sub, pk_div, nI_clamp, nI_leI, nI_ltI, nI_eq, vpT, nI_m1, m1_nI, nI_lem1, m1_le, m1_lt, nI_ltm1, nI_bit, nI_shl, nI_xor, nI_or, n_rem, forall_eq, true_and, and_true, implies_true, true_implies, false_implies, not_true_eq_false, not_false_eq_true, Nat.zero_add, Nat.add_zero, ite_true, ite_false, if_true, if_false, true_or, or_true, false_or, or_false, and_self, and_false, false_and, Nat.reduceEqDiff, reduceIte]
  rw [h.2.1]
  refine ⟨fun hne => ?_, fun heq => ml_fail (q := (5, a)) h.2.2.2.1 (by simp) (fun σ1 hF1 hB1 => hx (5, a) (by unfold pStm; rw [if_pos heq]) σ1 (hP.trans (Pf.ofFm hF1 (by decide) (by decide))) hB1)⟩
  have hn : n < 80 := by omega
  have hps : pStm n D t e a = if isW (str 13) t e a = true then pHigh D t e (wE t e a) else if isW (str 14) t e a = true then pTopic D a t e (wE t e a) else if isW (str 15) t e a = true then pPers D a t e (wE t e a) else if isW (str 18) t e a = true then pKnow D t e (wE t e a) else if isW (str 20) t e a = true then pList D a t e (wE t e a) else if isW (str 21) t e a = true then pCode D 0 a t e (wE t e a) else if isW (str 22) t e a = true then pCode D 1 a t e (wE t e a) else if isW (str 23) t e a = true then pCode D 2 a t e (wE t e a) else pCrowd D t e a := by
    unfold pStm; rw [if_neg hne]
  refine ml_takes (k := 13) h (by unfold mok; decide) (by decide) (by decide) (fun y1 hw13 hF13 hT13 => ⟨fun z => absurd z (by decide), fun _ => ?_⟩) (fun σ1 hn13 hF1 hT1 => ⟨fun _ => ?_, fun z => absurd rfl z⟩)
  · skip
    rw [hla] at hw13 hT13
    rw [if_pos (isW_iff.mpr hw13)] at hps
    have hws := wE_spec hw13.1
    exact ml_high hT13 (hD.t ((Fm.refl _ _ _ _ : FT σ σ).trans hF13)) hd hn (by omega) (hP.trans (FT.p ((Fm.refl _ _ _ _ : FT σ σ).trans hF13))) (fun D' b hp => ho D' b (by rw [hps]; exact hp)) (fun q hp => hx q (by rw [hps]; exact hp))
  rw [hla] at hn13 hT1
  rw [if_neg (fun z => hn13 (isW_iff.mp z))] at hps
  have hFF1 : FT σ σ1 := (Fm.refl _ _ _ _ : FT σ σ).trans hF1
  refine ml_takes (k := 14) hT1 (by unfold mok; decide) (by decide) (by decide) (fun y2 hw14 hF14 hT14 => ⟨fun z => absurd z (by decide), fun _ => ?_⟩) (fun σ2 hn14 hF2 hT2 => ⟨fun _ => ?_, fun z => absurd rfl z⟩)
  · skip
    rw [hla] at hw14 hT14
    rw [if_pos (isW_iff.mpr hw14)] at hps
    have hws := wE_spec hw14.1
    exact ml_topic hT14 (hD.t (hFF1.trans hF14)) hd hn (by omega) (hP.trans (FT.p (hFF1.trans hF14))) (fun D' b hp => ho D' b (by rw [hps]; exact hp)) (fun q hp => hx q (by rw [hps]; exact hp))
  rw [hla] at hn14 hT2
  rw [if_neg (fun z => hn14 (isW_iff.mp z))] at hps
  have hFF2 : FT σ σ2 := hFF1.trans hF2
  refine ml_takes (k := 15) hT2 (by unfold mok; decide) (by decide) (by decide) (fun y3 hw15 hF15 hT15 => ⟨fun z => absurd z (by decide), fun _ => ?_⟩) (fun σ3 hn15 hF3 hT3 => ⟨fun _ => ?_, fun z => absurd rfl z⟩)
  · skip
    rw [hla] at hw15 hT15
    rw [if_pos (isW_iff.mpr hw15)] at hps
    have hws := wE_spec hw15.1
    exact ml_pers hT15 (hD.t (hFF2.trans hF15)) hd hn (by omega) (hP.trans (FT.p (hFF2.trans hF15))) (fun D' b hp => ho D' b (by rw [hps]; exact hp)) (fun q hp => hx q (by rw [hps]; exact hp))
  rw [hla] at hn15 hT3
  rw [if_neg (fun z => hn15 (isW_iff.mp z))] at hps
  have hFF3 : FT σ σ3 := hFF2.trans hF3
  refine ml_takes (k := 18) hT3 (by unfold mok; decide) (by decide) (by decide) (fun y4 hw18 hF18 hT18 => ⟨fun z => absurd z (by decide), fun _ => ?_⟩) (fun σ4 hn18 hF4 hT4 => ⟨fun _ => ?_, fun z => absurd rfl z⟩)
  · skip
    rw [hla] at hw18 hT18
    rw [if_pos (isW_iff.mpr hw18)] at hps
    have hws := wE_spec hw18.1
    exact ml_know hT18 (hD.t (hFF3.trans hF18)) hd hn (by omega) (hP.trans (FT.p (hFF3.trans hF18))) (fun D' b hp => ho D' b (by rw [hps]; exact hp)) (fun q hp => hx q (by rw [hps]; exact hp))
  rw [hla] at hn18 hT4
  rw [if_neg (fun z => hn18 (isW_iff.mp z))] at hps
  have hFF4 : FT σ σ4 := hFF3.trans hF4
  refine ml_takes (k := 20) hT4 (by unfold mok; decide) (by decide) (by decide) (fun y5 hw20 hF20 hT20 => ⟨fun z => absurd z (by decide), fun _ => ?_⟩) (fun σ5 hn20 hF5 hT5 => ⟨fun _ => ?_, fun z => absurd rfl z⟩)
  · skip
    rw [hla] at hw20 hT20
    rw [if_pos (isW_iff.mpr hw20)] at hps
    have hws := wE_spec hw20.1
    exact ml_list hT20 (hD.t (hFF4.trans hF20)) hd hn (by omega) (hP.trans (FT.p (hFF4.trans hF20))) (fun D' b hp => ho D' b (by rw [hps]; exact hp)) (fun q hp => hx q (by rw [hps]; exact hp))
  rw [hla] at hn20 hT5
  rw [if_neg (fun z => hn20 (isW_iff.mp z))] at hps
  have hFF5 : FT σ σ5 := hFF4.trans hF5
  refine ml_takes (k := 21) hT5 (by unfold mok; decide) (by decide) (by decide) (fun y6 hw21 hF21 hT21 => ⟨fun z => absurd z (by decide), fun _ => ?_⟩) (fun σ6 hn21 hF6 hT6 => ⟨fun _ => ?_, fun z => absurd rfl z⟩)
  · skip
    rw [hla] at hw21 hT21
    rw [if_pos (isW_iff.mpr hw21)] at hps
    have hws := wE_spec hw21.1
    exact ml_codes (i := 0) (by decide) hT21 (hD.t (hFF5.trans hF21)) hd hn (by omega) (hP.trans (FT.p (hFF5.trans hF21))) (fun D' b hp => ho D' b (by rw [hps]; exact hp)) (fun q hp => hx q (by rw [hps]; exact hp))
  rw [hla] at hn21 hT6
  rw [if_neg (fun z => hn21 (isW_iff.mp z))] at hps
  have hFF6 : FT σ σ6 := hFF5.trans hF6
  refine ml_takes (k := 22) hT6 (by unfold mok; decide) (by decide) (by decide) (fun y7 hw22 hF22 hT22 => ⟨fun z => absurd z (by decide), fun _ => ?_⟩) (fun σ7 hn22 hF7 hT7 => ⟨fun _ => ?_, fun z => absurd rfl z⟩)
  · skip
    rw [hla] at hw22 hT22
    rw [if_pos (isW_iff.mpr hw22)] at hps
    have hws := wE_spec hw22.1
    exact ml_codes (i := 1) (by decide) hT22 (hD.t (hFF6.trans hF22)) hd hn (by omega) (hP.trans (FT.p (hFF6.trans hF22))) (fun D' b hp => ho D' b (by rw [hps]; exact hp)) (fun q hp => hx q (by rw [hps]; exact hp))
  rw [hla] at hn22 hT7
  rw [if_neg (fun z => hn22 (isW_iff.mp z))] at hps
  have hFF7 : FT σ σ7 := hFF6.trans hF7
  refine ml_takes (k := 23) hT7 (by unfold mok; decide) (by decide) (by decide) (fun y8 hw23 hF23 hT23 => ⟨fun z => absurd z (by decide), fun _ => ?_⟩) (fun σ8 hn23 hF8 hT8 => ⟨fun _ => ?_, fun z => absurd rfl z⟩)
  · skip
    rw [hla] at hw23 hT23
    rw [if_pos (isW_iff.mpr hw23)] at hps
    have hws := wE_spec hw23.1
    exact ml_codes (i := 2) (by decide) hT23 (hD.t (hFF7.trans hF23)) hd hn (by omega) (hP.trans (FT.p (hFF7.trans hF23))) (fun D' b hp => ho D' b (by rw [hps]; exact hp)) (fun q hp => hx q (by rw [hps]; exact hp))
  rw [hla] at hn23 hT8
  rw [if_neg (fun z => hn23 (isW_iff.mp z))] at hps
  have hFF8 : FT σ σ8 := hFF7.trans hF8
  have fin := ml_crowd (Q := Q) hT8 (hD.t hFF8) hd hn hu (hP.trans (FT.p hFF8)) (fun D' b hp => ho D' b (by rw [hps]; exact hp)) (fun q hp => hx q (by rw [hps]; exact hp))
  simp (disch := omega) only [i_0, i_1, i_2, i_3, i_4, i_5, i_6, i_7, i_8, i_9, i_10, i_11, i_12, i_13, i_16, i_19, i_20, i_21, i_22, i_23, i_24, i_25, i_30, i_31, i_32, i_39, i_40, i_41, i_42, i_43, i_44, i_45, i_47, i_48, i_49, i_50, i_51, i_52, i_57, i_59, i_60, i_61, i_62, i_63, i_64, i_71, i_72, i_80, i_91, i_93, i_97, i_99, i_100, i_122, i_227, i_228, i_232, i_251, i_255, i_256, i_463, i_999, i_1000, i_1519, i_1600, i_9999, i_100000000, i_2147483639, i_2147483647, neg_nI1, nI_add, pk_mul, nI_remL, pk_sub, pk_div, nI_clamp, nI_leI, nI_ltI, nI_eq, vpT, nI_m1, m1_nI, nI_lem1, m1_le, m1_lt, nI_ltm1, nI_bit, nI_shl, nI_xor, nI_or, n_rem, forall_eq, true_and, and_true, implies_true, true_implies, false_implies, not_true_eq_false, not_false_eq_true, Nat.zero_add, Nat.add_zero, ite_true, ite_false, if_true, if_false, true_or, or_true, false_or, or_false, and_self, and_false, false_and, Nat.reduceEqDiff, reduceIte] at fin
  exact fin
theorem pFin_ok {D D' : Dr} {t : Nat → Nat} {e a b : Nat} (ha : a ≤ e) (h : pFin D t e a = .inl (D', b)) : a < b ∧ b ≤ e := by
  unfold pFin at h
  obtain ⟨x, b1, h1, h2⟩ := pB_ok h
  have := pSign_ok ha (by decide) h1
  have := lk_spec (t := t) ha
  cases h2
  omega
theorem pStm_ok {n : Nat} {D D' : Dr} {t : Nat → Nat} {e a b : Nat} (ha : a ≤ e) (h : pStm n D t e a = .inl (D', b)) : a < b ∧ b ≤ e := by
  have wk : ∀ k, isW (str k) t e a = true → a < wE t e a ∧ wE t e a ≤ e := fun k hk => by have := wE_spec (isW_iff.mp hk).1; omega
  have cod : ∀ i a2, a2 ≤ e → pCode D i a t e a2 = .inl (D', b) → a2 < b ∧ b ≤ e := by
    intro i a2 ha2 h
    unfold pCode at h
    split at h
    · cases h
    · obtain ⟨x, b1, h1, h2⟩ := pB_ok h
      have r1 := pCds_adv ha2 h1
      have r2 := pFin_ok r1.2 h2
      omega
  unfold pStm at h
  split at h
  · cases h
  · split at h
    · rename_i hk
      have hw := wk _ hk
      unfold pHigh at h
      obtain ⟨x, b1, h1, h2⟩ := pB_ok h
      obtain ⟨y, b2, h3, h4⟩ := pB_ok h2
      have r1 := pCell_ok (c := x.1) (f := x.2) hw.2 h1
      have r2 := pNum_ok r1.2 h3
      have r3 := pFin_ok r2.2.2.1 h4
      omega
    · split at h
      · rename_i hk
        have hw := wk _ hk
        unfold pTopic at h
        split at h
        · cases h
        · obtain ⟨x, b1, h1, h2⟩ := pB_ok h
          have r1 := pNew_ok hw.2 h1
          have r2 := pFin_ok r1.2.1 h2
          omega
      · split at h
        · rename_i hk
          have hw := wk _ hk
          unfold pPers at h
          split at h
          · cases h
          · obtain ⟨x, b1, h1, h2⟩ := pB_ok h
            obtain ⟨_, b2, h3, h4⟩ := pB_ok h2
            obtain ⟨y, b3, h5, h6⟩ := pB_ok h4
            split at h6
            · cases h6
            · obtain ⟨_, b4, h7, h8⟩ := pB_ok h6
              obtain ⟨v, b5, h9, h10⟩ := pB_ok h8
              have r1 := pNew_ok hw.2 h1
              have r2 := pExp_ok r1.2.1 h3
              have r3 := pCell_ok (c := y.1) (f := y.2) r2.2 h5
              have r4 := pExp_ok r3.2 h7
              have r5 := pNum_ok r4.2 h9
              have r6 := pFin_ok r5.2.2.1 h10
              omega
        · split at h
          · rename_i hk
            have hw := wk _ hk
            unfold pKnow at h
            obtain ⟨x, b1, h1, h2⟩ := pB_ok h
            obtain ⟨_, b2, h3, h4⟩ := pB_ok h2
            obtain ⟨y, b3, h5, h6⟩ := pB_ok h4
            split at h6
            · cases h6
            · have r1 := pOf_ok (j := x.1) (f := x.2) hw.2 h1
              have r2 := pExp_ok r1.2 h3
              have r3 := pOf_ok (j := y.1) (f := y.2) r2.2 h5
              have r4 := pFin_ok r3.2 h6
              omega
          · split at h
            · rename_i hk
              have hw := wk _ hk
              unfold pList at h
              split at h
              · cases h
              · obtain ⟨x, b1, h1, h2⟩ := pB_ok h
                obtain ⟨_, b2, h3, h4⟩ := pB_ok h2
                obtain ⟨y, b3, h5, h6⟩ := pB_ok h4
                have r1 := pOf_ok (j := x.1) (f := x.2) hw.2 h1
                have r2 := pExp_ok r1.2 h3
                have r3 := pOf_ok (j := y.1) (f := y.2) r2.2 h5
                have r4 := pFin_ok r3.2 h6
                omega
            · split at h
              · rename_i hk
                have hw := wk _ hk
                have := cod 0 _ hw.2 h
                omega
              · split at h
                · rename_i hk
                  have hw := wk _ hk
                  have := cod 1 _ hw.2 h
                  omega
                · split at h
                  · rename_i hk
                    have hw := wk _ hk
                    have := cod 2 _ hw.2 h
                    omega
                  · unfold pCrowd at h
                    obtain ⟨_, b1, h1, h2⟩ := pB_ok h
                    obtain ⟨v, b2, h3, h4⟩ := pB_ok h2
                    have r1 := pExp_ok ha h1
                    have r2 := pNum_ok r1.2 h3
                    have r3 := pFin_ok r2.2.2.1 h4
                    omega
theorem ml_stms {σ0 : FS} {t : Nat → Nat} {e : Nat} {Q : Int32 → FS → Prop} : ∀ (f n u : Nat) (D : Dr) (a : Nat) (σ : FS), Tok σ t e a → Dm σ D n u → drOK D → u ≤ a → Pf σ0 σ → e + 1 - a ≤ f →
    (∀ D' n' b, pStms t e f n D a = .inl ((D', n'), b) → ∀ σ' u', Pf σ0 σ' → Tok σ' t e b → Dm σ' D' n' u' → drOK D' → mw_plain_125 σ' Q) → (∀ q, pStms t e f n D a = .inr q → ∀ σ', Pf σ0 σ' → Bd σ' q → mw_plain_125 σ' Q) → ∀ X : FS → Prop, (∀ (σ : FS), ((¬ (fI σ 0 5) = 0 → mw_plain_125 σ Q) ∧ ((fI σ 0 5) = 0 → mw_look σ (fun r15 σ14 => ((r15 = (-1 : Int32) → mw_plain_125 σ14 Q) ∧ (¬ r15 = (-1 : Int32) → mw_statementTold σ14 (fun σ16 => X σ16)))))) → X σ) → X σ := by
  intro f
  induction f with
  | zero =>
    intro n u D a σ h hD hd hu hP hf ho hx X hX
    have := h.2.2.1
    omega
  | succ f ih =>
    intro n u D a σ h hD hd hu hP hf ho hx X hX
    have hbe := h.2.2.1
    have hlk := lk_spec (t := t) hbe
    have hll := lk_lk (t := t) hbe
    refine hX σ ⟨fun z => absurd h.2.2.2.1 z, fun _ => ml_look h (fun hT => ?_)⟩
    have hF : FT σ (sI σ 0 2 (nI (lk t e a))) := FT.at σ _
    have hb := h.1.2.2.2.1 (lk t e a)
    by_cases hlt : lk t e a < e
    · have hps : pStms t e (f + 1) n D a = pB (pStm n D t e (lk t e a)) (fun D' b => pStms t e f (n + 1) D' b) := by
        conv => lhs; unfold pStms
        rw [if_pos hlt]
      rw [byI_at hlt]
      refine ⟨fun z => absurd (z.trans neg_nI1) (by rw [nI_m1 (by omega)]; exact id), fun _ => ?_⟩
      refine ml_stm (σ0 := σ0) hT hll (hD.t hF) hd (by omega) (hP.trans (FT.p hF)) (fun D' b hp σ' u' hP' hT' hD' hu' hd' => ?_) (fun q hp σ' hP' hB' => ?_)
      · have hab := pStm_ok (by omega) hp
        exact ih (n + 1) u' D' b σ' hT' hD' hd' hu' hP' (by omega) (fun D2 n2 b2 hq => ho D2 n2 b2 (by rw [hps, hp]; exact hq)) (fun q hq => hx q (by rw [hps, hp]; exact hq)) X hX
      · exact hX σ' ⟨fun _ => hx q (by rw [hps, hp]; rfl) σ' hP' hB', fun z => absurd z hB'.ne⟩
    · have hps : pStms t e (f + 1) n D a = .inl ((D, n), lk t e a) := by
        conv => lhs; unfold pStms
        rw [if_neg hlt]
      have hby : byI t e (lk t e a) = M1 := by unfold byI; rw [if_neg hlt]
      rw [hby]
      exact ⟨fun _ => ho D n _ hps _ u (hP.trans (FT.p hF)) hT (hD.t hF) hd, fun z => absurd rfl z⟩
