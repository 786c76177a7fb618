/-! THE REFERENCE: chance, seed, tape -/
def sdOK (d : Int64) : Prop := 0 ≤ d.toInt ∧ d.toInt < 2 ^ 31
theorem drw_eq {d : Int64} (h : sdOK d) : ∃ v : Nat, drw d = lN v ∧ v < 2 ^ 31 := by
  obtain ⟨h0, h1⟩ := h
  obtain ⟨k, hk, rfl⟩ := pk_lOf (x := d) (by rw [Int64.lt_iff_toInt_lt]; show ¬ d.toInt < 0; omega)
  have hk2 : k < 2 ^ 31 := by rw [pk_lT hk] at h1; omega
  refine ⟨(1103515245 * k + 12345) % 2147483648, ?_, Nat.mod_lt _ (by decide)⟩
  unfold drw
  have e1 : (1103515245 : Int64) = lN 1103515245 := rfl
  have e2 : (12345 : Int64) = lN 12345 := rfl
  have e3 : (2147483648 : Int64) = lN 2147483648 := rfl
  rw [e1, e2, e3, lN_mul, lN_add, pk_lRem (by omega) (by decide) (by decide)]
theorem drw_ok {d : Int64} (h : sdOK d) : sdOK (drw d) := by
  obtain ⟨v, e, hv⟩ := drw_eq h
  unfold sdOK
  rw [e, pk_lT (by omega)]
  omega
theorem drawn_lt {d : Int64} {m : Nat} (hm : 0 < m) : drawn d m < m := Nat.mod_lt _ hm
theorem ml_drawOf {σ : FS} {d : Int64} {m : Nat} {Q : Int32 → FS → Prop} (h78 : fL σ 0 78 = d) (hd : sdOK d) (hm : 0 < m) (hm2 : m < 1000) (hQ : Q (nI (drawn (drw d) m)) (sL σ 0 78 (drw d))) : mw_drawOf (nI m) σ Q := by
  unfold mw_drawOf
  rw [h78]
  intro σ1 e
  subst e
  obtain ⟨v, ev, hv⟩ := drw_eq hd
  have hz : ¬ (nI m).toInt64 = 0 := by
    intro z
    have := congrArg Int64.toInt z
    rw [Int32.toInt_toInt64, nI_toInt (by omega)] at this
    have h0 : (0 : Int64).toInt = 0 := by decide
    omega
  refine ⟨hz, ?_⟩
  have e1 : fL (sL σ 0 78 (1103515245 * d + 12345 - (1103515245 * d + 12345) / 2147483648 * 2147483648)) 0 78 = lN v := by rw [fL_sL, if_pos ⟨rfl, rfl⟩]; exact ev
  rw [e1]
  have e2 : (64 : Int64) = lN 64 := rfl
  rw [e2, nI_l (by omega), pk_lDiv (by omega) (by decide) (by decide), pk_lRem (by omega) hm (by omega), lN_i]
  have e3 : drawn (drw d) m = v / 64 % m := by
    unfold drawn
    rw [ev, pk_lT (by omega)]
    simp
  rw [e3] at hQ
  exact hQ
theorem mAll.seed {σ : FS} {Z : Wd} {d : Int64} (h : mAll σ Z) : mAll (sL σ 0 78 d) (putD Z d) := by
  obtain ⟨h1, h2, h3, h4, h5, h6, h7, h8, h9, h10, h11, h12, h13, h14⟩ := h
  refine ⟨h1, h2, h3, h4, ?_, h6, h7, h8, h9, ?_, h11, h12, h13, h14⟩
  · rcases h5 with h5 | h5
    · exact Or.inl h5
    · exact Or.inr h5
  · rw [fL_sL, if_pos ⟨rfl, rfl⟩]; rfl
theorem putD_putD (Z : Wd) (a b : Int64) : putD (putD Z a) b = putD Z b := rfl
theorem putS_putD (Z : Wd) (s s' : St) (a : Int64) : putS (putD (putS Z s) a) s' = putD (putS Z s') a := rfl
theorem ma_seed {σ : FS} {Z : Wd} {x : Int32} {Q : Int32 → FS → Prop} (h : mAll σ Z) (hQ : ∀ σ', mAll σ' (opSeed Z x).2 → Q (opSeed Z x).1 σ') : mw_seed x σ Q := by
  unfold mw_seed
  unfold opSeed at hQ
  refine ⟨fun c => ?_, fun c => ?_⟩
  · rw [if_neg (Int32.not_lt.mpr c)] at hQ
    intro σ1 e
    subst e
    exact hQ _ h.seed
  · rw [if_pos (Int32.not_le.mp c)] at hQ
    simp (disch := omega) only [i_0, i_1, i_2, i_3, i_4, i_5, i_6, i_7, i_8, i_9, i_10, i_11, i_12, i_13, i_16, i_19, i_20, i_21, i_22, i_23, i_24, i_25, i_30, i_31, i_32, i_39, i_40, i_41, i_42, i_43, i_44, i_45, i_47, i_48, i_49, i_50, i_51, i_52, i_57, i_59, i_60, i_61, i_62, i_63, i_64, i_71, i_72, i_80, i_91, i_93, i_97, i_99, i_100, i_122, i_227, i_228, i_232, i_251, i_255, i_256, i_463, i_999, i_1000, i_1519, i_1600, i_9999, i_100000000, i_2147483639, i_2147483647, neg_nI1, nI_add, pk_mul, nI_remL, pk_sub, pk_div, nI_clamp, nI_leI, nI_ltI, nI_eq, vpT, nI_m1, m1_nI, nI_lem1, m1_le, m1_lt, nI_ltm1, nI_bit, nI_shl, nI_xor, nI_or, n_rem, forall_eq, true_and, and_true, implies_true, true_implies, false_implies, not_true_eq_false, not_false_eq_true, Nat.zero_add, Nat.add_zero, ite_true, ite_false, if_true, if_false, true_or, or_true, false_or, or_false, and_self, and_false, false_and, Nat.reduceEqDiff, reduceIte]
    exact hQ _ (h.rf (k := 5) (by decide) rfl)
theorem zDy_ok {P : Pl} {s : St} {sil : Nat} (hs : stOK P s) (h : zD s < 5000) : stOK P (zDy P sil s) := by
  unfold zDy
  split
  · exact nxt_ok hs h
  · exact nxt_ok (zAs_ok hs _ _ _) (by rw [zAs_D]; exact h)
theorem chS_ok {P : Pl} : ∀ (j a : Nat) (d : Int64) (s : St), sdOK d → stOK P s → zD s + j ≤ 5000 → sdOK (chS P j a d s).2.1 ∧ stOK P (chS P j a d s).2.2 ∧ zD (chS P j a d s).2.2 = zD s + j
  | 0, a, d, s, hd, hs, h => ⟨hd, hs, rfl⟩
  | j + 1, a, d, s, hd, hs, h => by
    unfold chS
    split
    · obtain ⟨b1, b2, b3⟩ := chS_ok (P := P) j (a + if zWo P 0 s (drawn (drw (drw d)) (nP P)) (drawn (drw (drw (drw d))) (nT P)) = 2 then 1 else 0) (drw (drw (drw d))) (zDy P 0 (zAs P 0 s (drawn (drw (drw d)) (nP P)) (drawn (drw (drw (drw d))) (nT P)))) (drw_ok (drw_ok (drw_ok hd))) (zDy_ok (zAs_ok hs _ _ _) (by rw [zAs_D]; omega)) (by rw [zDy_D, zAs_D]; omega)
      exact ⟨b1, b2, by rw [b3, zDy_D, zAs_D]; omega⟩
    · obtain ⟨b1, b2, b3⟩ := chS_ok (P := P) j a (drw d) (zDy P 0 s) (drw_ok hd) (zDy_ok hs (by omega)) (by rw [zDy_D]; omega)
      exact ⟨b1, b2, by rw [b3, zDy_D]; omega⟩
theorem ma_chance {σ : FS} {Z : Wd} {n : Int32} {Q : Int32 → FS → Prop} (h : mAll σ Z) (hsd : sdOK (wD Z)) (hQ : ∀ σ', mAll σ' (opChance Z n).2 → Q (opChance Z n).1 σ') : mw_chance n σ Q := by
  have hA := h
  obtain ⟨h1, h2, h3, h4, h5, h6, h7, h8, h9, h10, h11, h12, h13, h14⟩ := h
  unfold mw_chance
  unfold opChance at hQ
  refine ml_isAhead (lo := 1) (hi := 100) h5 h6 (by have := h1.2.2.1; omega) (by decide) (by decide) (fun m a1 b0 d0 b1 c1 d1 => ?_) (fun a1 => ?_)
  · subst c1
    simp only [a1] at hQ
    simp (disch := omega) only [i_0, i_1, i_2, i_3, i_4, i_5, i_6, i_7, i_8, i_9, i_10, i_11, i_12, i_13, i_16, i_19, i_20, i_21, i_22, i_23, i_24, i_25, i_30, i_31, i_32, i_39, i_40, i_41, i_42, i_43, i_44, i_45, i_47, i_48, i_49, i_50, i_51, i_52, i_57, i_59, i_60, i_61, i_62, i_63, i_64, i_71, i_72, i_80, i_91, i_93, i_97, i_99, i_100, i_122, i_227, i_228, i_232, i_251, i_255, i_256, i_463, i_999, i_1000, i_1519, i_1600, i_9999, i_100000000, i_2147483639, i_2147483647, neg_nI1, nI_add, pk_mul, nI_remL, pk_sub, pk_div, nI_clamp, nI_leI, nI_ltI, nI_eq, vpT, nI_m1, m1_nI, nI_lem1, m1_le, m1_lt, nI_ltm1, nI_bit, nI_shl, nI_xor, nI_or, n_rem, forall_eq, true_and, and_true, implies_true, true_implies, false_implies, not_true_eq_false, not_false_eq_true, Nat.zero_add, Nat.add_zero, ite_true, ite_false, if_true, if_false, true_or, or_true, false_or, or_false, and_self, and_false, false_and, Nat.reduceEqDiff, reduceIte]
    refine ml_stores hA (fun σ0 hA0 _ => ?_)
    have hP0 : mP σ0 (wP Z) := hA0.2.2.2.2.1.p (Or.inl (show 0 < plC (wP Z) by have := b0.1.1; omega))
    have hW := b0.1.2.2.1
    have hnp := h1.np
    unfold mw_chance_25
    intro X hX
    have key : ∀ j k a (d : Int64) (s : St) (σ1 : FS), m - k = j → k ≤ m → a ≤ k → sdOK d → zD s + j ≤ 999 → mAll σ1 (putD (putS (remb Z) s) d) → chS (wP Z) j a d s = chS (wP Z) m 0 (wD Z) (wS Z) → X (nI m) (nI a) (nI k) σ1 := by
      intro j
      induction j with
      | zero =>
        intro k a d s σ1 hj hk ha hd hz hA1 he
        refine hX _ _ _ _ ⟨fun _ => ?_, fun z => absurd ((nI_leI (by omega) (by omega)).mpr (by omega)) z⟩
        rw [← he] at hQ
        exact hQ σ1 hA1
      | succ j ih =>
        intro k a d s σ1 hj hk ha hd hz hA1 he
        have hP1 : mP σ1 (wP Z) := hA1.2.2.2.2.1.p (Or.inl (show 0 < plC (wP Z) by have := b0.1.1; omega))
        -- a day ends it
        have day : ∀ a' (d' : Int64) (s' : St) (σ2 : FS), a' ≤ k + 1 → sdOK d' → zD s' = zD s → mAll σ2 (putD (putS (remb Z) s') d') → chS (wP Z) j a' d' (zDy (wP Z) 0 s') = chS (wP Z) m 0 (wD Z) (wS Z) → mw_chance_90 X (nI m) (nI a') (nI k) σ2 Q := by
          intro a' d' s' σ2 ha' hd' hz' hA2 he'
          have hP2 : mP σ2 (wP Z) := hA2.2.2.2.2.1.p (Or.inl (show 0 < plC (wP Z) by have := b0.1.1; omega))
          unfold mw_chance_90
          refine ml_dayGoes (s := s') (th := 0) (sil := 0) hP2 hA2.2.2.2.2.2.1 hA2.2.2.2.2.2.2.2.2.2.2.2.1 (by omega) hA2.2.2.2.2.2.2.2.2.2.2.2.2.1.1 (by decide) hA2.2.2.2.2.2.2.2.2.2.2.2.2.1.2 (by decide) (fun _ => hA2.2.2.2.2.2.2.1) (fun σ3 hF3 hN3 hS3 _ => ?_)
          rw [nI_1]
          exact ih (k + 1) a' d' (zDy (wP Z) 0 s') σ3 (by omega) (by omega) (by omega) hd' (by rw [zDy_D]; omega) (hA2.now (s := zDy (wP Z) 0 s') (by show zD (zDy (wP Z) 0 s') ≤ 999; rw [zDy_D]; omega) hF3 hN3.1 (hN3.2.1 rfl hA2.2.2.2.2.2.2.1) hS3) he'
        refine hX _ _ _ _ ⟨fun z => absurd ((nI_leI (by omega) (by omega)).mp z) (by omega), fun _ => ?_⟩
        refine ml_drawOf (d := d) (m := 100) hA1.2.2.2.2.2.2.2.2.2.1 hd (by decide) (by decide) ?_
        have hA2 : mAll (sL σ1 0 78 (drw d)) (putD (putS (remb Z) s) (drw d)) := by rw [← putD_putD _ d]; exact hA1.seed
        have hlt := drawn_lt (d := drw d) (m := 100) (by decide)
        have hP2 : mP (sL σ1 0 78 (drw d)) (wP Z) := hA2.2.2.2.2.1.p (Or.inl (show 0 < plC (wP Z) by have := b0.1.1; omega))
        simp only [chS] at he
        have rest : ∀ σ2, σ2 = sL σ1 0 78 (drw d) → ¬ (drawn (drw d) 100 < plW (wP Z) ∧ 0 < nP (wP Z) ∧ 0 < nT (wP Z)) → mw_chance_90 X (nI m) (nI a) (nI k) σ2 Q := by
          intro σ2 e2 hc
          subst e2
          rw [if_neg hc] at he
          exact day a (drw d) s _ (by omega) (drw_ok hd) rfl hA2 he
        simp (disch := omega) only [i_0, i_1, i_2, i_3, i_4, i_5, i_6, i_7, i_8, i_9, i_10, i_11, i_12, i_13, i_16, i_19, i_20, i_21, i_22, i_23, i_24, i_25, i_30, i_31, i_32, i_39, i_40, i_41, i_42, i_43, i_44, i_45, i_47, i_48, i_49, i_50, i_51, i_52, i_57, i_59, i_60, i_61, i_62, i_63, i_64, i_71, i_72, i_80, i_91, i_93, i_97, i_99, i_100, i_122, i_227, i_228, i_232, i_251, i_255, i_256, i_463, i_999, i_1000, i_1519, i_1600, i_9999, i_100000000, i_2147483639, i_2147483647, neg_nI1, nI_add, pk_mul, nI_remL, pk_sub, pk_div, nI_clamp, nI_leI, nI_ltI, nI_eq, vpT, nI_m1, m1_nI, nI_lem1, m1_le, m1_lt, nI_ltm1, nI_bit, nI_shl, nI_xor, nI_or, n_rem, forall_eq, true_and, and_true, implies_true, true_implies, false_implies, not_true_eq_false, not_false_eq_true, Nat.zero_add, Nat.add_zero, ite_true, ite_false, if_true, if_false, true_or, or_true, false_or, or_false, and_self, and_false, false_and, Nat.reduceEqDiff, reduceIte]
        rw [hP2.2.2.1.2.2]
        simp (disch := omega) only [i_0, i_1, i_2, i_3, i_4, i_5, i_6, i_7, i_8, i_9, i_10, i_11, i_12, i_13, i_16, i_19, i_20, i_21, i_22, i_23, i_24, i_25, i_30, i_31, i_32, i_39, i_40, i_41, i_42, i_43, i_44, i_45, i_47, i_48, i_49, i_50, i_51, i_52, i_57, i_59, i_60, i_61, i_62, i_63, i_64, i_71, i_72, i_80, i_91, i_93, i_97, i_99, i_100, i_122, i_227, i_228, i_232, i_251, i_255, i_256, i_463, i_999, i_1000, i_1519, i_1600, i_9999, i_100000000, i_2147483639, i_2147483647, neg_nI1, nI_add, pk_mul, nI_remL, pk_sub, pk_div, nI_clamp, nI_leI, nI_ltI, nI_eq, vpT, nI_m1, m1_nI, nI_lem1, m1_le, m1_lt, nI_ltm1, nI_bit, nI_shl, nI_xor, nI_or, n_rem, forall_eq, true_and, and_true, implies_true, true_implies, false_implies, not_true_eq_false, not_false_eq_true, Nat.zero_add, Nat.add_zero, ite_true, ite_false, if_true, if_false, true_or, or_true, false_or, or_false, and_self, and_false, false_and, Nat.reduceEqDiff, reduceIte]
        refine ⟨fun z => rest _ rfl (by omega), fun z => ml_personMany hP2 ?_⟩
        simp (disch := omega) only [i_0, i_1, i_2, i_3, i_4, i_5, i_6, i_7, i_8, i_9, i_10, i_11, i_12, i_13, i_16, i_19, i_20, i_21, i_22, i_23, i_24, i_25, i_30, i_31, i_32, i_39, i_40, i_41, i_42, i_43, i_44, i_45, i_47, i_48, i_49, i_50, i_51, i_52, i_57, i_59, i_60, i_61, i_62, i_63, i_64, i_71, i_72, i_80, i_91, i_93, i_97, i_99, i_100, i_122, i_227, i_228, i_232, i_251, i_255, i_256, i_463, i_999, i_1000, i_1519, i_1600, i_9999, i_100000000, i_2147483639, i_2147483647, neg_nI1, nI_add, pk_mul, nI_remL, pk_sub, pk_div, nI_clamp, nI_leI, nI_ltI, nI_eq, vpT, nI_m1, m1_nI, nI_lem1, m1_le, m1_lt, nI_ltm1, nI_bit, nI_shl, nI_xor, nI_or, n_rem, forall_eq, true_and, and_true, implies_true, true_implies, false_implies, not_true_eq_false, not_false_eq_true, Nat.zero_add, Nat.add_zero, ite_true, ite_false, if_true, if_false, true_or, or_true, false_or, or_false, and_self, and_false, false_and, Nat.reduceEqDiff, reduceIte]
        refine ⟨fun z1 => rest _ rfl (by omega), fun z1 => ml_topicMany hP2 ?_⟩
        simp (disch := omega) only [i_0, i_1, i_2, i_3, i_4, i_5, i_6, i_7, i_8, i_9, i_10, i_11, i_12, i_13, i_16, i_19, i_20, i_21, i_22, i_23, i_24, i_25, i_30, i_31, i_32, i_39, i_40, i_41, i_42, i_43, i_44, i_45, i_47, i_48, i_49, i_50, i_51, i_52, i_57, i_59, i_60, i_61, i_62, i_63, i_64, i_71, i_72, i_80, i_91, i_93, i_97, i_99, i_100, i_122, i_227, i_228, i_232, i_251, i_255, i_256, i_463, i_999, i_1000, i_1519, i_1600, i_9999, i_100000000, i_2147483639, i_2147483647, neg_nI1, nI_add, pk_mul, nI_remL, pk_sub, pk_div, nI_clamp, nI_leI, nI_ltI, nI_eq, vpT, nI_m1, m1_nI, nI_lem1, m1_le, m1_lt, nI_ltm1, nI_bit, nI_shl, nI_xor, nI_or, n_rem, forall_eq, true_and, and_true, implies_true, true_implies, false_implies, not_true_eq_false, not_false_eq_true, Nat.zero_add, Nat.add_zero, ite_true, ite_false, if_true, if_false, true_or, or_true, false_or, or_false, and_self, and_false, false_and, Nat.reduceEqDiff, reduceIte]
        refine ⟨fun z2 => rest _ rfl (by omega), fun z2 => ml_personMany hP2 ?_⟩
        rw [if_pos ⟨by omega, by omega, by omega⟩] at he
        refine ml_drawOf (d := drw d) (m := nP (wP Z)) (by rw [fL_sL, if_pos ⟨rfl, rfl⟩]) (drw_ok hd) (by omega) (by omega) ?_
        have hA3 : mAll (sL (sL σ1 0 78 (drw d)) 0 78 (drw (drw d))) (putD (putS (remb Z) s) (drw (drw d))) := by rw [← putD_putD _ (drw d)]; exact hA2.seed
        have hP3 : mP (sL (sL σ1 0 78 (drw d)) 0 78 (drw (drw d))) (wP Z) := hA3.2.2.2.2.1.p (Or.inl (show 0 < plC (wP Z) by have := b0.1.1; omega))
        refine ml_topicMany hP3 ?_
        refine ml_drawOf (d := drw (drw d)) (m := nT (wP Z)) (by rw [fL_sL, if_pos ⟨rfl, rfl⟩]) (drw_ok (drw_ok hd)) (by omega) (by omega) ?_
        have hA4 : mAll (sL (sL (sL σ1 0 78 (drw d)) 0 78 (drw (drw d))) 0 78 (drw (drw (drw d)))) (putD (putS (remb Z) s) (drw (drw (drw d)))) := by rw [← putD_putD _ (drw (drw d))]; exact hA3.seed
        have hP4 : mP (sL (sL (sL σ1 0 78 (drw d)) 0 78 (drw (drw d))) 0 78 (drw (drw (drw d)))) (wP Z) := hA4.2.2.2.2.1.p (Or.inl (show 0 < plC (wP Z) by have := b0.1.1; omega))
        have hpp := drawn_lt (d := drw (drw d)) (m := nP (wP Z)) (by omega)
        have htt := drawn_lt (d := drw (drw (drw d))) (m := nT (wP Z)) (by omega)
        refine ml_isAsked (s := s) (th := 0) (sil := 0) hP4 hA4.2.2.2.2.2.1 hA4.2.2.2.2.2.2.2.2.2.2.2.1 hpp htt hA4.2.2.2.2.2.2.2.2.2.2.2.2.1.1 (by decide) hA4.2.2.2.2.2.2.2.2.2.2.2.2.1.2 (by decide) (fun _ => hA4.2.2.2.2.2.2.1) (fun σ5 hF5 hN5 hS5 _ _ => ?_)
        have hw3 := zWo_lt (wP Z) 0 s (drawn (drw (drw d)) (nP (wP Z))) (drawn (drw (drw (drw d))) (nT (wP Z)))
        have hA5 : mAll σ5 (putD (putS (remb Z) (zAs (wP Z) 0 s (drawn (drw (drw d)) (nP (wP Z))) (drawn (drw (drw (drw d))) (nT (wP Z))))) (drw (drw (drw d)))) := by
          rw [← putS_putD _ s]
          exact hA4.now (s := zAs (wP Z) 0 s (drawn (drw (drw d)) (nP (wP Z))) (drawn (drw (drw (drw d))) (nT (wP Z)))) (by rw [zAs_D]; omega) hF5 hN5.1 (hN5.2.1 rfl hA4.2.2.2.2.2.2.1) hS5
        simp (disch := omega) only [i_0, i_1, i_2, i_3, i_4, i_5, i_6, i_7, i_8, i_9, i_10, i_11, i_12, i_13, i_16, i_19, i_20, i_21, i_22, i_23, i_24, i_25, i_30, i_31, i_32, i_39, i_40, i_41, i_42, i_43, i_44, i_45, i_47, i_48, i_49, i_50, i_51, i_52, i_57, i_59, i_60, i_61, i_62, i_63, i_64, i_71, i_72, i_80, i_91, i_93, i_97, i_99, i_100, i_122, i_227, i_228, i_232, i_251, i_255, i_256, i_463, i_999, i_1000, i_1519, i_1600, i_9999, i_100000000, i_2147483639, i_2147483647, neg_nI1, nI_add, pk_mul, nI_remL, pk_sub, pk_div, nI_clamp, nI_leI, nI_ltI, nI_eq, vpT, nI_m1, m1_nI, nI_lem1, m1_le, m1_lt, nI_ltm1, nI_bit, nI_shl, nI_xor, nI_or, n_rem, forall_eq, true_and, and_true, implies_true, true_implies, false_implies, not_true_eq_false, not_false_eq_true, Nat.zero_add, Nat.add_zero, ite_true, ite_false, if_true, if_false, true_or, or_true, false_or, or_false, and_self, and_false, false_and, Nat.reduceEqDiff, reduceIte]
        refine ⟨fun z3 => ?_, fun z3 => ?_⟩
        · rw [if_neg z3] at he
          exact day a _ _ σ5 (by omega) (drw_ok (drw_ok (drw_ok hd))) (zAs_D _ _ _ _ _) hA5 he
        · rw [if_pos z3] at he
          exact day (a + 1) _ _ σ5 (by omega) (drw_ok (drw_ok (drw_ok hd))) (zAs_D _ _ _ _ _) hA5 he
    have e0 : mAll σ0 (putD (putS (remb Z) (wS Z)) (wD Z)) := hA0
    exact key m 0 0 (wD Z) (wS Z) σ0 rfl (by omega) (by omega) hsd d1 e0 rfl
  · simp only [a1] at hQ
    simp (disch := omega) only [i_0, i_1, i_2, i_3, i_4, i_5, i_6, i_7, i_8, i_9, i_10, i_11, i_12, i_13, i_16, i_19, i_20, i_21, i_22, i_23, i_24, i_25, i_30, i_31, i_32, i_39, i_40, i_41, i_42, i_43, i_44, i_45, i_47, i_48, i_49, i_50, i_51, i_52, i_57, i_59, i_60, i_61, i_62, i_63, i_64, i_71, i_72, i_80, i_91, i_93, i_97, i_99, i_100, i_122, i_227, i_228, i_232, i_251, i_255, i_256, i_463, i_999, i_1000, i_1519, i_1600, i_9999, i_100000000, i_2147483639, i_2147483647, neg_nI1, nI_add, pk_mul, nI_remL, pk_sub, pk_div, nI_clamp, nI_leI, nI_ltI, nI_eq, vpT, nI_m1, m1_nI, nI_lem1, m1_le, m1_lt, nI_ltm1, nI_bit, nI_shl, nI_xor, nI_or, n_rem, forall_eq, true_and, and_true, implies_true, true_implies, false_implies, not_true_eq_false, not_false_eq_true, Nat.zero_add, Nat.add_zero, ite_true, ite_false, if_true, if_false, true_or, or_true, false_or, or_false, and_self, and_false, false_and, Nat.reduceEqDiff, reduceIte]
    exact ml_refuses hA (by decide) hQ
theorem mAll.tape {σ σ' : FS} {Z : Wd} {t : Nat → Nat} {n : Nat} (h : mAll σ Z) (f : Fm [1] [0] [] σ σ') (hn : n ≤ 1600) (ht : ∀ i, t i < 256) (h1' : fI σ' 0 1 = nI n) (h0 : ∀ i, i < 1600 → fA σ' 0 i = nI (t i)) : mAll σ' (putT Z t n) := by
  obtain ⟨h1, h2, h3, h4, h5, h6, h7, h8, h9, h10, h11, h12, h13, h14⟩ := h
  refine ⟨?_, ⟨h1', h0⟩, ?_, ?_, h5.fm f (by decide) (by decide) (by decide), h6.eqv (f.2.1 52 (by decide)), ?_, ?_, ?_, ?_, ?_, h12.eqv (f.1 56 (by decide)), ?_, ?_⟩
  · obtain ⟨g1, g2, g3, g4, g5, g6⟩ := h1
    exact ⟨g1, g2, g3, hn, ht, g6⟩
  · rw [f.1 7 (by decide), f.1 8 (by decide)]; exact h3
  · rw [f.2.1 9 (by decide)]; exact h4
  · unfold mKe; rw [f.2.1 52 (by decide)]; exact h7
  · exact ⟨by rw [f.1 71 (by decide)]; exact h8.1, by rw [f.2.1 72 (by decide)]; exact h8.2⟩
  · unfold mUn; rw [f.1 76 (by decide), f.1 77 (by decide), f.2.1 75 (by decide)]; exact h9
  · rw [f.2.2.2]; exact h10
  · exact ⟨by rw [f.1 113 (by decide)]; exact h11.1, by rw [f.2.1 112 (by decide)]; exact h11.2⟩
  · rw [f.1 57 (by decide), f.1 60 (by decide)]; exact h13
  · exact h14.fm (fun a z => f.2.1 a (by simp; omega))
theorem ma_end {σ : FS} {Z : Wd} {n : Int32} {Q : Int32 → FS → Prop} (h : mAll σ Z) (hQ : ∀ σ', mAll σ' (opEnd Z n).2 → Q (opEnd Z n).1 σ') : mw_end n σ Q := by
  have hA := h
  obtain ⟨h1, h2, h3, h4, h5, h6, h7, h8, h9, h10, h11, h12, h13, h14⟩ := h
  have hT := h1.2.2.2.1
  unfold mw_end mw_end_12
  unfold opEnd at hQ
  rw [h2.1]
  rcases ix_cases n (wTn Z + 1) with ⟨j, e1, e2, e3⟩ | ⟨e1, e2⟩
  · subst e3
    simp only [e1] at hQ
    simp (disch := omega) only [i_0, i_1, i_2, i_3, i_4, i_5, i_6, i_7, i_8, i_9, i_10, i_11, i_12, i_13, i_16, i_19, i_20, i_21, i_22, i_23, i_24, i_25, i_30, i_31, i_32, i_39, i_40, i_41, i_42, i_43, i_44, i_45, i_47, i_48, i_49, i_50, i_51, i_52, i_57, i_59, i_60, i_61, i_62, i_63, i_64, i_71, i_72, i_80, i_91, i_93, i_97, i_99, i_100, i_122, i_227, i_228, i_232, i_251, i_255, i_256, i_463, i_999, i_1000, i_1519, i_1600, i_9999, i_100000000, i_2147483639, i_2147483647, neg_nI1, nI_add, pk_mul, nI_remL, pk_sub, pk_div, nI_clamp, nI_leI, nI_ltI, nI_eq, vpT, nI_m1, m1_nI, nI_lem1, m1_le, m1_lt, nI_ltm1, nI_bit, nI_shl, nI_xor, nI_or, n_rem, forall_eq, true_and, and_true, implies_true, true_implies, false_implies, not_true_eq_false, not_false_eq_true, Nat.zero_add, Nat.add_zero, ite_true, ite_false, if_true, if_false, true_or, or_true, false_or, or_false, and_self, and_false, false_and, Nat.reduceEqDiff, reduceIte]
    refine ⟨fun z => by omega, fun _ => ⟨fun _ => hQ _ (hA.tape (Fm.sI σ _ (by decide)) (by omega) h1.2.2.2.2.1 ?_ h2.2), fun z => by omega⟩⟩
    rw [fI_sI]; simp
  · simp only [e1] at hQ
    rw [Int32.lt_iff_toInt_lt, Int32.le_iff_toInt_le, nI_toInt (by omega)]
    have h0 : (0 : Int32).toInt = 0 := by decide
    rw [h0]
    simp (disch := omega) only [i_0, i_1, i_2, i_3, i_4, i_5, i_6, i_7, i_8, i_9, i_10, i_11, i_12, i_13, i_16, i_19, i_20, i_21, i_22, i_23, i_24, i_25, i_30, i_31, i_32, i_39, i_40, i_41, i_42, i_43, i_44, i_45, i_47, i_48, i_49, i_50, i_51, i_52, i_57, i_59, i_60, i_61, i_62, i_63, i_64, i_71, i_72, i_80, i_91, i_93, i_97, i_99, i_100, i_122, i_227, i_228, i_232, i_251, i_255, i_256, i_463, i_999, i_1000, i_1519, i_1600, i_9999, i_100000000, i_2147483639, i_2147483647, neg_nI1, nI_add, pk_mul, nI_remL, pk_sub, pk_div, nI_clamp, nI_leI, nI_ltI, nI_eq, vpT, nI_m1, m1_nI, nI_lem1, m1_le, m1_lt, nI_ltm1, nI_bit, nI_shl, nI_xor, nI_or, n_rem, forall_eq, true_and, and_true, implies_true, true_implies, false_implies, not_true_eq_false, not_false_eq_true, Nat.zero_add, Nat.add_zero, ite_true, ite_false, if_true, if_false, true_or, or_true, false_or, or_false, and_self, and_false, false_and, Nat.reduceEqDiff, reduceIte]
    have fin := hQ _ (hA.rf (k := 0) (by decide) rfl)
    exact ⟨fun _ => fin, fun z => ⟨fun z2 => by omega, fun _ => fin⟩⟩
