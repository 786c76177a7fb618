/-! THE REFERENCE: sets of silent ones -/
def fwr (b : Option Nat) (q : Nat) : Bool := match b with
  | none => true
  | some r => decide (popc q < popc r)
def bestS (ok : Nat → Bool) (b : Option Nat) (q : Nat) : Option Nat := if (fwr b q && ok q) = true then some q else b
def bestL (ok : Nat → Bool) (n : Nat) : Option Nat := (List.range n).foldl (bestS ok) none
noncomputable def kpOK (P : Pl) (s : St) (a b j q : Nat) : Bool := decide (zWay P (zH (zDs P q j s)) a b ≤ zWay P (zH s) a b)
noncomputable def opKeeps (Z : Wd) (x y n : Int32) : Int32 := match cellN (wP Z) x, cellN (wP Z) y, ahd (wP Z) (wS Z) n 1 20 with
  | some a, some b, some j => match bestL (kpOK (wP Z) (wS Z) a b j) (2 ^ nP (wP Z)) with
    | some q => nI q
    | none => M1
  | _, _, _ => M1
def ownS (P : Pl) (s : St) (j q p : Nat) : Nat := zH (zDs P q j s) (zA (zDs P q j s) p)
def rsOK (P : Pl) (s : St) (j q : Nat) : Bool := (List.range (nP P)).all (fun p => decide (ownS P s j (q ^^^ 2 ^ p) p ≤ ownS P s j q p))
def opRest (Z : Wd) (n : Int32) : Int32 := match ahd (wP Z) (wS Z) n 1 20 with
  | some j => match bestL (rsOK (wP Z) (wS Z) j) (2 ^ nP (wP Z)) with
    | some q => nI q
    | none => M1
  | none => M1
theorem p2_le {P : Pl} (hP : nP P ≤ 7) : 2 ^ nP P ≤ 128 := Nat.le_trans (Nat.pow_le_pow_right (by decide) hP) (by decide)
def oN (o : Option Nat) : Int32 := match o with
  | none => M1
  | some q => nI q
theorem bestS_lt {ok : Nat → Bool} {b : Option Nat} {q n : Nat} (hb : ∀ r, b = some r → r < n) (hq : q < n) : ∀ r, bestS ok b q = some r → r < n := by
  intro r hr
  unfold bestS at hr
  split at hr
  · injection hr with hr; omega
  · exact hb r hr
theorem ml_isWayKept {σ0 σ : FS} {P : Pl} {s : St} {a b j q cost : Nat} {Q : Int32 → FS → Prop} (hP : mP σ0 P) (hN : mN σ0 P s) (hj : j ≤ 100) (hd : zD s + j ≤ 999) (hT : Thx [] [69] 0 σ0 σ ∨ ∃ q', Thx [] [69] q' σ0 σ) (e52 : fA σ 52 = fA σ0 52) (hS : mSd σ) (ha : isC P a) (hb : isC P b) (hq : q < 128) (hcost : cost ≤ 4800)
    (hQ : ∀ σ', Thx [] [69] q σ0 σ' → fA σ' 52 = fA σ0 52 → mSd σ' → Q (nI (if zWay P (zH (zDs P q j s)) a b ≤ cost then 1 else 0)) σ') : mw_isWayKept (nI q) (nI (c7 a)) (nI (c7 b)) (nI j) (nI cost) σ Q := by
  have hT' : ∃ q', Thx [] [69] q' σ0 σ := by
    rcases hT with h | h
    · exact ⟨0, h⟩
    · exact h
  obtain ⟨q', hT⟩ := hT'
  unfold mw_isWayKept mw_isWayKept_27
  intro σ1 e1
  have hT1 : Thx [] [69] q σ0 σ1 := by rw [e1]; exact hT.sil
  have hS1 : mSd σ1 := by rw [e1]; exact hS.eqv (by rw [fI_sI]; simp)
  have e521 : fA σ1 52 = fA σ0 52 := by rw [e1]; exact e52
  have hP1 := hT1.p hP (by decide) (by decide)
  refine ml_daysGo (s := s) (th := 1) (sil := q) (by omega) hP1 (hN.eqv e521) hS1 (by omega) hT1.2.1 (by decide) hT1.2.2.1 hq (fun z => by omega) (fun σ2 hF2 hN2 hS2 _ => ?_)
  have hT2 := hT1.step hF2 (hN2.2.2 (by decide))
  refine ml_wayCost (hT2.p hP (by decide) (by decide)) hN2.1 ha hb (fun σ3 hF3 hw3 => ?_)
  have hT3 := hT2.arr hF3 (by decide) (by decide) (by decide)
  have hS3 : mSd σ3 := hS2.eqv (hF3.1 56 (by decide))
  simp (disch := omega) only [i_0, i_1, i_2, i_3, i_4, i_5, i_6, i_7, i_8, i_9, i_10, i_11, i_12, i_13, i_16, i_19, i_20, i_21, i_22, i_23, i_24, i_25, i_30, i_31, i_32, i_39, i_40, i_41, i_42, i_43, i_44, i_45, i_47, i_48, i_49, i_50, i_51, i_52, i_57, i_59, i_60, i_61, i_62, i_63, i_64, i_71, i_72, i_80, i_91, i_93, i_97, i_99, i_100, i_122, i_227, i_228, i_232, i_251, i_255, i_256, i_463, i_999, i_1000, i_1519, i_1600, i_9999, i_100000000, i_2147483639, i_2147483647, neg_nI1, nI_add, pk_mul, nI_remL, pk_sub, pk_div, nI_clamp, nI_leI, nI_ltI, nI_eq, vpT, nI_m1, m1_nI, nI_lem1, m1_le, m1_lt, nI_ltm1, nI_bit, nI_shl, nI_xor, nI_or, n_rem, forall_eq, true_and, and_true, implies_true, true_implies, false_implies, not_true_eq_false, not_false_eq_true, Nat.zero_add, Nat.add_zero, ite_true, ite_false, if_true, if_false, true_or, or_true, false_or, or_false, and_self, and_false, false_and, Nat.reduceEqDiff, reduceIte]
  refine ⟨fun z => ml_anewX hT3 hS3 (fun σ4 hT4 e4 hS4 _ => ⟨nb_0, ?_⟩), fun z => ml_anewX hT3 hS3 (fun σ4 hT4 e4 hS4 _ => ⟨nb_1, ?_⟩)⟩
  · have := hQ σ4 hT4 e4 hS4
    rw [if_neg (by omega)] at this; exact this
  · have := hQ σ4 hT4 e4 hS4
    rw [if_pos (by omega)] at this; exact this
theorem mq_keeps {σ : FS} {Z : Wd} {x y n : Int32} {Q : Int32 → FS → Prop} (h : mAll σ Z) (hQ : ∀ σ', mAll σ' Z → Q (opKeeps Z x y n) σ') : mw_keeps x y n σ Q := by
  have hA := h
  obtain ⟨h1, h2, h3, h4, h5, h6, h7, h8, h9, h10, h11, h12, h13, h14⟩ := h
  have hnp := h1.np
  unfold mw_keeps
  unfold opKeeps at hQ
  refine ml_cellNumbered h5 ⟨hnp.2.2.1, hnp.2.2.2.1⟩ (fun a a1 a2 a3 a4 _ => ?_) (fun a1 => ?_)
  · have h49 := c7_lt a2.1 a3
    refine ml_cellNumbered h5 ⟨hnp.2.2.1, hnp.2.2.2.1⟩ (fun b b1 b2 b3 b4 _ => ?_) (fun b1 => ?_)
    · have h492 := c7_lt a2.1 b3
      simp (disch := omega) only [i_0, i_1, i_2, i_3, i_4, i_5, i_6, i_7, i_8, i_9, i_10, i_11, i_12, i_13, i_16, i_19, i_20, i_21, i_22, i_23, i_24, i_25, i_30, i_31, i_32, i_39, i_40, i_41, i_42, i_43, i_44, i_45, i_47, i_48, i_49, i_50, i_51, i_52, i_57, i_59, i_60, i_61, i_62, i_63, i_64, i_71, i_72, i_80, i_91, i_93, i_97, i_99, i_100, i_122, i_227, i_228, i_232, i_251, i_255, i_256, i_463, i_999, i_1000, i_1519, i_1600, i_9999, i_100000000, i_2147483639, i_2147483647, neg_nI1, nI_add, pk_mul, nI_remL, pk_sub, pk_div, nI_clamp, nI_leI, nI_ltI, nI_eq, vpT, nI_m1, m1_nI, nI_lem1, m1_le, m1_lt, nI_ltm1, nI_bit, nI_shl, nI_xor, nI_or, n_rem, forall_eq, true_and, and_true, implies_true, true_implies, false_implies, not_true_eq_false, not_false_eq_true, Nat.zero_add, Nat.add_zero, ite_true, ite_false, if_true, if_false, true_or, or_true, false_or, or_false, and_self, and_false, false_and, Nat.reduceEqDiff, reduceIte]
      refine ml_isAhead (lo := 1) (hi := 20) h5 h6 (by have := h1.2.2.1; omega) (by decide) (by decide) (fun j d1 d0 d2 d3 d4 d5 => ?_) (fun d1 => ?_)
      · subst d4
        simp only [a1, b1, d1] at hQ
        simp (disch := omega) only [i_0, i_1, i_2, i_3, i_4, i_5, i_6, i_7, i_8, i_9, i_10, i_11, i_12, i_13, i_16, i_19, i_20, i_21, i_22, i_23, i_24, i_25, i_30, i_31, i_32, i_39, i_40, i_41, i_42, i_43, i_44, i_45, i_47, i_48, i_49, i_50, i_51, i_52, i_57, i_59, i_60, i_61, i_62, i_63, i_64, i_71, i_72, i_80, i_91, i_93, i_97, i_99, i_100, i_122, i_227, i_228, i_232, i_251, i_255, i_256, i_463, i_999, i_1000, i_1519, i_1600, i_9999, i_100000000, i_2147483639, i_2147483647, neg_nI1, nI_add, pk_mul, nI_remL, pk_sub, pk_div, nI_clamp, nI_leI, nI_ltI, nI_eq, vpT, nI_m1, m1_nI, nI_lem1, m1_le, m1_lt, nI_ltm1, nI_bit, nI_shl, nI_xor, nI_or, n_rem, forall_eq, true_and, and_true, implies_true, true_implies, false_implies, not_true_eq_false, not_false_eq_true, Nat.zero_add, Nat.add_zero, ite_true, ite_false, if_true, if_false, true_or, or_true, false_or, or_false, and_self, and_false, false_and, Nat.reduceEqDiff, reduceIte]
        refine ml_wayCost a2 h6 a3 b3 (fun σ1 hF1 hw1 => ?_)
        have hA1 := hA.fm hF1 (by decide) (by decide) (by decide) (h12.eqv (hF1.1 56 (by decide)))
        have hP1 : mP σ1 (wP Z) := a2.fm hF1 (by decide) (by decide) (by decide)
        have hN1 := hA1.2.2.2.2.2.1
        have h131 := hA1.2.2.2.2.2.2.2.2.2.2.2.2.1
        refine ml_thinkX [] [69] h131.2 (fun σ2 hT2 e52 hF2 => ?_)
        have hS2 : mSd σ2 := hA1.2.2.2.2.2.2.2.2.2.2.2.1.eqv (hF2.1 56 (by decide))
        have h128 := p2_le hnp.1
        unfold mw_keeps_59
        intro X hX
        have key : ∀ m k (b' : Option Nat) (σ3 : FS), 2 ^ nP (wP Z) - k = m → k ≤ 2 ^ nP (wP Z) → (∀ r, b' = some r → r < 128) → ((List.range (2 ^ nP (wP Z))).drop k).foldl (bestS (kpOK (wP Z) (wS Z) a b j)) b' = bestL (kpOK (wP Z) (wS Z) a b j) (2 ^ nP (wP Z)) → (∃ q, Thx [] [69] q σ1 σ3) → fA σ3 52 = fA σ1 52 → mSd σ3 → X (nI j) (nI (c7 a)) (nI (c7 b)) (nI (zWay (wP Z) (zH (wS Z)) a b)) (oN b') (nI k) σ3 := by
          intro m
          induction m with
          | zero =>
            rintro k b' σ3 hm hk hb' he ⟨q, hT3⟩ e3 hS3
            have hP3 := hT3.p hP1 (by decide) (by decide)
            refine hX _ _ _ _ _ _ _ (ml_personMany hP3 ?_)
            simp (disch := omega) only [i_0, i_1, i_2, i_3, i_4, i_5, i_6, i_7, i_8, i_9, i_10, i_11, i_12, i_13, i_16, i_19, i_20, i_21, i_22, i_23, i_24, i_25, i_30, i_31, i_32, i_39, i_40, i_41, i_42, i_43, i_44, i_45, i_47, i_48, i_49, i_50, i_51, i_52, i_57, i_59, i_60, i_61, i_62, i_63, i_64, i_71, i_72, i_80, i_91, i_93, i_97, i_99, i_100, i_122, i_227, i_228, i_232, i_251, i_255, i_256, i_463, i_999, i_1000, i_1519, i_1600, i_9999, i_100000000, i_2147483639, i_2147483647, neg_nI1, nI_add, pk_mul, nI_remL, pk_sub, pk_div, nI_clamp, nI_leI, nI_ltI, nI_eq, vpT, nI_m1, m1_nI, nI_lem1, m1_le, m1_lt, nI_ltm1, nI_bit, nI_shl, nI_xor, nI_or, n_rem, forall_eq, true_and, and_true, implies_true, true_implies, false_implies, not_true_eq_false, not_false_eq_true, Nat.zero_add, Nat.add_zero, ite_true, ite_false, if_true, if_false, true_or, or_true, false_or, or_false, and_self, and_false, false_and, Nat.reduceEqDiff, reduceIte]
            refine ⟨fun _ => ml_backX hT3 hS3 h131.1 h131.2 (fun σ4 hF4 hS4 _ _ => ?_), fun z => by omega⟩
            have hA4 := hA1.fm hF4 (by decide) (by decide) (by decide) hS4
            have := hQ σ4 hA4
            rw [rng_end (by omega), List.foldl_nil] at he
            rw [← he] at this
            cases b' <;> exact this
          | succ m ih =>
            rintro k b' σ3 hm hk hb' he ⟨q, hT3⟩ e3 hS3
            have hP3 := hT3.p hP1 (by decide) (by decide)
            have hkk : k < 2 ^ nP (wP Z) := by omega
            rw [rng_at hkk, List.foldl_cons] at he
            have nxt2 : ∀ b2 σ4, b2 = bestS (kpOK (wP Z) (wS Z) a b j) b' k → (∃ q, Thx [] [69] q σ1 σ4) → fA σ4 52 = fA σ1 52 → mSd σ4 → mw_keeps_112 X (nI j) (nI (c7 a)) (nI (c7 b)) (nI (zWay (wP Z) (zH (wS Z)) a b)) (oN b2) (nI k) σ4 Q := by
              intro b2 σ4 hb2 hT4 e4 hS4
              unfold mw_keeps_112
              rw [nI_1]
              exact ih (k + 1) b2 σ4 (by omega) (by omega) (by rw [hb2]; exact bestS_lt hb' (by omega)) (by rw [hb2]; exact he) hT4 e4 hS4
            have try2 : fwr b' k = true → mw_keeps_92 X (nI j) (nI (c7 a)) (nI (c7 b)) (nI (zWay (wP Z) (zH (wS Z)) a b)) (oN b') (nI k) σ3 Q := by
              intro hb2
              unfold mw_keeps_92
              refine ml_isWayKept hP1 hN1 (by omega) d5 (Or.inr ⟨q, hT3⟩) e3 hS3 a3 b3 (by omega) hw1 (fun σ4 hT4 e4 hS4 => ?_)
              by_cases z : zWay (wP Z) (zH (zDs (wP Z) k j (wS Z))) a b ≤ zWay (wP Z) (zH (wS Z)) a b
              · rw [if_pos z]
                simp (disch := omega) only [i_0, i_1, i_2, i_3, i_4, i_5, i_6, i_7, i_8, i_9, i_10, i_11, i_12, i_13, i_16, i_19, i_20, i_21, i_22, i_23, i_24, i_25, i_30, i_31, i_32, i_39, i_40, i_41, i_42, i_43, i_44, i_45, i_47, i_48, i_49, i_50, i_51, i_52, i_57, i_59, i_60, i_61, i_62, i_63, i_64, i_71, i_72, i_80, i_91, i_93, i_97, i_99, i_100, i_122, i_227, i_228, i_232, i_251, i_255, i_256, i_463, i_999, i_1000, i_1519, i_1600, i_9999, i_100000000, i_2147483639, i_2147483647, neg_nI1, nI_add, pk_mul, nI_remL, pk_sub, pk_div, nI_clamp, nI_leI, nI_ltI, nI_eq, vpT, nI_m1, m1_nI, nI_lem1, m1_le, m1_lt, nI_ltm1, nI_bit, nI_shl, nI_xor, nI_or, n_rem, forall_eq, true_and, and_true, implies_true, true_implies, false_implies, not_true_eq_false, not_false_eq_true, Nat.zero_add, Nat.add_zero, ite_true, ite_false, if_true, if_false, true_or, or_true, false_or, or_false, and_self, and_false, false_and, Nat.reduceEqDiff, reduceIte]
                refine nxt2 (some k) σ4 ?_ ⟨_, hT4⟩ e4 hS4
                unfold bestS kpOK
                rw [hb2, if_pos (by simp [z])]
              · rw [if_neg z]
                simp (disch := omega) only [i_0, i_1, i_2, i_3, i_4, i_5, i_6, i_7, i_8, i_9, i_10, i_11, i_12, i_13, i_16, i_19, i_20, i_21, i_22, i_23, i_24, i_25, i_30, i_31, i_32, i_39, i_40, i_41, i_42, i_43, i_44, i_45, i_47, i_48, i_49, i_50, i_51, i_52, i_57, i_59, i_60, i_61, i_62, i_63, i_64, i_71, i_72, i_80, i_91, i_93, i_97, i_99, i_100, i_122, i_227, i_228, i_232, i_251, i_255, i_256, i_463, i_999, i_1000, i_1519, i_1600, i_9999, i_100000000, i_2147483639, i_2147483647, neg_nI1, nI_add, pk_mul, nI_remL, pk_sub, pk_div, nI_clamp, nI_leI, nI_ltI, nI_eq, vpT, nI_m1, m1_nI, nI_lem1, m1_le, m1_lt, nI_ltm1, nI_bit, nI_shl, nI_xor, nI_or, n_rem, forall_eq, true_and, and_true, implies_true, true_implies, false_implies, not_true_eq_false, not_false_eq_true, Nat.zero_add, Nat.add_zero, ite_true, ite_false, if_true, if_false, true_or, or_true, false_or, or_false, and_self, and_false, false_and, Nat.reduceEqDiff, reduceIte]
                refine nxt2 b' σ4 ?_ ⟨_, hT4⟩ e4 hS4
                unfold bestS kpOK
                rw [if_neg (by simp [z])]
            refine hX _ _ _ _ _ _ _ (ml_personMany hP3 ?_)
            simp (disch := omega) only [i_0, i_1, i_2, i_3, i_4, i_5, i_6, i_7, i_8, i_9, i_10, i_11, i_12, i_13, i_16, i_19, i_20, i_21, i_22, i_23, i_24, i_25, i_30, i_31, i_32, i_39, i_40, i_41, i_42, i_43, i_44, i_45, i_47, i_48, i_49, i_50, i_51, i_52, i_57, i_59, i_60, i_61, i_62, i_63, i_64, i_71, i_72, i_80, i_91, i_93, i_97, i_99, i_100, i_122, i_227, i_228, i_232, i_251, i_255, i_256, i_463, i_999, i_1000, i_1519, i_1600, i_9999, i_100000000, i_2147483639, i_2147483647, neg_nI1, nI_add, pk_mul, nI_remL, pk_sub, pk_div, nI_clamp, nI_leI, nI_ltI, nI_eq, vpT, nI_m1, m1_nI, nI_lem1, m1_le, m1_lt, nI_ltm1, nI_bit, nI_shl, nI_xor, nI_or, n_rem, forall_eq, true_and, and_true, implies_true, true_implies, false_implies, not_true_eq_false, not_false_eq_true, Nat.zero_add, Nat.add_zero, ite_true, ite_false, if_true, if_false, true_or, or_true, false_or, or_false, and_self, and_false, false_and, Nat.reduceEqDiff, reduceIte]
            refine ⟨fun z => by omega, fun _ => ?_⟩
            cases b' with
            | none =>
              refine ⟨fun _ => try2 rfl, fun z => absurd rfl z⟩
            | some r =>
              have hr := hb' r rfl
              have e0 : oN (some r) = nI r := rfl
              rw [e0] at try2 ⊢
              simp (disch := omega) only [i_0, i_1, i_2, i_3, i_4, i_5, i_6, i_7, i_8, i_9, i_10, i_11, i_12, i_13, i_16, i_19, i_20, i_21, i_22, i_23, i_24, i_25, i_30, i_31, i_32, i_39, i_40, i_41, i_42, i_43, i_44, i_45, i_47, i_48, i_49, i_50, i_51, i_52, i_57, i_59, i_60, i_61, i_62, i_63, i_64, i_71, i_72, i_80, i_91, i_93, i_97, i_99, i_100, i_122, i_227, i_228, i_232, i_251, i_255, i_256, i_463, i_999, i_1000, i_1519, i_1600, i_9999, i_100000000, i_2147483639, i_2147483647, neg_nI1, nI_add, pk_mul, nI_remL, pk_sub, pk_div, nI_clamp, nI_leI, nI_ltI, nI_eq, vpT, nI_m1, m1_nI, nI_lem1, m1_le, m1_lt, nI_ltm1, nI_bit, nI_shl, nI_xor, nI_or, n_rem, forall_eq, true_and, and_true, implies_true, true_implies, false_implies, not_true_eq_false, not_false_eq_true, Nat.zero_add, Nat.add_zero, ite_true, ite_false, if_true, if_false, true_or, or_true, false_or, or_false, and_self, and_false, false_and, Nat.reduceEqDiff, reduceIte]
              refine ml_bits (by omega) (ml_bits hr ?_)
              have q1 := popc_le k (by omega); have q2 := popc_le r hr
              simp (disch := omega) only [i_0, i_1, i_2, i_3, i_4, i_5, i_6, i_7, i_8, i_9, i_10, i_11, i_12, i_13, i_16, i_19, i_20, i_21, i_22, i_23, i_24, i_25, i_30, i_31, i_32, i_39, i_40, i_41, i_42, i_43, i_44, i_45, i_47, i_48, i_49, i_50, i_51, i_52, i_57, i_59, i_60, i_61, i_62, i_63, i_64, i_71, i_72, i_80, i_91, i_93, i_97, i_99, i_100, i_122, i_227, i_228, i_232, i_251, i_255, i_256, i_463, i_999, i_1000, i_1519, i_1600, i_9999, i_100000000, i_2147483639, i_2147483647, neg_nI1, nI_add, pk_mul, nI_remL, pk_sub, pk_div, nI_clamp, nI_leI, nI_ltI, nI_eq, vpT, nI_m1, m1_nI, nI_lem1, m1_le, m1_lt, nI_ltm1, nI_bit, nI_shl, nI_xor, nI_or, n_rem, forall_eq, true_and, and_true, implies_true, true_implies, false_implies, not_true_eq_false, not_false_eq_true, Nat.zero_add, Nat.add_zero, ite_true, ite_false, if_true, if_false, true_or, or_true, false_or, or_false, and_self, and_false, false_and, Nat.reduceEqDiff, reduceIte]
              refine ⟨fun z => try2 (by simpa [fwr] using z), fun z => ?_⟩
              refine nxt2 (some r) σ3 ?_ ⟨q, hT3⟩ e3 hS3
              unfold bestS
              rw [if_neg (by simp [fwr, z])]
        exact key _ 0 none σ2 rfl (Nat.zero_le _) (fun r hr => by cases hr) rfl ⟨0, hT2⟩ e52 hS2
      · simp only [a1, b1, d1] at hQ
        simp (disch := omega) only [i_0, i_1, i_2, i_3, i_4, i_5, i_6, i_7, i_8, i_9, i_10, i_11, i_12, i_13, i_16, i_19, i_20, i_21, i_22, i_23, i_24, i_25, i_30, i_31, i_32, i_39, i_40, i_41, i_42, i_43, i_44, i_45, i_47, i_48, i_49, i_50, i_51, i_52, i_57, i_59, i_60, i_61, i_62, i_63, i_64, i_71, i_72, i_80, i_91, i_93, i_97, i_99, i_100, i_122, i_227, i_228, i_232, i_251, i_255, i_256, i_463, i_999, i_1000, i_1519, i_1600, i_9999, i_100000000, i_2147483639, i_2147483647, neg_nI1, nI_add, pk_mul, nI_remL, pk_sub, pk_div, nI_clamp, nI_leI, nI_ltI, nI_eq, vpT, nI_m1, m1_nI, nI_lem1, m1_le, m1_lt, nI_ltm1, nI_bit, nI_shl, nI_xor, nI_or, n_rem, forall_eq, true_and, and_true, implies_true, true_implies, false_implies, not_true_eq_false, not_false_eq_true, Nat.zero_add, Nat.add_zero, ite_true, ite_false, if_true, if_false, true_or, or_true, false_or, or_false, and_self, and_false, false_and, Nat.reduceEqDiff, reduceIte]
        exact hQ σ hA
    · simp only [a1, b1] at hQ
      simp (disch := omega) only [i_0, i_1, i_2, i_3, i_4, i_5, i_6, i_7, i_8, i_9, i_10, i_11, i_12, i_13, i_16, i_19, i_20, i_21, i_22, i_23, i_24, i_25, i_30, i_31, i_32, i_39, i_40, i_41, i_42, i_43, i_44, i_45, i_47, i_48, i_49, i_50, i_51, i_52, i_57, i_59, i_60, i_61, i_62, i_63, i_64, i_71, i_72, i_80, i_91, i_93, i_97, i_99, i_100, i_122, i_227, i_228, i_232, i_251, i_255, i_256, i_463, i_999, i_1000, i_1519, i_1600, i_9999, i_100000000, i_2147483639, i_2147483647, neg_nI1, nI_add, pk_mul, nI_remL, pk_sub, pk_div, nI_clamp, nI_leI, nI_ltI, nI_eq, vpT, nI_m1, m1_nI, nI_lem1, m1_le, m1_lt, nI_ltm1, nI_bit, nI_shl, nI_xor, nI_or, n_rem, forall_eq, true_and, and_true, implies_true, true_implies, false_implies, not_true_eq_false, not_false_eq_true, Nat.zero_add, Nat.add_zero, ite_true, ite_false, if_true, if_false, true_or, or_true, false_or, or_false, and_self, and_false, false_and, Nat.reduceEqDiff, reduceIte]
      exact hQ σ hA
  · refine ml_cellNumbered h5 ⟨hnp.2.2.1, hnp.2.2.2.1⟩ (fun b b1 b2 b3 b4 _ => ?_) (fun b1 => ?_)
    · simp only [a1] at hQ
      simp (disch := omega) only [i_0, i_1, i_2, i_3, i_4, i_5, i_6, i_7, i_8, i_9, i_10, i_11, i_12, i_13, i_16, i_19, i_20, i_21, i_22, i_23, i_24, i_25, i_30, i_31, i_32, i_39, i_40, i_41, i_42, i_43, i_44, i_45, i_47, i_48, i_49, i_50, i_51, i_52, i_57, i_59, i_60, i_61, i_62, i_63, i_64, i_71, i_72, i_80, i_91, i_93, i_97, i_99, i_100, i_122, i_227, i_228, i_232, i_251, i_255, i_256, i_463, i_999, i_1000, i_1519, i_1600, i_9999, i_100000000, i_2147483639, i_2147483647, neg_nI1, nI_add, pk_mul, nI_remL, pk_sub, pk_div, nI_clamp, nI_leI, nI_ltI, nI_eq, vpT, nI_m1, m1_nI, nI_lem1, m1_le, m1_lt, nI_ltm1, nI_bit, nI_shl, nI_xor, nI_or, n_rem, forall_eq, true_and, and_true, implies_true, true_implies, false_implies, not_true_eq_false, not_false_eq_true, Nat.zero_add, Nat.add_zero, ite_true, ite_false, if_true, if_false, true_or, or_true, false_or, or_false, and_self, and_false, false_and, Nat.reduceEqDiff, reduceIte]
      exact hQ σ hA
    · simp only [a1] at hQ
      simp (disch := omega) only [i_0, i_1, i_2, i_3, i_4, i_5, i_6, i_7, i_8, i_9, i_10, i_11, i_12, i_13, i_16, i_19, i_20, i_21, i_22, i_23, i_24, i_25, i_30, i_31, i_32, i_39, i_40, i_41, i_42, i_43, i_44, i_45, i_47, i_48, i_49, i_50, i_51, i_52, i_57, i_59, i_60, i_61, i_62, i_63, i_64, i_71, i_72, i_80, i_91, i_93, i_97, i_99, i_100, i_122, i_227, i_228, i_232, i_251, i_255, i_256, i_463, i_999, i_1000, i_1519, i_1600, i_9999, i_100000000, i_2147483639, i_2147483647, neg_nI1, nI_add, pk_mul, nI_remL, pk_sub, pk_div, nI_clamp, nI_leI, nI_ltI, nI_eq, vpT, nI_m1, m1_nI, nI_lem1, m1_le, m1_lt, nI_ltm1, nI_bit, nI_shl, nI_xor, nI_or, n_rem, forall_eq, true_and, and_true, implies_true, true_implies, false_implies, not_true_eq_false, not_false_eq_true, Nat.zero_add, Nat.add_zero, ite_true, ite_false, if_true, if_false, true_or, or_true, false_or, or_false, and_self, and_false, false_and, Nat.reduceEqDiff, reduceIte]
      exact hQ σ hA
/-- what each one's cell is, of a set -/
def mOw (σ : FS) (P : Pl) (s : St) (j k : Nat) : Prop := ∀ q p, q < k → p < nP P → fA σ 70 (7 * q + p) = nI (ownS P s j q p)
theorem ownS_le {P : Pl} (hP : plOK P) {s : St} (hs : stOK P s) {j q p : Nat} (hj : zD s + j ≤ 5000) (hp : p < nP P) : ownS P s j q p ≤ 99 := by
  obtain ⟨a, -⟩ := zDs_ok hP j q s hs hj
  exact a.2.1 _ (a.2.2.1 p hp).1
theorem mq_rest {σ : FS} {Z : Wd} {n : Int32} {Q : Int32 → FS → Prop} (h : mAll σ Z) (hQ : ∀ σ', mAll σ' Z → Q (opRest Z n) σ') : mw_rest n σ Q := by
  have hA := h
  obtain ⟨h1, h2, h3, h4, h5, h6, h7, h8, h9, h10, h11, h12, h13, h14⟩ := h
  have hnp := h1.np
  unfold mw_rest
  unfold opRest at hQ
  refine ml_isAhead (lo := 1) (hi := 20) h5 h6 (by have := h1.2.2.1; omega) (by decide) (by decide) (fun j d1 d0 d2 d3 d4 d5 => ?_) (fun d1 => ?_)
  · subst d4
    simp only [d1] at hQ
    simp (disch := omega) only [i_0, i_1, i_2, i_3, i_4, i_5, i_6, i_7, i_8, i_9, i_10, i_11, i_12, i_13, i_16, i_19, i_20, i_21, i_22, i_23, i_24, i_25, i_30, i_31, i_32, i_39, i_40, i_41, i_42, i_43, i_44, i_45, i_47, i_48, i_49, i_50, i_51, i_52, i_57, i_59, i_60, i_61, i_62, i_63, i_64, i_71, i_72, i_80, i_91, i_93, i_97, i_99, i_100, i_122, i_227, i_228, i_232, i_251, i_255, i_256, i_463, i_999, i_1000, i_1519, i_1600, i_9999, i_100000000, i_2147483639, i_2147483647, neg_nI1, nI_add, pk_mul, nI_remL, pk_sub, pk_div, nI_clamp, nI_leI, nI_ltI, nI_eq, vpT, nI_m1, m1_nI, nI_lem1, m1_le, m1_lt, nI_ltm1, nI_bit, nI_shl, nI_xor, nI_or, n_rem, forall_eq, true_and, and_true, implies_true, true_implies, false_implies, not_true_eq_false, not_false_eq_true, Nat.zero_add, Nat.add_zero, ite_true, ite_false, if_true, if_false, true_or, or_true, false_or, or_false, and_self, and_false, false_and, Nat.reduceEqDiff, reduceIte]
    have h128 := p2_le hnp.1
    unfold mw_laysOwn
    refine ml_thinkX [] [70] h13.2 (fun σ2 hT2 e52 hF2 => ?_)
    have hS2 : mSd σ2 := h12.eqv (hF2.1 56 (by decide))
    unfold mw_laysOwn_6
    intro X hX
    have key : ∀ m k (σ3 : FS), 2 ^ nP (wP Z) - k = m → k ≤ 2 ^ nP (wP Z) → mOw σ3 (wP Z) (wS Z) j k → (∃ q, Thx [] [70] q σ σ3) → fA σ3 52 = fA σ 52 → mSd σ3 → X (nI j) (nI k) σ3 := by
      intro m
      induction m with
      | zero =>
        rintro k σ3 hm hk hO ⟨q, hT3⟩ e3 hS3
        have hP3 := hT3.p d0 (by decide) (by decide)
        refine hX _ _ _ (ml_personMany hP3 ?_)
        simp (disch := omega) only [i_0, i_1, i_2, i_3, i_4, i_5, i_6, i_7, i_8, i_9, i_10, i_11, i_12, i_13, i_16, i_19, i_20, i_21, i_22, i_23, i_24, i_25, i_30, i_31, i_32, i_39, i_40, i_41, i_42, i_43, i_44, i_45, i_47, i_48, i_49, i_50, i_51, i_52, i_57, i_59, i_60, i_61, i_62, i_63, i_64, i_71, i_72, i_80, i_91, i_93, i_97, i_99, i_100, i_122, i_227, i_228, i_232, i_251, i_255, i_256, i_463, i_999, i_1000, i_1519, i_1600, i_9999, i_100000000, i_2147483639, i_2147483647, neg_nI1, nI_add, pk_mul, nI_remL, pk_sub, pk_div, nI_clamp, nI_leI, nI_ltI, nI_eq, vpT, nI_m1, m1_nI, nI_lem1, m1_le, m1_lt, nI_ltm1, nI_bit, nI_shl, nI_xor, nI_or, n_rem, forall_eq, true_and, and_true, implies_true, true_implies, false_implies, not_true_eq_false, not_false_eq_true, Nat.zero_add, Nat.add_zero, ite_true, ite_false, if_true, if_false, true_or, or_true, false_or, or_false, and_self, and_false, false_and, Nat.reduceEqDiff, reduceIte]
        refine ⟨fun _ => ml_backX hT3 hS3 h13.1 h13.2 (fun σ4 hF4 hS4 ha4 _ => ?_), fun z => by omega⟩
        have hA4 := hA.fm hF4 (by decide) (by decide) (by decide) hS4
        have hP4 : mP σ4 (wP Z) := hA4.2.2.2.2.1.p (Or.inl (by have := d0.1.1; omega))
        have hO4 : mOw σ4 (wP Z) (wS Z) j (2 ^ nP (wP Z)) := by
          intro q p h1 h2
          rw [ha4 70 (by decide)]; exact hO q p (by omega) h2
        -- the search
        unfold mw_rest_22
        intro Y hY
        have srch : ∀ m k (b' : Option Nat), 2 ^ nP (wP Z) - k = m → k ≤ 2 ^ nP (wP Z) → (∀ r, b' = some r → r < 128) → ((List.range (2 ^ nP (wP Z))).drop k).foldl (bestS (rsOK (wP Z) (wS Z) j)) b' = bestL (rsOK (wP Z) (wS Z) j) (2 ^ nP (wP Z)) → Y (oN b') (nI k) σ4 := by
          intro m
          induction m with
          | zero =>
            intro k b' hm hk hb' he
            refine hY _ _ _ (ml_personMany hP4 ?_)
            simp (disch := omega) only [i_0, i_1, i_2, i_3, i_4, i_5, i_6, i_7, i_8, i_9, i_10, i_11, i_12, i_13, i_16, i_19, i_20, i_21, i_22, i_23, i_24, i_25, i_30, i_31, i_32, i_39, i_40, i_41, i_42, i_43, i_44, i_45, i_47, i_48, i_49, i_50, i_51, i_52, i_57, i_59, i_60, i_61, i_62, i_63, i_64, i_71, i_72, i_80, i_91, i_93, i_97, i_99, i_100, i_122, i_227, i_228, i_232, i_251, i_255, i_256, i_463, i_999, i_1000, i_1519, i_1600, i_9999, i_100000000, i_2147483639, i_2147483647, neg_nI1, nI_add, pk_mul, nI_remL, pk_sub, pk_div, nI_clamp, nI_leI, nI_ltI, nI_eq, vpT, nI_m1, m1_nI, nI_lem1, m1_le, m1_lt, nI_ltm1, nI_bit, nI_shl, nI_xor, nI_or, n_rem, forall_eq, true_and, and_true, implies_true, true_implies, false_implies, not_true_eq_false, not_false_eq_true, Nat.zero_add, Nat.add_zero, ite_true, ite_false, if_true, if_false, true_or, or_true, false_or, or_false, and_self, and_false, false_and, Nat.reduceEqDiff, reduceIte]
            refine ⟨fun _ => ?_, fun z => by omega⟩
            have := hQ σ4 hA4
            rw [rng_end (by omega), List.foldl_nil] at he
            rw [← he] at this
            cases b' <;> exact this
          | succ m ih =>
            intro k b' hm hk hb' he
            have hkk : k < 2 ^ nP (wP Z) := by omega
            rw [rng_at hkk, List.foldl_cons] at he
            have nxt2 : ∀ b2, b2 = bestS (rsOK (wP Z) (wS Z) j) b' k → mw_rest_61 Y (oN b2) (nI k) σ4 Q := by
              intro b2 hb2
              unfold mw_rest_61
              rw [nI_1]
              exact ih (k + 1) b2 (by omega) (by omega) (by rw [hb2]; exact bestS_lt hb' (by omega)) (by rw [hb2]; exact he)
            have try2 : fwr b' k = true → mw_rest_51 Y (oN b') (nI k) σ4 Q := by
              intro hb2
              unfold mw_rest_51 mw_isRest mw_isRest_2
              intro V hV
              have all : ∀ i p, nP (wP Z) - p = i → p ≤ nP (wP Z) → (∀ r, r < p → ownS (wP Z) (wS Z) j (k ^^^ 2 ^ r) r ≤ ownS (wP Z) (wS Z) j k r) → V (nI k) (nI p) σ4 := by
                intro i
                induction i with
                | zero =>
                  intro p hi hp hall
                  refine hV _ _ _ (ml_personMany hP4 ?_)
                  simp (disch := omega) only [i_0, i_1, i_2, i_3, i_4, i_5, i_6, i_7, i_8, i_9, i_10, i_11, i_12, i_13, i_16, i_19, i_20, i_21, i_22, i_23, i_24, i_25, i_30, i_31, i_32, i_39, i_40, i_41, i_42, i_43, i_44, i_45, i_47, i_48, i_49, i_50, i_51, i_52, i_57, i_59, i_60, i_61, i_62, i_63, i_64, i_71, i_72, i_80, i_91, i_93, i_97, i_99, i_100, i_122, i_227, i_228, i_232, i_251, i_255, i_256, i_463, i_999, i_1000, i_1519, i_1600, i_9999, i_100000000, i_2147483639, i_2147483647, neg_nI1, nI_add, pk_mul, nI_remL, pk_sub, pk_div, nI_clamp, nI_leI, nI_ltI, nI_eq, vpT, nI_m1, m1_nI, nI_lem1, m1_le, m1_lt, nI_ltm1, nI_bit, nI_shl, nI_xor, nI_or, n_rem, forall_eq, true_and, and_true, implies_true, true_implies, false_implies, not_true_eq_false, not_false_eq_true, Nat.zero_add, Nat.add_zero, ite_true, ite_false, if_true, if_false, true_or, or_true, false_or, or_false, and_self, and_false, false_and, Nat.reduceEqDiff, reduceIte]
                  refine ⟨fun _ => nxt2 (some k) ?_, fun z => by omega⟩
                  unfold bestS
                  have : rsOK (wP Z) (wS Z) j k = true := by
                    unfold rsOK
                    rw [List.all_eq_true]
                    intro r hr
                    simpa using hall r (by have := List.mem_range.mp hr; omega)
                  rw [hb2, this, if_pos (by decide)]
                | succ i ih2 =>
                  intro p hi hp hall
                  have hpp : p < nP (wP Z) := by omega
                  have hx : k ^^^ 2 ^ p < 2 ^ nP (wP Z) := xor_lt hkk hpp
                  have g1 := ownS_le d0.1 h6.1 (j := j) (q := k ^^^ 2 ^ p) (by omega) hpp
                  have g2 := ownS_le d0.1 h6.1 (j := j) (q := k) (by omega) hpp
                  refine hV _ _ _ (ml_personMany hP4 ?_)
                  simp (disch := omega) only [i_0, i_1, i_2, i_3, i_4, i_5, i_6, i_7, i_8, i_9, i_10, i_11, i_12, i_13, i_16, i_19, i_20, i_21, i_22, i_23, i_24, i_25, i_30, i_31, i_32, i_39, i_40, i_41, i_42, i_43, i_44, i_45, i_47, i_48, i_49, i_50, i_51, i_52, i_57, i_59, i_60, i_61, i_62, i_63, i_64, i_71, i_72, i_80, i_91, i_93, i_97, i_99, i_100, i_122, i_227, i_228, i_232, i_251, i_255, i_256, i_463, i_999, i_1000, i_1519, i_1600, i_9999, i_100000000, i_2147483639, i_2147483647, neg_nI1, nI_add, pk_mul, nI_remL, pk_sub, pk_div, nI_clamp, nI_leI, nI_ltI, nI_eq, vpT, nI_m1, m1_nI, nI_lem1, m1_le, m1_lt, nI_ltm1, nI_bit, nI_shl, nI_xor, nI_or, n_rem, forall_eq, true_and, and_true, implies_true, true_implies, false_implies, not_true_eq_false, not_false_eq_true, Nat.zero_add, Nat.add_zero, ite_true, ite_false, if_true, if_false, true_or, or_true, false_or, or_false, and_self, and_false, false_and, Nat.reduceEqDiff, reduceIte]
                  refine ⟨fun z => by omega, fun _ => ?_⟩
                  rw [hO4 _ p hx hpp, hO4 k p hkk hpp]
                  simp (disch := omega) only [i_0, i_1, i_2, i_3, i_4, i_5, i_6, i_7, i_8, i_9, i_10, i_11, i_12, i_13, i_16, i_19, i_20, i_21, i_22, i_23, i_24, i_25, i_30, i_31, i_32, i_39, i_40, i_41, i_42, i_43, i_44, i_45, i_47, i_48, i_49, i_50, i_51, i_52, i_57, i_59, i_60, i_61, i_62, i_63, i_64, i_71, i_72, i_80, i_91, i_93, i_97, i_99, i_100, i_122, i_227, i_228, i_232, i_251, i_255, i_256, i_463, i_999, i_1000, i_1519, i_1600, i_9999, i_100000000, i_2147483639, i_2147483647, neg_nI1, nI_add, pk_mul, nI_remL, pk_sub, pk_div, nI_clamp, nI_leI, nI_ltI, nI_eq, vpT, nI_m1, m1_nI, nI_lem1, m1_le, m1_lt, nI_ltm1, nI_bit, nI_shl, nI_xor, nI_or, n_rem, forall_eq, true_and, and_true, implies_true, true_implies, false_implies, not_true_eq_false, not_false_eq_true, Nat.zero_add, Nat.add_zero, ite_true, ite_false, if_true, if_false, true_or, or_true, false_or, or_false, and_self, and_false, false_and, Nat.reduceEqDiff, reduceIte]
                  refine ⟨fun z => ih2 (p + 1) (by omega) (by omega) (fun r hr => ?_), fun z => nxt2 b' ?_⟩
                  · rcases Nat.lt_or_ge r p with q | q
                    · exact hall r q
                    · have : r = p := by omega
                      subst this; exact z
                  · unfold bestS
                    have : rsOK (wP Z) (wS Z) j k = false := by
                      unfold rsOK
                      rw [List.all_eq_false]
                      exact ⟨p, List.mem_range.mpr hpp, by simp; omega⟩
                    rw [this, if_neg (by simp)]
              exact all _ 0 rfl (by omega) (fun r hr => by omega)
            refine hY _ _ _ (ml_personMany hP4 ?_)
            simp (disch := omega) only [i_0, i_1, i_2, i_3, i_4, i_5, i_6, i_7, i_8, i_9, i_10, i_11, i_12, i_13, i_16, i_19, i_20, i_21, i_22, i_23, i_24, i_25, i_30, i_31, i_32, i_39, i_40, i_41, i_42, i_43, i_44, i_45, i_47, i_48, i_49, i_50, i_51, i_52, i_57, i_59, i_60, i_61, i_62, i_63, i_64, i_71, i_72, i_80, i_91, i_93, i_97, i_99, i_100, i_122, i_227, i_228, i_232, i_251, i_255, i_256, i_463, i_999, i_1000, i_1519, i_1600, i_9999, i_100000000, i_2147483639, i_2147483647, neg_nI1, nI_add, pk_mul, nI_remL, pk_sub, pk_div, nI_clamp, nI_leI, nI_ltI, nI_eq, vpT, nI_m1, m1_nI, nI_lem1, m1_le, m1_lt, nI_ltm1, nI_bit, nI_shl, nI_xor, nI_or, n_rem, forall_eq, true_and, and_true, implies_true, true_implies, false_implies, not_true_eq_false, not_false_eq_true, Nat.zero_add, Nat.add_zero, ite_true, ite_false, if_true, if_false, true_or, or_true, false_or, or_false, and_self, and_false, false_and, Nat.reduceEqDiff, reduceIte]
            refine ⟨fun z => by omega, fun _ => ?_⟩
            cases b' with
            | none => exact ⟨fun _ => try2 rfl, fun z => absurd rfl z⟩
            | some r =>
              have hr := hb' r rfl
              have e0 : oN (some r) = nI r := rfl
              rw [e0] at try2 ⊢
              simp (disch := omega) only [i_0, i_1, i_2, i_3, i_4, i_5, i_6, i_7, i_8, i_9, i_10, i_11, i_12, i_13, i_16, i_19, i_20, i_21, i_22, i_23, i_24, i_25, i_30, i_31, i_32, i_39, i_40, i_41, i_42, i_43, i_44, i_45, i_47, i_48, i_49, i_50, i_51, i_52, i_57, i_59, i_60, i_61, i_62, i_63, i_64, i_71, i_72, i_80, i_91, i_93, i_97, i_99, i_100, i_122, i_227, i_228, i_232, i_251, i_255, i_256, i_463, i_999, i_1000, i_1519, i_1600, i_9999, i_100000000, i_2147483639, i_2147483647, neg_nI1, nI_add, pk_mul, nI_remL, pk_sub, pk_div, nI_clamp, nI_leI, nI_ltI, nI_eq, vpT, nI_m1, m1_nI, nI_lem1, m1_le, m1_lt, nI_ltm1, nI_bit, nI_shl, nI_xor, nI_or, n_rem, forall_eq, true_and, and_true, implies_true, true_implies, false_implies, not_true_eq_false, not_false_eq_true, Nat.zero_add, Nat.add_zero, ite_true, ite_false, if_true, if_false, true_or, or_true, false_or, or_false, and_self, and_false, false_and, Nat.reduceEqDiff, reduceIte]
              refine ml_bits (by omega) (ml_bits hr ?_)
              have q1 := popc_le k (by omega); have q2 := popc_le r hr
              simp (disch := omega) only [i_0, i_1, i_2, i_3, i_4, i_5, i_6, i_7, i_8, i_9, i_10, i_11, i_12, i_13, i_16, i_19, i_20, i_21, i_22, i_23, i_24, i_25, i_30, i_31, i_32, i_39, i_40, i_41, i_42, i_43, i_44, i_45, i_47, i_48, i_49, i_50, i_51, i_52, i_57, i_59, i_60, i_61, i_62, i_63, i_64, i_71, i_72, i_80, i_91, i_93, i_97, i_99, i_100, i_122, i_227, i_228, i_232, i_251, i_255, i_256, i_463, i_999, i_1000, i_1519, i_1600, i_9999, i_100000000, i_2147483639, i_2147483647, neg_nI1, nI_add, pk_mul, nI_remL, pk_sub, pk_div, nI_clamp, nI_leI, nI_ltI, nI_eq, vpT, nI_m1, m1_nI, nI_lem1, m1_le, m1_lt, nI_ltm1, nI_bit, nI_shl, nI_xor, nI_or, n_rem, forall_eq, true_and, and_true, implies_true, true_implies, false_implies, not_true_eq_false, not_false_eq_true, Nat.zero_add, Nat.add_zero, ite_true, ite_false, if_true, if_false, true_or, or_true, false_or, or_false, and_self, and_false, false_and, Nat.reduceEqDiff, reduceIte]
              refine ⟨fun z => try2 (by simpa [fwr] using z), fun z => ?_⟩
              refine nxt2 (some r) ?_
              unfold bestS
              rw [if_neg (by simp [fwr, z])]
        exact srch _ 0 none rfl (Nat.zero_le _) (fun r hr => by cases hr) rfl
      | succ m ih =>
        rintro k σ3 hm hk hO ⟨q, hT3⟩ e3 hS3
        have hP3 := hT3.p d0 (by decide) (by decide)
        refine hX _ _ _ (ml_personMany hP3 ?_)
        simp (disch := omega) only [i_0, i_1, i_2, i_3, i_4, i_5, i_6, i_7, i_8, i_9, i_10, i_11, i_12, i_13, i_16, i_19, i_20, i_21, i_22, i_23, i_24, i_25, i_30, i_31, i_32, i_39, i_40, i_41, i_42, i_43, i_44, i_45, i_47, i_48, i_49, i_50, i_51, i_52, i_57, i_59, i_60, i_61, i_62, i_63, i_64, i_71, i_72, i_80, i_91, i_93, i_97, i_99, i_100, i_122, i_227, i_228, i_232, i_251, i_255, i_256, i_463, i_999, i_1000, i_1519, i_1600, i_9999, i_100000000, i_2147483639, i_2147483647, neg_nI1, nI_add, pk_mul, nI_remL, pk_sub, pk_div, nI_clamp, nI_leI, nI_ltI, nI_eq, vpT, nI_m1, m1_nI, nI_lem1, m1_le, m1_lt, nI_ltm1, nI_bit, nI_shl, nI_xor, nI_or, n_rem, forall_eq, true_and, and_true, implies_true, true_implies, false_implies, not_true_eq_false, not_false_eq_true, Nat.zero_add, Nat.add_zero, ite_true, ite_false, if_true, if_false, true_or, or_true, false_or, or_false, and_self, and_false, false_and, Nat.reduceEqDiff, reduceIte]
        refine ⟨fun z => by omega, fun _ => ?_⟩
        have hT4 : Thx [] [70] k σ (sI σ3 0 60 (nI k)) := hT3.sil
        have hS4 : mSd (sI σ3 0 60 (nI k)) := hS3.eqv (by rw [fI_sI]; simp)
        have hP4 := hT4.p d0 (by decide) (by decide)
        refine ml_daysGo (s := wS Z) (th := 1) (sil := k) (by omega) hP4 (h6.eqv e3) hS4 (by omega) hT4.2.1 (by decide) hT4.2.2.1 (by omega) (fun z => by omega) (fun σ5 hF5 hN5 hS5 _ => ?_)
        have hT5 := hT4.step hF5 (hN5.2.2 (by decide))
        have hO5 : mOw σ5 (wP Z) (wS Z) j k := by
          intro q p h1 h2
          rw [hF5.2.1 70 (by decide)]; exact hO q p h1 h2
        unfold mw_laysOwn_28
        intro Y hY
        have inner : ∀ i p (σ6 : FS), nP (wP Z) - p = i → p ≤ nP (wP Z) → Thx [] [70] k σ σ6 → mN σ6 (wP Z) (zDs (wP Z) k j (wS Z)) → mSd σ6 → mOw σ6 (wP Z) (wS Z) j k → (∀ r, r < p → fA σ6 70 (7 * k + r) = nI (ownS (wP Z) (wS Z) j k r)) → Y (nI j) (nI k) (nI p) σ6 := by
          intro i
          induction i with
          | zero =>
            intro p σ6 hi hp hT6 hN6 hS6 hO6 hr6
            have hP6 := hT6.p d0 (by decide) (by decide)
            refine hY _ _ _ _ (ml_personMany hP6 ?_)
            simp (disch := omega) only [i_0, i_1, i_2, i_3, i_4, i_5, i_6, i_7, i_8, i_9, i_10, i_11, i_12, i_13, i_16, i_19, i_20, i_21, i_22, i_23, i_24, i_25, i_30, i_31, i_32, i_39, i_40, i_41, i_42, i_43, i_44, i_45, i_47, i_48, i_49, i_50, i_51, i_52, i_57, i_59, i_60, i_61, i_62, i_63, i_64, i_71, i_72, i_80, i_91, i_93, i_97, i_99, i_100, i_122, i_227, i_228, i_232, i_251, i_255, i_256, i_463, i_999, i_1000, i_1519, i_1600, i_9999, i_100000000, i_2147483639, i_2147483647, neg_nI1, nI_add, pk_mul, nI_remL, pk_sub, pk_div, nI_clamp, nI_leI, nI_ltI, nI_eq, vpT, nI_m1, m1_nI, nI_lem1, m1_le, m1_lt, nI_ltm1, nI_bit, nI_shl, nI_xor, nI_or, n_rem, forall_eq, true_and, and_true, implies_true, true_implies, false_implies, not_true_eq_false, not_false_eq_true, Nat.zero_add, Nat.add_zero, ite_true, ite_false, if_true, if_false, true_or, or_true, false_or, or_false, and_self, and_false, false_and, Nat.reduceEqDiff, reduceIte]
            refine ⟨fun _ => ml_anewX hT6 hS6 (fun σ7 hT7 e7 hS7 hF7 => ?_), fun z => by omega⟩
            refine ih (k + 1) σ7 (by omega) (by omega) (fun q p h1 h2 => ?_) ⟨k, hT7⟩ e7 hS7
            rw [hF7.2.1 70 (by decide)]
            rcases Nat.lt_or_ge q k with z | z
            · exact hO6 q p z h2
            · have : q = k := by omega
              subst this
              exact hr6 p (by omega)
          | succ i ih2 =>
            intro p σ6 hi hp hT6 hN6 hS6 hO6 hr6
            have hP6 := hT6.p d0 (by decide) (by decide)
            have hpp : p < nP (wP Z) := by omega
            refine hY _ _ _ _ (ml_personMany hP6 ?_)
            simp (disch := omega) only [i_0, i_1, i_2, i_3, i_4, i_5, i_6, i_7, i_8, i_9, i_10, i_11, i_12, i_13, i_16, i_19, i_20, i_21, i_22, i_23, i_24, i_25, i_30, i_31, i_32, i_39, i_40, i_41, i_42, i_43, i_44, i_45, i_47, i_48, i_49, i_50, i_51, i_52, i_57, i_59, i_60, i_61, i_62, i_63, i_64, i_71, i_72, i_80, i_91, i_93, i_97, i_99, i_100, i_122, i_227, i_228, i_232, i_251, i_255, i_256, i_463, i_999, i_1000, i_1519, i_1600, i_9999, i_100000000, i_2147483639, i_2147483647, neg_nI1, nI_add, pk_mul, nI_remL, pk_sub, pk_div, nI_clamp, nI_leI, nI_ltI, nI_eq, vpT, nI_m1, m1_nI, nI_lem1, m1_le, m1_lt, nI_ltm1, nI_bit, nI_shl, nI_xor, nI_or, n_rem, forall_eq, true_and, and_true, implies_true, true_implies, false_implies, not_true_eq_false, not_false_eq_true, Nat.zero_add, Nat.add_zero, ite_true, ite_false, if_true, if_false, true_or, or_true, false_or, or_false, and_self, and_false, false_and, Nat.reduceEqDiff, reduceIte]
            refine ⟨fun z => by omega, fun _ => ml_cellOf hP6 hN6 hpp (ml_heightOf hP6 hN6 (hN6.1.2.2.1 p hpp).1 ?_)⟩
            refine ih2 (p + 1) _ (by omega) (by omega) (Thx.arr (a := 70) hT6 (Fm.sA σ6 _ _ (by decide)) (by decide) (by decide) (by decide)) (hN6.eqv (by funext x; rw [fA_sA, if_neg (by omega)])) (hS6.eqv rfl) (fun q r h1 h2 => ?_) (fun r hr => ?_)
            · rw [fA_sA, if_neg (by omega)]; exact hO6 q r h1 h2
            · rw [fA_sA]
              by_cases z : r = p
              · subst z; rw [if_pos ⟨rfl, rfl⟩]; rfl
              · rw [if_neg (by omega)]; exact hr6 r (by omega)
        exact inner _ 0 σ5 rfl (by omega) hT5 hN5.1 hS5 hO5 (fun r hr => by omega)
    exact key _ 0 σ2 rfl (Nat.zero_le _) (fun q p h => by omega) ⟨0, hT2⟩ e52 hS2
  · simp only [d1] at hQ
    simp (disch := omega) only [i_0, i_1, i_2, i_3, i_4, i_5, i_6, i_7, i_8, i_9, i_10, i_11, i_12, i_13, i_16, i_19, i_20, i_21, i_22, i_23, i_24, i_25, i_30, i_31, i_32, i_39, i_40, i_41, i_42, i_43, i_44, i_45, i_47, i_48, i_49, i_50, i_51, i_52, i_57, i_59, i_60, i_61, i_62, i_63, i_64, i_71, i_72, i_80, i_91, i_93, i_97, i_99, i_100, i_122, i_227, i_228, i_232, i_251, i_255, i_256, i_463, i_999, i_1000, i_1519, i_1600, i_9999, i_100000000, i_2147483639, i_2147483647, neg_nI1, nI_add, pk_mul, nI_remL, pk_sub, pk_div, nI_clamp, nI_leI, nI_ltI, nI_eq, vpT, nI_m1, m1_nI, nI_lem1, m1_le, m1_lt, nI_ltm1, nI_bit, nI_shl, nI_xor, nI_or, n_rem, forall_eq, true_and, and_true, implies_true, true_implies, false_implies, not_true_eq_false, not_false_eq_true, Nat.zero_add, Nat.add_zero, ite_true, ite_false, if_true, if_false, true_or, or_true, false_or, or_false, and_self, and_false, false_and, Nat.reduceEqDiff, reduceIte]
    exact hQ σ hA
