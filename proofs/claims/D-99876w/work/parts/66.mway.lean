/-! THE REFERENCE: water, ways -/
theorem ix_M1 (n : Nat) : ix M1 n = none := by unfold ix; rw [M1_toInt, if_neg (by omega)]
theorem nI_out {j n : Nat} (hj : j < 2 ^ 31) (h : n ≤ j) : ix (nI j) n = none := by unfold ix; rw [nI_toInt hj, if_neg (by omega)]
theorem nI_addM1 {a : Nat} : nI a + M1 = if a = 0 then M1 else nI (a - 1) := by
  cases a with
  | zero => decide
  | succ a =>
    rw [if_neg (by omega), Nat.add_sub_cancel]
    exact pk_m1 a
theorem nb4_0 (P : Pl) (c : Nat) : nb4 P c 0 = if 0 < c / 8 then some (c - 8) else none := rfl
theorem nb4_1 (P : Pl) (c : Nat) : nb4 P c 1 = if 0 < c % 8 then some (c - 1) else none := rfl
theorem nb4_2 (P : Pl) (c : Nat) : nb4 P c 2 = if c % 8 + 1 < plC P then some (c + 1) else none := rfl
theorem nb4_3 (P : Pl) (c : Nat) : nb4 P c 3 = if c / 8 + 1 < plR P then some (c + 8) else none := rfl
theorem ml_beside {σ : FS} {P : Pl} {c d : Nat} {Q : Int32 → FS → Prop} (hP : mP σ P) (hc : isC P c) (hd : d < 4) (hs : ∀ e, nb4 P c d = some e → isC P e → Q (nI (c7 e)) σ) (h0 : nb4 P c d = none → Q M1 σ) : mw_beside (nI (c7 c)) (nI d) σ Q := by
  have hl := isC_lt hP.1 hc
  have h49 := c7_lt hP.1 hc
  have hC := hP.1.1; have hR := hP.1.2.1
  have fin : ∀ x y : Int32, cellS P x y = nb4 P c d → mw_cellAt x y σ (fun r2 σ1 => Q r2 σ1) := fun x y e => ml_cellAt (Or.inl hP) (fun e' a _ b => hs e' (e ▸ a) b) (fun a => h0 (e ▸ a))
  unfold mw_beside mw_beside_23 mw_beside_47
  simp (disch := omega) only [i_0, i_1, i_2, i_3, i_4, i_5, i_6, i_7, i_8, i_9, i_10, i_11, i_12, i_13, i_16, i_19, i_20, i_21, i_22, i_23, i_24, i_25, i_30, i_31, i_32, i_39, i_40, i_41, i_42, i_43, i_44, i_45, i_47, i_48, i_49, i_50, i_51, i_52, i_57, i_59, i_60, i_61, i_62, i_63, i_64, i_71, i_72, i_80, i_91, i_93, i_97, i_99, i_100, i_122, i_227, i_228, i_232, i_251, i_255, i_256, i_463, i_999, i_1000, i_1519, i_1600, i_9999, i_100000000, i_2147483639, i_2147483647, neg_nI1, nI_add, pk_mul, nI_remL, pk_sub, pk_div, nI_clamp, nI_leI, nI_ltI, nI_eq, vpT, nI_m1, m1_nI, nI_lem1, m1_le, m1_lt, nI_ltm1, nI_bit, nI_shl, nI_xor, nI_or, n_rem, forall_eq, true_and, and_true, implies_true, true_implies, false_implies, not_true_eq_false, not_false_eq_true, Nat.zero_add, Nat.add_zero, ite_true, ite_false, if_true, if_false, true_or, or_true, false_or, or_false, and_self, and_false, false_and, Nat.reduceEqDiff, reduceIte]
  simp only [c7_mod hl.1, c7_div hl.1]
  have hdd : d = 0 ∨ d = 1 ∨ d = 2 ∨ d = 3 := by omega
  rcases hdd with rfl | rfl | rfl | rfl
  · simp only [Nat.reduceEqDiff, not_false_eq_true, true_implies, false_implies, and_true, true_and, not_true_eq_false, implies_true]
    refine fin _ _ ?_
    rw [nI_addM1, nb4_0]
    split
    · rename_i z
      rw [if_neg (by omega)]
      unfold cellS; rw [ix_M1]; split <;> simp_all
    · rename_i z
      rw [if_pos (by omega)]
      unfold cellS
      rw [ix_nI hc.1 (by omega), ix_nI (show c / 8 - 1 < plR P by have := hc.2; omega) (by omega)]
      simp only []
      congr 1; omega
  · simp only [Nat.reduceEqDiff, not_false_eq_true, true_implies, false_implies, and_true, true_and, not_true_eq_false, implies_true]
    refine fin _ _ ?_
    rw [nI_addM1, nb4_1]
    split
    · rename_i z
      rw [if_neg (by omega)]
      unfold cellS; rw [ix_M1]
    · rename_i z
      rw [if_pos (by omega)]
      unfold cellS
      rw [ix_nI (show c % 8 - 1 < plC P by have := hc.1; omega) (by omega), ix_nI hc.2 (by omega)]
      simp only []
      congr 1; omega
  · simp only [Nat.reduceEqDiff, not_false_eq_true, true_implies, false_implies, and_true, true_and, not_true_eq_false, implies_true]
    refine fin _ _ ?_
    rw [nb4_2]
    split
    · rename_i z
      unfold cellS
      rw [ix_nI z (by omega), ix_nI hc.2 (by omega)]
      simp only []
      congr 1; omega
    · rename_i z
      unfold cellS; rw [nI_out (by omega) (by omega)]
  · simp only [Nat.reduceEqDiff, not_false_eq_true, true_implies, false_implies, and_true, true_and, not_true_eq_false, implies_true]
    refine fin _ _ ?_
    rw [nb4_3]
    split
    · rename_i z
      unfold cellS
      rw [ix_nI hc.1 (by omega), ix_nI z (by omega)]
      simp only []
      congr 1; omega
    · rename_i z
      unfold cellS; rw [nI_out (j := c / 8 + 1) (by omega) (by omega)]; split <;> simp_all
theorem ml_lowerOf {σ : FS} {P : Pl} {s : St} {c : Nat} {Q : Int32 → FS → Prop} (hP : mP σ P) (hN : mN σ P s) (hc : isC P c) (hQ : Q (nI (c7 (zLow P (zH s) c))) σ) : mw_lowerOf (nI (c7 c)) σ Q := by
  unfold mw_lowerOf mw_lowerOf_4
  intro X hX
  have key : ∀ (l : List Nat) (k b : Nat), [0, 1, 2, 3].drop k = l → k ≤ 4 → isC P b → Q (nI (c7 (l.foldl (fun b d => match nb4 P c d with | none => b | some e => if zH s e < zH s b then e else b) b))) σ → X (nI (c7 c)) (nI (c7 b)) (nI k) σ := by
    intro l
    induction l with
    | nil =>
      intro k b hl hk hb hq
      have hk4 : k = 4 := by
        have := List.drop_eq_nil_iff.mp hl
        simp at this; omega
      subst hk4
      refine hX _ _ _ _ ?_
      rw [i_4]
      exact ⟨fun _ => hq, fun z => absurd ((nI_leI (by omega) (by omega)).mpr (by omega)) z⟩
    | cons d l ih =>
      intro k b hl hk hb hq
      obtain ⟨g1, g2, g3⟩ := drop_cons hl
      have g3 : k < 4 := g3
      have hdk : d = k := by
        have : k = 0 ∨ k = 1 ∨ k = 2 ∨ k = 3 := by omega
        rcases this with rfl | rfl | rfl | rfl <;> simp at g1 <;> omega
      subst hdk
      rw [List.foldl_cons] at hq
      refine hX _ _ _ _ ?_
      rw [i_4]
      refine ⟨fun z => absurd ((nI_leI (by omega) (by omega)).mp z) (by omega), fun _ => ?_⟩
      refine ml_beside hP hc g3 (fun e he hce => ?_) (fun he => ?_)
      · have h49 := c7_lt hP.1 hce
        have g5 := hN.1.2.1 _ hce
        have g6 := hN.1.2.1 _ hb
        rw [he] at hq
        simp only [] at hq
        simp (disch := omega) only [i_0, i_1, i_2, i_3, i_4, i_5, i_6, i_7, i_8, i_9, i_10, i_11, i_12, i_13, i_16, i_19, i_20, i_21, i_22, i_23, i_24, i_25, i_30, i_31, i_32, i_39, i_40, i_41, i_42, i_43, i_44, i_45, i_47, i_48, i_49, i_50, i_51, i_52, i_57, i_59, i_60, i_61, i_62, i_63, i_64, i_71, i_72, i_80, i_91, i_93, i_97, i_99, i_100, i_122, i_227, i_228, i_232, i_251, i_255, i_256, i_463, i_999, i_1000, i_1519, i_1600, i_9999, i_100000000, i_2147483639, i_2147483647, neg_nI1, nI_add, pk_mul, nI_remL, pk_sub, pk_div, nI_clamp, nI_leI, nI_ltI, nI_eq, vpT, nI_m1, m1_nI, nI_lem1, m1_le, m1_lt, nI_ltm1, nI_bit, nI_shl, nI_xor, nI_or, n_rem, forall_eq, true_and, and_true, implies_true, true_implies, false_implies, not_true_eq_false, not_false_eq_true, Nat.zero_add, Nat.add_zero, ite_true, ite_false, if_true, if_false, true_or, or_true, false_or, or_false, and_self, and_false, false_and, Nat.reduceEqDiff, reduceIte]
        refine ml_heightOf hP hN hce (ml_heightOf hP hN hb ?_)
        unfold mw_lowerOf_40
        simp (disch := omega) only [i_0, i_1, i_2, i_3, i_4, i_5, i_6, i_7, i_8, i_9, i_10, i_11, i_12, i_13, i_16, i_19, i_20, i_21, i_22, i_23, i_24, i_25, i_30, i_31, i_32, i_39, i_40, i_41, i_42, i_43, i_44, i_45, i_47, i_48, i_49, i_50, i_51, i_52, i_57, i_59, i_60, i_61, i_62, i_63, i_64, i_71, i_72, i_80, i_91, i_93, i_97, i_99, i_100, i_122, i_227, i_228, i_232, i_251, i_255, i_256, i_463, i_999, i_1000, i_1519, i_1600, i_9999, i_100000000, i_2147483639, i_2147483647, neg_nI1, nI_add, pk_mul, nI_remL, pk_sub, pk_div, nI_clamp, nI_leI, nI_ltI, nI_eq, vpT, nI_m1, m1_nI, nI_lem1, m1_le, m1_lt, nI_ltm1, nI_bit, nI_shl, nI_xor, nI_or, n_rem, forall_eq, true_and, and_true, implies_true, true_implies, false_implies, not_true_eq_false, not_false_eq_true, Nat.zero_add, Nat.add_zero, ite_true, ite_false, if_true, if_false, true_or, or_true, false_or, or_false, and_self, and_false, false_and, Nat.reduceEqDiff, reduceIte]
        refine ⟨fun z => ?_, fun z => ?_⟩
        · rw [if_neg (by omega)] at hq
          exact ih (d + 1) b g2 (by omega) hb hq
        · rw [if_pos (by omega)] at hq
          exact ih (d + 1) e g2 (by omega) hce hq
      · rw [he] at hq
        simp only [] at hq
        simp (disch := omega) only [i_0, i_1, i_2, i_3, i_4, i_5, i_6, i_7, i_8, i_9, i_10, i_11, i_12, i_13, i_16, i_19, i_20, i_21, i_22, i_23, i_24, i_25, i_30, i_31, i_32, i_39, i_40, i_41, i_42, i_43, i_44, i_45, i_47, i_48, i_49, i_50, i_51, i_52, i_57, i_59, i_60, i_61, i_62, i_63, i_64, i_71, i_72, i_80, i_91, i_93, i_97, i_99, i_100, i_122, i_227, i_228, i_232, i_251, i_255, i_256, i_463, i_999, i_1000, i_1519, i_1600, i_9999, i_100000000, i_2147483639, i_2147483647, neg_nI1, nI_add, pk_mul, nI_remL, pk_sub, pk_div, nI_clamp, nI_leI, nI_ltI, nI_eq, vpT, nI_m1, m1_nI, nI_lem1, m1_le, m1_lt, nI_ltm1, nI_bit, nI_shl, nI_xor, nI_or, n_rem, forall_eq, true_and, and_true, implies_true, true_implies, false_implies, not_true_eq_false, not_false_eq_true, Nat.zero_add, Nat.add_zero, ite_true, ite_false, if_true, if_false, true_or, or_true, false_or, or_false, and_self, and_false, false_and, Nat.reduceEqDiff, reduceIte]
        unfold mw_lowerOf_40
        rw [nI_1]
        exact ih (d + 1) b g2 (by omega) hb hq
  exact key _ 0 c rfl (by omega) hc hQ
theorem mq_pond {σ : FS} {Z : Wd} {x y : Int32} {Q : Int32 → FS → Prop} (h : mAll σ Z) (hQ : Q (opPond Z x y) σ) : mw_pond x y σ Q := by
  obtain ⟨h1, h2, h3, h4, h5, h6, h7, h8, h9, h10, h11, h12, h13, h14⟩ := h
  unfold mw_pond
  unfold opPond at hQ
  refine ml_cellAt h5 (fun c a b d => ?_) (fun a => ?_)
  · have h49 := c7_lt b.1 d
    simp only [a] at hQ
    simp (disch := omega) only [i_0, i_1, i_2, i_3, i_4, i_5, i_6, i_7, i_8, i_9, i_10, i_11, i_12, i_13, i_16, i_19, i_20, i_21, i_22, i_23, i_24, i_25, i_30, i_31, i_32, i_39, i_40, i_41, i_42, i_43, i_44, i_45, i_47, i_48, i_49, i_50, i_51, i_52, i_57, i_59, i_60, i_61, i_62, i_63, i_64, i_71, i_72, i_80, i_91, i_93, i_97, i_99, i_100, i_122, i_227, i_228, i_232, i_251, i_255, i_256, i_463, i_999, i_1000, i_1519, i_1600, i_9999, i_100000000, i_2147483639, i_2147483647, neg_nI1, nI_add, pk_mul, nI_remL, pk_sub, pk_div, nI_clamp, nI_leI, nI_ltI, nI_eq, vpT, nI_m1, m1_nI, nI_lem1, m1_le, m1_lt, nI_ltm1, nI_bit, nI_shl, nI_xor, nI_or, n_rem, forall_eq, true_and, and_true, implies_true, true_implies, false_implies, not_true_eq_false, not_false_eq_true, Nat.zero_add, Nat.add_zero, ite_true, ite_false, if_true, if_false, true_or, or_true, false_or, or_false, and_self, and_false, false_and, Nat.reduceEqDiff, reduceIte]
    refine ml_lowerOf b h6 d ?_
    unfold mw_pond_21
    intro X hX
    have key : ∀ f c, isC (wP Z) c → zH (wS Z) c < f → Q (nI (pondF (wP Z) (zH (wS Z)) f c)) σ → X (nI (c7 c)) (nI (c7 (zLow (wP Z) (zH (wS Z)) c))) σ := by
      intro f
      induction f with
      | zero => intro c _ hz; omega
      | succ f ih =>
        intro c hc hz hq
        obtain ⟨k1, k2⟩ := zLow_ok b.1 (h := zH (wS Z)) hc
        have m1 := isC_lt b.1 hc; have m2 := isC_lt b.1 k1
        have m3 := c7_lt b.1 hc; have m4 := c7_lt b.1 k1
        simp only [pondF] at hq
        refine hX _ _ _ ?_
        rw [nI_eq (by omega) (by omega)]
        refine ⟨fun z => ?_, fun z => ?_⟩
        · have e := c7_inj m2.1 m1.1 z
          rw [if_pos e] at hq
          unfold mw_numberOf
          simp (disch := omega) only [i_0, i_1, i_2, i_3, i_4, i_5, i_6, i_7, i_8, i_9, i_10, i_11, i_12, i_13, i_16, i_19, i_20, i_21, i_22, i_23, i_24, i_25, i_30, i_31, i_32, i_39, i_40, i_41, i_42, i_43, i_44, i_45, i_47, i_48, i_49, i_50, i_51, i_52, i_57, i_59, i_60, i_61, i_62, i_63, i_64, i_71, i_72, i_80, i_91, i_93, i_97, i_99, i_100, i_122, i_227, i_228, i_232, i_251, i_255, i_256, i_463, i_999, i_1000, i_1519, i_1600, i_9999, i_100000000, i_2147483639, i_2147483647, neg_nI1, nI_add, pk_mul, nI_remL, pk_sub, pk_div, nI_clamp, nI_leI, nI_ltI, nI_eq, vpT, nI_m1, m1_nI, nI_lem1, m1_le, m1_lt, nI_ltm1, nI_bit, nI_shl, nI_xor, nI_or, n_rem]
          simp only [c7_mod m1.1, c7_div m1.1]
          have : 8 * (c / 8) + c % 8 = c := by omega
          rw [this]
          exact hq
        · have hne : ¬ zLow (wP Z) (zH (wS Z)) c = c := fun e => z (by rw [e])
          rw [if_neg hne] at hq
          rcases k2 with k2 | k2
          · exact absurd k2 hne
          · exact ml_lowerOf b h6 k1 (ih _ k1 (by omega) hq)
    have := h6.1.2.1 c d
    exact key 100 c d (by omega) hQ
  · simp only [a] at hQ
    simp (disch := omega) only [i_0, i_1, i_2, i_3, i_4, i_5, i_6, i_7, i_8, i_9, i_10, i_11, i_12, i_13, i_16, i_19, i_20, i_21, i_22, i_23, i_24, i_25, i_30, i_31, i_32, i_39, i_40, i_41, i_42, i_43, i_44, i_45, i_47, i_48, i_49, i_50, i_51, i_52, i_57, i_59, i_60, i_61, i_62, i_63, i_64, i_71, i_72, i_80, i_91, i_93, i_97, i_99, i_100, i_122, i_227, i_228, i_232, i_251, i_255, i_256, i_463, i_999, i_1000, i_1519, i_1600, i_9999, i_100000000, i_2147483639, i_2147483647, neg_nI1, nI_add, pk_mul, nI_remL, pk_sub, pk_div, nI_clamp, nI_leI, nI_ltI, nI_eq, vpT, nI_m1, m1_nI, nI_lem1, m1_le, m1_lt, nI_ltm1, nI_bit, nI_shl, nI_xor, nI_or, n_rem, forall_eq, true_and, and_true, implies_true, true_implies, false_implies, not_true_eq_false, not_false_eq_true, Nat.zero_add, Nat.add_zero, ite_true, ite_false, if_true, if_false, true_or, or_true, false_or, or_false, and_self, and_false, false_and, Nat.reduceEqDiff, reduceIte]
    exact hQ
/-- the costs in the array -/
def mCo (σ : FS) (P : Pl) (d : Nat → Option Nat) : Prop := ∀ c, isC P c → fA σ 69 (c7 c) = match d c with | none => M1 | some v => nI v
theorem mCo.up {σ : FS} {P : Pl} {d : Nat → Option Nat} {b v : Nat} (hP : plOK P) (h : mCo σ P d) (hb : isC P b) : mCo (sA σ 69 (c7 b) (nI v)) P (upO d b v) := by
  intro c hc
  rw [fA_sA]
  unfold upO
  by_cases z : c = b
  · subst z; rw [if_pos ⟨rfl, rfl⟩, if_pos rfl]
  · have h1 := isC_lt hP hc; have h2 := isC_lt hP hb
    rw [if_neg (fun q => z (c7_inj h1.1 h2.1 q.2)), if_neg z]; exact h c hc
theorem ml_isCheaper {σ : FS} {P : Pl} {s : St} {a c : Nat} {d : Nat → Option Nat} {Q : Int32 → FS → Prop} (hP : mP σ P) (hN : mN σ P s) (hD : mCo σ P d) (hr : RelI P (zH s) a d) (hc : isC P c)
    (hQ : ∀ σ' d' (f : Nat), Fm [] [69] [] σ σ' → mCo σ' P d' → RelI P (zH s) a d' → f < 2 → (f = 1 → sumF (oB d') (cls P) < sumF (oB d) (cls P)) → (f = 0 → d' = d ∧ ∀ e v, d e = some v → adjC P e c → ∃ u, d c = some u ∧ u ≤ v + hd (zH s) e c) → Q (nI f) σ') : mw_isCheaper (nI (c7 c)) σ Q := by
  have hh := hN.1.2.1
  have h49c := c7_lt hP.1 hc
  unfold mw_isCheaper mw_isCheaper_4
  intro X hX
  have key : ∀ j k f (d' : Nat → Option Nat) (σ' : FS), 4 - k = j → k ≤ 4 → f < 2 → Fm [] [69] [] σ σ' → mCo σ' P d' → RelI P (zH s) a d' → (f = 1 → sumF (oB d') (cls P) < sumF (oB d) (cls P)) → (f = 0 → d' = d ∧ ∀ i e v, i < k → nb4 P c i = some e → d e = some v → ∃ u, d c = some u ∧ u ≤ v + hd (zH s) e c) → X (nI (c7 c)) (nI f) (nI k) σ' := by
    intro j
    induction j with
    | zero =>
      intro k f d' σ' hj hk hf hF hD' hr' hf1 hf0
      refine hX _ _ _ _ ?_
      rw [i_4]
      refine ⟨fun _ => ?_, fun z => absurd ((nI_leI (by omega) (by omega)).mpr (by omega)) z⟩
      have hff : f = 0 ∨ f = 1 := by omega
      refine ⟨by rcases hff with rfl | rfl; exact nb_0; exact nb_1, hQ σ' d' f hF hD' hr' hf hf1 (fun z => ⟨(hf0 z).1, fun e v hv hadj => ?_⟩)⟩
      obtain ⟨-, -, i, hi, hn⟩ := adjC_sym hP.1 hadj
      exact (hf0 z).2 i e v (by omega) hn hv
    | succ j ih =>
      intro k f d' σ' hj hk hf hF hD' hr' hf1 hf0
      have hP' := hP.fm hF (by decide) (by decide) (by decide)
      have hN' : mN σ' P s := hN.eqv (hF.2.1 52 (by decide))
      have stay : (∀ e v, nb4 P c k = some e → d' e = some v → ∃ u, d' c = some u ∧ u ≤ v + hd (zH s) e c) → mw_isCheaper_110 X (nI (c7 c)) (nI f) (nI k) σ' Q := by
        intro hst
        unfold mw_isCheaper_110
        rw [nI_1]
        refine ih (k + 1) f d' σ' (by omega) (by omega) hf hF hD' hr' hf1 (fun z => ⟨(hf0 z).1, fun i e v hi hn hv => ?_⟩)
        obtain ⟨z1, z2⟩ := hf0 z
        subst z1
        by_cases q : i < k
        · exact z2 i e v q hn hv
        · have : i = k := by omega
          subst this
          exact hst e v hn hv
      refine hX _ _ _ _ ?_
      rw [i_4]
      refine ⟨fun z => absurd ((nI_leI (by omega) (by omega)).mp z) (by omega), fun _ => ?_⟩
      refine ml_beside hP' hc (by omega) (fun e he hce => ?_) (fun he => ?_)
      · have h49 := c7_lt hP.1 hce
        have hadj : adjC P e c := adjC_sym hP.1 ⟨hc, hce, k, by omega, he⟩
        have hde := hD' e hce
        simp (disch := omega) only [i_0, i_1, i_2, i_3, i_4, i_5, i_6, i_7, i_8, i_9, i_10, i_11, i_12, i_13, i_16, i_19, i_20, i_21, i_22, i_23, i_24, i_25, i_30, i_31, i_32, i_39, i_40, i_41, i_42, i_43, i_44, i_45, i_47, i_48, i_49, i_50, i_51, i_52, i_57, i_59, i_60, i_61, i_62, i_63, i_64, i_71, i_72, i_80, i_91, i_93, i_97, i_99, i_100, i_122, i_227, i_228, i_232, i_251, i_255, i_256, i_463, i_999, i_1000, i_1519, i_1600, i_9999, i_100000000, i_2147483639, i_2147483647, neg_nI1, nI_add, pk_mul, nI_remL, pk_sub, pk_div, nI_clamp, nI_leI, nI_ltI, nI_eq, vpT, nI_m1, m1_nI, nI_lem1, m1_le, m1_lt, nI_ltm1, nI_bit, nI_shl, nI_xor, nI_or, n_rem, forall_eq, true_and, and_true, implies_true, true_implies, false_implies, not_true_eq_false, not_false_eq_true, Nat.zero_add, Nat.add_zero, ite_true, ite_false, if_true, if_false, true_or, or_true, false_or, or_false, and_self, and_false, false_and, Nat.reduceEqDiff, reduceIte]
        rw [hde]
        cases hv : d' e with
        | none =>
          simp (disch := omega) only [i_0, i_1, i_2, i_3, i_4, i_5, i_6, i_7, i_8, i_9, i_10, i_11, i_12, i_13, i_16, i_19, i_20, i_21, i_22, i_23, i_24, i_25, i_30, i_31, i_32, i_39, i_40, i_41, i_42, i_43, i_44, i_45, i_47, i_48, i_49, i_50, i_51, i_52, i_57, i_59, i_60, i_61, i_62, i_63, i_64, i_71, i_72, i_80, i_91, i_93, i_97, i_99, i_100, i_122, i_227, i_228, i_232, i_251, i_255, i_256, i_463, i_999, i_1000, i_1519, i_1600, i_9999, i_100000000, i_2147483639, i_2147483647, neg_nI1, nI_add, pk_mul, nI_remL, pk_sub, pk_div, nI_clamp, nI_leI, nI_ltI, nI_eq, vpT, nI_m1, m1_nI, nI_lem1, m1_le, m1_lt, nI_ltm1, nI_bit, nI_shl, nI_xor, nI_or, n_rem, forall_eq, true_and, and_true, implies_true, true_implies, false_implies, not_true_eq_false, not_false_eq_true, Nat.zero_add, Nat.add_zero, ite_true, ite_false, if_true, if_false, true_or, or_true, false_or, or_false, and_self, and_false, false_and, Nat.reduceEqDiff, reduceIte]
          exact stay (fun e' v' h1 h2 => by rw [he] at h1; cases h1; rw [hv] at h2; cases h2)
        | some v =>
          have hvl := hr'.le hP.1 hv
          have hdc := hD' c hc
          have hg1 := hh c hc; have hg2 := hh e hce
          simp (disch := omega) only [i_0, i_1, i_2, i_3, i_4, i_5, i_6, i_7, i_8, i_9, i_10, i_11, i_12, i_13, i_16, i_19, i_20, i_21, i_22, i_23, i_24, i_25, i_30, i_31, i_32, i_39, i_40, i_41, i_42, i_43, i_44, i_45, i_47, i_48, i_49, i_50, i_51, i_52, i_57, i_59, i_60, i_61, i_62, i_63, i_64, i_71, i_72, i_80, i_91, i_93, i_97, i_99, i_100, i_122, i_227, i_228, i_232, i_251, i_255, i_256, i_463, i_999, i_1000, i_1519, i_1600, i_9999, i_100000000, i_2147483639, i_2147483647, neg_nI1, nI_add, pk_mul, nI_remL, pk_sub, pk_div, nI_clamp, nI_leI, nI_ltI, nI_eq, vpT, nI_m1, m1_nI, nI_lem1, m1_le, m1_lt, nI_ltm1, nI_bit, nI_shl, nI_xor, nI_or, n_rem, forall_eq, true_and, and_true, implies_true, true_implies, false_implies, not_true_eq_false, not_false_eq_true, Nat.zero_add, Nat.add_zero, ite_true, ite_false, if_true, if_false, true_or, or_true, false_or, or_false, and_self, and_false, false_and, Nat.reduceEqDiff, reduceIte]
          refine ml_heightOf hP' hN' hc (ml_heightOf hP' hN' hce ?_)
          have low : (∀ u, d' c = some u → v + hd (zH s) e c < u) → mw_isCheaper_100 X (nI (c7 c)) (nI k) (nI (v + hd (zH s) e c)) σ' Q := by
            intro hlt
            obtain ⟨r1, r2⟩ := hr'.up hP.1 hh hv hadj hlt
            unfold mw_isCheaper_100 mw_isCheaper_110
            simp (disch := omega) only [i_0, i_1, i_2, i_3, i_4, i_5, i_6, i_7, i_8, i_9, i_10, i_11, i_12, i_13, i_16, i_19, i_20, i_21, i_22, i_23, i_24, i_25, i_30, i_31, i_32, i_39, i_40, i_41, i_42, i_43, i_44, i_45, i_47, i_48, i_49, i_50, i_51, i_52, i_57, i_59, i_60, i_61, i_62, i_63, i_64, i_71, i_72, i_80, i_91, i_93, i_97, i_99, i_100, i_122, i_227, i_228, i_232, i_251, i_255, i_256, i_463, i_999, i_1000, i_1519, i_1600, i_9999, i_100000000, i_2147483639, i_2147483647, neg_nI1, nI_add, pk_mul, nI_remL, pk_sub, pk_div, nI_clamp, nI_leI, nI_ltI, nI_eq, vpT, nI_m1, m1_nI, nI_lem1, m1_le, m1_lt, nI_ltm1, nI_bit, nI_shl, nI_xor, nI_or, n_rem, forall_eq, true_and, and_true, implies_true, true_implies, false_implies, not_true_eq_false, not_false_eq_true, Nat.zero_add, Nat.add_zero, ite_true, ite_false, if_true, if_false, true_or, or_true, false_or, or_false, and_self, and_false, false_and, Nat.reduceEqDiff, reduceIte]
            refine ih (k + 1) 1 _ _ (by omega) (by omega) (by decide) (hF.trans (Fm.sA σ' _ _ (by decide))) (hD'.up hP.1 hc) r1 (fun _ => ?_) (fun z => by omega)
            have hff : f = 0 ∨ f = 1 := by omega
            rcases hff with z | z
            · rw [(hf0 z).1] at r2; exact (hf0 z).1 ▸ r2
            · have := hf1 z; omega
          have mid : ∀ y0 y1 : Int32, y1 + y0 = nI (v + hd (zH s) e c) → mw_isCheaper_73 X (nI (c7 c)) (nI f) (nI k) y0 y1 σ' Q := by
            intro y0 y1 hy
            unfold mw_isCheaper_73
            rw [hy]
            simp (disch := omega) only [i_0, i_1, i_2, i_3, i_4, i_5, i_6, i_7, i_8, i_9, i_10, i_11, i_12, i_13, i_16, i_19, i_20, i_21, i_22, i_23, i_24, i_25, i_30, i_31, i_32, i_39, i_40, i_41, i_42, i_43, i_44, i_45, i_47, i_48, i_49, i_50, i_51, i_52, i_57, i_59, i_60, i_61, i_62, i_63, i_64, i_71, i_72, i_80, i_91, i_93, i_97, i_99, i_100, i_122, i_227, i_228, i_232, i_251, i_255, i_256, i_463, i_999, i_1000, i_1519, i_1600, i_9999, i_100000000, i_2147483639, i_2147483647, neg_nI1, nI_add, pk_mul, nI_remL, pk_sub, pk_div, nI_clamp, nI_leI, nI_ltI, nI_eq, vpT, nI_m1, m1_nI, nI_lem1, m1_le, m1_lt, nI_ltm1, nI_bit, nI_shl, nI_xor, nI_or, n_rem, forall_eq, true_and, and_true, implies_true, true_implies, false_implies, not_true_eq_false, not_false_eq_true, Nat.zero_add, Nat.add_zero, ite_true, ite_false, if_true, if_false, true_or, or_true, false_or, or_false, and_self, and_false, false_and, Nat.reduceEqDiff, reduceIte]
            rw [hdc]
            have hhd := hd_le hh hce hc
            cases hu : d' c with
            | none =>
              simp (disch := omega) only [i_0, i_1, i_2, i_3, i_4, i_5, i_6, i_7, i_8, i_9, i_10, i_11, i_12, i_13, i_16, i_19, i_20, i_21, i_22, i_23, i_24, i_25, i_30, i_31, i_32, i_39, i_40, i_41, i_42, i_43, i_44, i_45, i_47, i_48, i_49, i_50, i_51, i_52, i_57, i_59, i_60, i_61, i_62, i_63, i_64, i_71, i_72, i_80, i_91, i_93, i_97, i_99, i_100, i_122, i_227, i_228, i_232, i_251, i_255, i_256, i_463, i_999, i_1000, i_1519, i_1600, i_9999, i_100000000, i_2147483639, i_2147483647, neg_nI1, nI_add, pk_mul, nI_remL, pk_sub, pk_div, nI_clamp, nI_leI, nI_ltI, nI_eq, vpT, nI_m1, m1_nI, nI_lem1, m1_le, m1_lt, nI_ltm1, nI_bit, nI_shl, nI_xor, nI_or, n_rem, forall_eq, true_and, and_true, implies_true, true_implies, false_implies, not_true_eq_false, not_false_eq_true, Nat.zero_add, Nat.add_zero, ite_true, ite_false, if_true, if_false, true_or, or_true, false_or, or_false, and_self, and_false, false_and, Nat.reduceEqDiff, reduceIte]
              exact low (fun u h => by rw [hu] at h; cases h)
            | some u =>
              have hul := hr'.le hP.1 hu
              simp (disch := omega) only [i_0, i_1, i_2, i_3, i_4, i_5, i_6, i_7, i_8, i_9, i_10, i_11, i_12, i_13, i_16, i_19, i_20, i_21, i_22, i_23, i_24, i_25, i_30, i_31, i_32, i_39, i_40, i_41, i_42, i_43, i_44, i_45, i_47, i_48, i_49, i_50, i_51, i_52, i_57, i_59, i_60, i_61, i_62, i_63, i_64, i_71, i_72, i_80, i_91, i_93, i_97, i_99, i_100, i_122, i_227, i_228, i_232, i_251, i_255, i_256, i_463, i_999, i_1000, i_1519, i_1600, i_9999, i_100000000, i_2147483639, i_2147483647, neg_nI1, nI_add, pk_mul, nI_remL, pk_sub, pk_div, nI_clamp, nI_leI, nI_ltI, nI_eq, vpT, nI_m1, m1_nI, nI_lem1, m1_le, m1_lt, nI_ltm1, nI_bit, nI_shl, nI_xor, nI_or, n_rem, forall_eq, true_and, and_true, implies_true, true_implies, false_implies, not_true_eq_false, not_false_eq_true, Nat.zero_add, Nat.add_zero, ite_true, ite_false, if_true, if_false, true_or, or_true, false_or, or_false, and_self, and_false, false_and, Nat.reduceEqDiff, reduceIte]
              refine ⟨fun z => low (fun u' h => by rw [hu] at h; cases h; exact z), fun z => stay (fun e' v' h1 h2 => ?_)⟩
              rw [he] at h1; cases h1; rw [hv] at h2; cases h2
              exact ⟨u, hu, by omega⟩
          have hde' := hD' e hce
          rw [hv] at hde'
          simp only [] at hde'
          rw [hde']
          by_cases q : zH s e ≤ zH s c
          · have e1 : nI (zH s c) - nI (zH s e) = nI (zH s c - zH s e) := pk_sub q
            rw [e1]
            simp (disch := omega) only [i_0, i_1, i_2, i_3, i_4, i_5, i_6, i_7, i_8, i_9, i_10, i_11, i_12, i_13, i_16, i_19, i_20, i_21, i_22, i_23, i_24, i_25, i_30, i_31, i_32, i_39, i_40, i_41, i_42, i_43, i_44, i_45, i_47, i_48, i_49, i_50, i_51, i_52, i_57, i_59, i_60, i_61, i_62, i_63, i_64, i_71, i_72, i_80, i_91, i_93, i_97, i_99, i_100, i_122, i_227, i_228, i_232, i_251, i_255, i_256, i_463, i_999, i_1000, i_1519, i_1600, i_9999, i_100000000, i_2147483639, i_2147483647, neg_nI1, nI_add, pk_mul, nI_remL, pk_sub, pk_div, nI_clamp, nI_leI, nI_ltI, nI_eq, vpT, nI_m1, m1_nI, nI_lem1, m1_le, m1_lt, nI_ltm1, nI_bit, nI_shl, nI_xor, nI_or, n_rem, forall_eq, true_and, and_true, implies_true, true_implies, false_implies, not_true_eq_false, not_false_eq_true, Nat.zero_add, Nat.add_zero, ite_true, ite_false, if_true, if_false, true_or, or_true, false_or, or_false, and_self, and_false, false_and, Nat.reduceEqDiff, reduceIte]
            refine ⟨fun _ => mid _ _ ?_, fun z => by omega⟩
            rw [nI_add]; congr 1; unfold hd; rw [if_pos q]; omega
          · have e1 : ¬ nI 0 ≤ nI (zH s c) - nI (zH s e) := by
              have := pk_sneg (a := zH s c) (b := zH s e) (by omega) (by omega)
              rw [Int32.not_le]; exact this
            refine ⟨fun z => absurd z e1, fun _ => mid _ _ ?_⟩
            have e2 : -(nI (zH s c) - nI (zH s e)) = nI (zH s e - zH s c) := by
              rw [Int32.neg_sub, pk_sub (by omega)]
            rw [e2, nI_add, nI_add]; congr 1; unfold hd; rw [if_neg q]; omega
      · simp (disch := omega) only [i_0, i_1, i_2, i_3, i_4, i_5, i_6, i_7, i_8, i_9, i_10, i_11, i_12, i_13, i_16, i_19, i_20, i_21, i_22, i_23, i_24, i_25, i_30, i_31, i_32, i_39, i_40, i_41, i_42, i_43, i_44, i_45, i_47, i_48, i_49, i_50, i_51, i_52, i_57, i_59, i_60, i_61, i_62, i_63, i_64, i_71, i_72, i_80, i_91, i_93, i_97, i_99, i_100, i_122, i_227, i_228, i_232, i_251, i_255, i_256, i_463, i_999, i_1000, i_1519, i_1600, i_9999, i_100000000, i_2147483639, i_2147483647, neg_nI1, nI_add, pk_mul, nI_remL, pk_sub, pk_div, nI_clamp, nI_leI, nI_ltI, nI_eq, vpT, nI_m1, m1_nI, nI_lem1, m1_le, m1_lt, nI_ltm1, nI_bit, nI_shl, nI_xor, nI_or, n_rem, forall_eq, true_and, and_true, implies_true, true_implies, false_implies, not_true_eq_false, not_false_eq_true, Nat.zero_add, Nat.add_zero, ite_true, ite_false, if_true, if_false, true_or, or_true, false_or, or_false, and_self, and_false, false_and, Nat.reduceEqDiff, reduceIte]
        exact stay (fun e v h1 _ => by rw [he] at h1; cases h1)
  exact key _ 0 0 d σ rfl (by omega) (by decide) (Fm.refl _ _ _ _) hD hr (fun z => by omega) (fun _ => ⟨rfl, fun i e v hi => by omega⟩)
theorem ml_wayCost {σ : FS} {P : Pl} {s : St} {a b : Nat} {Q : Int32 → FS → Prop} (hP : mP σ P) (hN : mN σ P s) (ha : isC P a) (hb : isC P b) (hQ : ∀ σ', Fm [] [69] [] σ σ' → zWay P (zH s) a b ≤ 4800 → Q (nI (zWay P (zH s) a b)) σ') : mw_wayCost (nI (c7 a)) (nI (c7 b)) σ Q := by
  have hh := hN.1.2.1
  have ha7 := c7_lt hP.1 ha
  have hb7 := c7_lt hP.1 hb
  have h2 := cr_le hP.1
  unfold mw_wayCost mw_wayCost_2
  intro X hX
  have loop : ∀ (m : Nat) (d : Nat → Option Nat) (σ' : FS), sumF (oB d) (cls P) = m → Fm [] [69] [] σ σ' → mCo σ' P d → RelI P (zH s) a d → mw_wayCost_32 (nI (c7 b)) (1 : Int32) σ' Q := by
    intro m d σ' hm hF hD hr
    unfold mw_wayCost_32
    intro Y hY
    have out : ∀ (m : Nat) (d : Nat → Option Nat) (σ' : FS) (f : Nat), sumF (oB d) (cls P) = m → f < 2 → Fm [] [69] [] σ σ' → mCo σ' P d → RelI P (zH s) a d → (f = 0 → ∀ c, isC P c → ∀ e v, d e = some v → adjC P e c → ∃ u, d c = some u ∧ u ≤ v + hd (zH s) e c) → Y (nI (c7 b)) (nI f) σ' := by
      intro m
      induction m using Nat.strongRecOn with
      | ind m ih =>
        intro d σ' f hm hf hF hD hr hdone
        refine hY _ _ _ ?_
        simp (disch := omega) only [i_0, i_1, i_2, i_3, i_4, i_5, i_6, i_7, i_8, i_9, i_10, i_11, i_12, i_13, i_16, i_19, i_20, i_21, i_22, i_23, i_24, i_25, i_30, i_31, i_32, i_39, i_40, i_41, i_42, i_43, i_44, i_45, i_47, i_48, i_49, i_50, i_51, i_52, i_57, i_59, i_60, i_61, i_62, i_63, i_64, i_71, i_72, i_80, i_91, i_93, i_97, i_99, i_100, i_122, i_227, i_228, i_232, i_251, i_255, i_256, i_463, i_999, i_1000, i_1519, i_1600, i_9999, i_100000000, i_2147483639, i_2147483647, neg_nI1, nI_add, pk_mul, nI_remL, pk_sub, pk_div, nI_clamp, nI_leI, nI_ltI, nI_eq, vpT, nI_m1, m1_nI, nI_lem1, m1_le, m1_lt, nI_ltm1, nI_bit, nI_shl, nI_xor, nI_or, n_rem, forall_eq, true_and, and_true, implies_true, true_implies, false_implies, not_true_eq_false, not_false_eq_true, Nat.zero_add, Nat.add_zero, ite_true, ite_false, if_true, if_false, true_or, or_true, false_or, or_false, and_self, and_false, false_and, Nat.reduceEqDiff, reduceIte]
        refine ⟨fun z => ?_, fun z => ?_⟩
        · obtain ⟨v, h1, h2⟩ := hr.done hP.1 ha (fun c b v h1 h2 => hdone z b h2.2.1 c v h1 h2) hb
          have e := hD b hb
          rw [h1] at e
          rw [e]
          have hz := zWay_eq h2
          have := hQ σ' hF (by rw [hz]; exact hr.le hP.1 h1)
          rw [hz] at this
          exact this
        · have hP' := hP.fm hF (by decide) (by decide) (by decide)
          unfold mw_wayCost_41
          intro V hV
          have pass : ∀ n k (d' : Nat → Option Nat) (σ2 : FS) (g : Nat), plC P * plR P - k = n → k ≤ plC P * plR P → g < 2 → Fm [] [69] [] σ σ2 → mCo σ2 P d' → RelI P (zH s) a d' → (g = 1 → sumF (oB d') (cls P) < m) → (g = 0 → d' = d ∧ ∀ i, i < k → ∀ e v, d e = some v → adjC P e (ordC P i) → ∃ u, d (ordC P i) = some u ∧ u ≤ v + hd (zH s) e (ordC P i)) → V (nI (c7 b)) (nI g) (nI k) σ2 := by
            intro n
            induction n with
            | zero =>
              intro k d' σ2 g hn hk hg hF2 hD2 hr2 hg1 hg0
              have hP2 := hP.fm hF2 (by decide) (by decide) (by decide)
              refine hV _ _ _ _ (ml_cellMany hP2 ⟨fun _ => ?_, fun c => absurd (?_ : nI (plC P * plR P) ≤ nI k) c⟩)
              · have hgg : g = 0 ∨ g = 1 := by omega
                rcases hgg with z | z
                · obtain ⟨q1, q2⟩ := hg0 z
                  subst z q1
                  refine hY _ _ _ ?_
                  simp (disch := omega) only [i_0, i_1, i_2, i_3, i_4, i_5, i_6, i_7, i_8, i_9, i_10, i_11, i_12, i_13, i_16, i_19, i_20, i_21, i_22, i_23, i_24, i_25, i_30, i_31, i_32, i_39, i_40, i_41, i_42, i_43, i_44, i_45, i_47, i_48, i_49, i_50, i_51, i_52, i_57, i_59, i_60, i_61, i_62, i_63, i_64, i_71, i_72, i_80, i_91, i_93, i_97, i_99, i_100, i_122, i_227, i_228, i_232, i_251, i_255, i_256, i_463, i_999, i_1000, i_1519, i_1600, i_9999, i_100000000, i_2147483639, i_2147483647, neg_nI1, nI_add, pk_mul, nI_remL, pk_sub, pk_div, nI_clamp, nI_leI, nI_ltI, nI_eq, vpT, nI_m1, m1_nI, nI_lem1, m1_le, m1_lt, nI_ltm1, nI_bit, nI_shl, nI_xor, nI_or, n_rem, forall_eq, true_and, and_true, implies_true, true_implies, false_implies, not_true_eq_false, not_false_eq_true, Nat.zero_add, Nat.add_zero, ite_true, ite_false, if_true, if_false, true_or, or_true, false_or, or_false, and_self, and_false, false_and, Nat.reduceEqDiff, reduceIte]
                  have hall : ∀ c, isC P c → ∀ e v, d' e = some v → adjC P e c → ∃ u, d' c = some u ∧ u ≤ v + hd (zH s) e c := by
                    intro c hc e v hv hadj
                    have hm := (mem_cls hP.1).mpr hc
                    rw [cls_map hP.1] at hm
                    obtain ⟨i, hi, rfl⟩ := List.mem_map.mp hm
                    exact q2 i (by have := List.mem_range.mp hi; omega) e v hv hadj
                  obtain ⟨v, h1, h2⟩ := hr2.done hP.1 ha (fun c b v h1 h2 => hall b h2.2.1 c v h1 h2) hb
                  have e := hD2 b hb
                  rw [h1] at e
                  rw [e]
                  have hz := zWay_eq h2
                  have := hQ σ2 hF2 (by rw [hz]; exact hr2.le hP.1 h1)
                  rw [hz] at this
                  exact this
                · subst z
                  exact ih _ (hg1 rfl) d' σ2 1 rfl (by decide) hF2 hD2 hr2 (fun z => by omega)
              · rw [nI_leI (by omega) (by omega)]; omega
            | succ n ihn =>
              intro k d' σ2 g hn hk hg hF2 hD2 hr2 hg1 hg0
              have hP2 := hP.fm hF2 (by decide) (by decide) (by decide)
              have hN2 : mN σ2 P s := hN.eqv (hF2.2.1 52 (by decide))
              have hkk : k < plC P * plR P := by omega
              obtain ⟨hc, h7⟩ := ordC_ok hP.1 hkk
              refine hV _ _ _ _ (ml_cellMany hP2 ⟨fun c => ?_, fun _ => ml_cellOrder hP2 hkk ?_⟩)
              · rw [nI_leI (by omega) (by omega)] at c; omega
              · refine ml_isCheaper hP2 hN2 hD2 hr2 hc (fun σ3 d3 f3 hF3 hD3 hr3 hf3 h31 h30 => ?_)
                unfold mw_wayCost_65
                simp (disch := omega) only [i_0, i_1, i_2, i_3, i_4, i_5, i_6, i_7, i_8, i_9, i_10, i_11, i_12, i_13, i_16, i_19, i_20, i_21, i_22, i_23, i_24, i_25, i_30, i_31, i_32, i_39, i_40, i_41, i_42, i_43, i_44, i_45, i_47, i_48, i_49, i_50, i_51, i_52, i_57, i_59, i_60, i_61, i_62, i_63, i_64, i_71, i_72, i_80, i_91, i_93, i_97, i_99, i_100, i_122, i_227, i_228, i_232, i_251, i_255, i_256, i_463, i_999, i_1000, i_1519, i_1600, i_9999, i_100000000, i_2147483639, i_2147483647, neg_nI1, nI_add, pk_mul, nI_remL, pk_sub, pk_div, nI_clamp, nI_leI, nI_ltI, nI_eq, vpT, nI_m1, m1_nI, nI_lem1, m1_le, m1_lt, nI_ltm1, nI_bit, nI_shl, nI_xor, nI_or, n_rem, forall_eq, true_and, and_true, implies_true, true_implies, false_implies, not_true_eq_false, not_false_eq_true, Nat.zero_add, Nat.add_zero, ite_true, ite_false, if_true, if_false, true_or, or_true, false_or, or_false, and_self, and_false, false_and, Nat.reduceEqDiff, reduceIte]
                refine ⟨fun z3 => ?_, fun z3 => ?_⟩
                · obtain ⟨q1, q2⟩ := h30 z3
                  subst q1
                  refine ihn (k + 1) d3 σ3 g (by omega) (by omega) hg (hF2.trans hF3) hD3 hr3 hg1 (fun z => ?_)
                  obtain ⟨q3, q4⟩ := hg0 z
                  refine ⟨q3, fun i hi e v hv hadj => ?_⟩
                  by_cases q5 : i < k
                  · exact q4 i q5 e v hv hadj
                  · have : i = k := by omega
                    subst this
                    rw [← q3] at hv ⊢
                    exact q2 e v hv hadj
                · refine ihn (k + 1) d3 σ3 1 (by omega) (by omega) (by decide) (hF2.trans hF3) hD3 hr3 (fun _ => ?_) (fun z => by omega)
                  have h5 := h31 (by omega)
                  have hgg : g = 0 ∨ g = 1 := by omega
                  rcases hgg with z | z
                  · rw [(hg0 z).1] at h5; omega
                  · have := hg1 z; omega
          exact pass _ 0 d σ' 0 rfl (by omega) (by decide) hF hD hr (fun z => by omega) (fun _ => ⟨rfl, fun i hi => by omega⟩)
    exact out m d σ' 1 hm (by decide) hF hD hr (fun z => by omega)
  have init : ∀ j k (σ' : FS), 49 - k = j → k ≤ 49 → Fm [] [69] [] σ σ' → (∀ i, i < k → fA σ' 69 i = if i = c7 a then nI 0 else M1) → X (nI (c7 a)) (nI (c7 b)) (nI k) σ' := by
    intro j
    induction j with
    | zero =>
      intro k σ' hj hk hF hi
      refine hX _ _ _ _ ?_
      rw [i_49]
      refine ⟨fun _ => ?_, fun z => absurd ((nI_leI (by omega) (by omega)).mpr (by omega)) z⟩
      refine loop _ (fun x => if x = a then some 0 else none) σ' rfl hF (fun c hc => ?_) (RelI.start hP.1 ha)
      have h49 := c7_lt hP.1 hc
      have q1 := isC_lt hP.1 hc; have q2 := isC_lt hP.1 ha
      rw [hi _ (by omega)]
      by_cases z : c = a
      · subst z; rw [if_pos rfl]; simp
      · rw [if_neg (fun q => z (c7_inj q1.1 q2.1 q))]; simp [z]
    | succ j ih =>
      intro k σ' hj hk hF hi
      refine hX _ _ _ _ ?_
      unfold mw_wayCost_23
      simp (disch := omega) only [i_0, i_1, i_2, i_3, i_4, i_5, i_6, i_7, i_8, i_9, i_10, i_11, i_12, i_13, i_16, i_19, i_20, i_21, i_22, i_23, i_24, i_25, i_30, i_31, i_32, i_39, i_40, i_41, i_42, i_43, i_44, i_45, i_47, i_48, i_49, i_50, i_51, i_52, i_57, i_59, i_60, i_61, i_62, i_63, i_64, i_71, i_72, i_80, i_91, i_93, i_97, i_99, i_100, i_122, i_227, i_228, i_232, i_251, i_255, i_256, i_463, i_999, i_1000, i_1519, i_1600, i_9999, i_100000000, i_2147483639, i_2147483647, neg_nI1, nI_add, pk_mul, nI_remL, pk_sub, pk_div, nI_clamp, nI_leI, nI_ltI, nI_eq, vpT, nI_m1, m1_nI, nI_lem1, m1_le, m1_lt, nI_ltm1, nI_bit, nI_shl, nI_xor, nI_or, n_rem, forall_eq, true_and, and_true, implies_true, true_implies, false_implies, not_true_eq_false, not_false_eq_true, Nat.zero_add, Nat.add_zero, ite_true, ite_false, if_true, if_false, true_or, or_true, false_or, or_false, and_self, and_false, false_and, Nat.reduceEqDiff, reduceIte]
      refine ⟨fun z => by omega, fun _ => ⟨fun z => ?_, fun z => ?_⟩⟩
      · refine ih (k + 1) _ (by omega) (by omega) (hF.trans (Fm.sA σ' _ _ (by decide))) (fun i hik => ?_)
        by_cases q : i = k
        · subst q; rw [fA_sA, if_pos ⟨rfl, rfl⟩, if_neg z]
        · rw [fA_sA, if_neg (by omega)]; exact hi i (by omega)
      · refine ih (k + 1) _ (by omega) (by omega) (hF.trans (Fm.sA σ' _ _ (by decide))) (fun i hik => ?_)
        by_cases q : i = k
        · subst q; rw [fA_sA, if_pos ⟨rfl, rfl⟩, if_pos z]
        · rw [fA_sA, if_neg (by omega)]; exact hi i (by omega)
  exact init _ 0 σ rfl (by omega) (Fm.refl _ _ _ _) (fun i hi => by omega)
theorem mq_way {σ : FS} {Z : Wd} {x y : Int32} {Q : Int32 → FS → Prop} (h : mAll σ Z) (hQ : ∀ σ', mAll σ' Z → Q (opWay Z x y) σ') : mw_way x y σ Q := by
  have hA := h
  obtain ⟨h1, h2, h3, h4, h5, h6, h7, h8, h9, h10, h11, h12, h13, h14⟩ := h
  unfold mw_way
  unfold opWay at hQ
  have hnp := h1.np
  refine ml_cellNumbered h5 ⟨hnp.2.2.1, hnp.2.2.2.1⟩ (fun a a1 a2 a3 a4 _ => ?_) (fun a1 => ?_)
  · have h49 := c7_lt a2.1 a3
    refine ml_cellNumbered h5 ⟨hnp.2.2.1, hnp.2.2.2.1⟩ (fun b b1 b2 b3 b4 _ => ?_) (fun b1 => ?_)
    · have h492 := c7_lt a2.1 b3
      simp only [a1, b1] at hQ
      simp (disch := omega) only [i_0, i_1, i_2, i_3, i_4, i_5, i_6, i_7, i_8, i_9, i_10, i_11, i_12, i_13, i_16, i_19, i_20, i_21, i_22, i_23, i_24, i_25, i_30, i_31, i_32, i_39, i_40, i_41, i_42, i_43, i_44, i_45, i_47, i_48, i_49, i_50, i_51, i_52, i_57, i_59, i_60, i_61, i_62, i_63, i_64, i_71, i_72, i_80, i_91, i_93, i_97, i_99, i_100, i_122, i_227, i_228, i_232, i_251, i_255, i_256, i_463, i_999, i_1000, i_1519, i_1600, i_9999, i_100000000, i_2147483639, i_2147483647, neg_nI1, nI_add, pk_mul, nI_remL, pk_sub, pk_div, nI_clamp, nI_leI, nI_ltI, nI_eq, vpT, nI_m1, m1_nI, nI_lem1, m1_le, m1_lt, nI_ltm1, nI_bit, nI_shl, nI_xor, nI_or, n_rem, forall_eq, true_and, and_true, implies_true, true_implies, false_implies, not_true_eq_false, not_false_eq_true, Nat.zero_add, Nat.add_zero, ite_true, ite_false, if_true, if_false, true_or, or_true, false_or, or_false, and_self, and_false, false_and, Nat.reduceEqDiff, reduceIte]
      exact ml_wayCost a2 h6 a3 b3 (fun σ' hF _ => hQ σ' (hA.fm hF (by decide) (by decide) (by decide) (h12.eqv (hF.1 56 (by decide)))))
    · simp only [a1, b1] at hQ
      simp (disch := omega) only [i_0, i_1, i_2, i_3, i_4, i_5, i_6, i_7, i_8, i_9, i_10, i_11, i_12, i_13, i_16, i_19, i_20, i_21, i_22, i_23, i_24, i_25, i_30, i_31, i_32, i_39, i_40, i_41, i_42, i_43, i_44, i_45, i_47, i_48, i_49, i_50, i_51, i_52, i_57, i_59, i_60, i_61, i_62, i_63, i_64, i_71, i_72, i_80, i_91, i_93, i_97, i_99, i_100, i_122, i_227, i_228, i_232, i_251, i_255, i_256, i_463, i_999, i_1000, i_1519, i_1600, i_9999, i_100000000, i_2147483639, i_2147483647, neg_nI1, nI_add, pk_mul, nI_remL, pk_sub, pk_div, nI_clamp, nI_leI, nI_ltI, nI_eq, vpT, nI_m1, m1_nI, nI_lem1, m1_le, m1_lt, nI_ltm1, nI_bit, nI_shl, nI_xor, nI_or, n_rem, forall_eq, true_and, and_true, implies_true, true_implies, false_implies, not_true_eq_false, not_false_eq_true, Nat.zero_add, Nat.add_zero, ite_true, ite_false, if_true, if_false, true_or, or_true, false_or, or_false, and_self, and_false, false_and, Nat.reduceEqDiff, reduceIte]
      exact hQ σ hA
  · refine ml_cellNumbered h5 ⟨hnp.2.2.1, hnp.2.2.2.1⟩ (fun b b1 b2 b3 b4 _ => ?_) (fun b1 => ?_)
    · simp only [a1] at hQ
      simp (disch := omega) only [i_0, i_1, i_2, i_3, i_4, i_5, i_6, i_7, i_8, i_9, i_10, i_11, i_12, i_13, i_16, i_19, i_20, i_21, i_22, i_23, i_24, i_25, i_30, i_31, i_32, i_39, i_40, i_41, i_42, i_43, i_44, i_45, i_47, i_48, i_49, i_50, i_51, i_52, i_57, i_59, i_60, i_61, i_62, i_63, i_64, i_71, i_72, i_80, i_91, i_93, i_97, i_99, i_100, i_122, i_227, i_228, i_232, i_251, i_255, i_256, i_463, i_999, i_1000, i_1519, i_1600, i_9999, i_100000000, i_2147483639, i_2147483647, neg_nI1, nI_add, pk_mul, nI_remL, pk_sub, pk_div, nI_clamp, nI_leI, nI_ltI, nI_eq, vpT, nI_m1, m1_nI, nI_lem1, m1_le, m1_lt, nI_ltm1, nI_bit, nI_shl, nI_xor, nI_or, n_rem, forall_eq, true_and, and_true, implies_true, true_implies, false_implies, not_true_eq_false, not_false_eq_true, Nat.zero_add, Nat.add_zero, ite_true, ite_false, if_true, if_false, true_or, or_true, false_or, or_false, and_self, and_false, false_and, Nat.reduceEqDiff, reduceIte]
      exact hQ σ hA
    · simp only [a1] at hQ
      simp (disch := omega) only [i_0, i_1, i_2, i_3, i_4, i_5, i_6, i_7, i_8, i_9, i_10, i_11, i_12, i_13, i_16, i_19, i_20, i_21, i_22, i_23, i_24, i_25, i_30, i_31, i_32, i_39, i_40, i_41, i_42, i_43, i_44, i_45, i_47, i_48, i_49, i_50, i_51, i_52, i_57, i_59, i_60, i_61, i_62, i_63, i_64, i_71, i_72, i_80, i_91, i_93, i_97, i_99, i_100, i_122, i_227, i_228, i_232, i_251, i_255, i_256, i_463, i_999, i_1000, i_1519, i_1600, i_9999, i_100000000, i_2147483639, i_2147483647, neg_nI1, nI_add, pk_mul, nI_remL, pk_sub, pk_div, nI_clamp, nI_leI, nI_ltI, nI_eq, vpT, nI_m1, m1_nI, nI_lem1, m1_le, m1_lt, nI_ltm1, nI_bit, nI_shl, nI_xor, nI_or, n_rem, forall_eq, true_and, and_true, implies_true, true_implies, false_implies, not_true_eq_false, not_false_eq_true, Nat.zero_add, Nat.add_zero, ite_true, ite_false, if_true, if_false, true_or, or_true, false_or, or_false, and_self, and_false, false_and, Nat.reduceEqDiff, reduceIte]
      exact hQ σ hA
