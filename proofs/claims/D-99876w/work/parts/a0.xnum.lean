/-! THE SYSTEM: keys of states, reading of lists -/
theorem xoc_st {o : Nat} (h1 : 10 ≤ o) (h2 : o < 36) : xoc o = 5 := by
  unfold xoc
  split <;> first | omega | (rw [if_pos ⟨h1, h2⟩])
theorem xft_st {o k : Nat} (h1 : 10 ≤ o) (hk : k ≠ 8) : xft o k = 100 * o + 8997 + k := by
  unfold xft
  split <;> first | omega | (rw [if_neg hk])
/-- a list at la holds these addresses -/
def LRep (ρ : RS) (la : Nat) (as : List Nat) : Prop := rc ρ la = 7 ∧ rI ρ la 2 = nI as.length ∧ ∃ ea, rO ρ la 1 = some ea ∧ rc ρ ea = 109 ∧ as.length ≤ rn ρ ea ∧ rn ρ ea < 2 ^ 31 ∧ ∀ (k : Nat) x, as[k]? = some x → rO ρ ea k = some x
theorem xl_size {ν : XN} {la : Nat} {as : List Nat} {Q : Int32 → XN → Prop} (h : LRep ν.2 la as) (hQ : Q (nI as.length) ν) : xw_J2_size la ν Q := by
  unfold xw_J2_size
  rw [h.2.1]
  exact ⟨h.1, hQ⟩
/-- the plain that stands, as far as sizes go -/
def xPb (ν : XN) (b : Nat) (P : Pl) : Prop := fR ν.1 0 0 = .ref b ∧ rc ν.2 b = 2 ∧ (rI ν.2 b 1 = nI (plC P) ∧ rI ν.2 b 2 = nI (plR P) ∧ rI ν.2 b 3 = nI (plW P)) ∧ (∃ lt as, rO ν.2 b 5 = some lt ∧ LRep ν.2 lt as ∧ as.length = nT P) ∧ (∃ lp as, rO ν.2 b 6 = some lp ∧ LRep ν.2 lp as ∧ as.length = nP P) ∧ plC P ≤ 7 ∧ plR P ≤ 7 ∧ nT P ≤ 5 ∧ nP P ≤ 7
theorem xl_topics {ν : XN} {b : Nat} {P : Pl} {Q : Int32 → XN → Prop} (h : xPb ν b P) (hQ : Q (nI (nT P)) ν) : xw_X0_topics ν Q := by
  obtain ⟨lt, as, h1, h2, h3⟩ := h.2.2.2.1
  unfold xw_X0_topics
  exact ⟨b, h.1, h.2.1, lt, h1, h2.1, xl_size h2 (by rw [h3]; exact hQ)⟩
theorem xl_people {ν : XN} {b : Nat} {P : Pl} {Q : Int32 → XN → Prop} (h : xPb ν b P) (hQ : Q (nI (nP P)) ν) : xw_X0_people ν Q := by
  obtain ⟨lt, as, h1, h2, h3⟩ := h.2.2.2.2.1
  unfold xw_X0_people
  exact ⟨b, h.1, h.2.1, lt, h1, h2.1, xl_size h2 (by rw [h3]; exact hQ)⟩
theorem xl_isTopic {ν : XN} {b : Nat} {P : Pl} {x : Int32} {Q : Int32 → XN → Prop} (h : xPb ν b P) (hs : ∀ j, ix x (nT P) = some j → j < nT P → x = nI j → Q (nI 1) ν) (hn : ix x (nT P) = none → Q (nI 0) ν) : xw_X0_isTopic x ν Q := by
  have h5 := h.2.2.2.2.2.2.2.1
  unfold xw_X0_isTopic
  rcases ix_cases x (nT P) with ⟨j, e1, e2, e3⟩ | ⟨e1, e2⟩
  · have hq := hs j e1 e2 e3
    subst e3
    refine ⟨fun z => ?_, fun _ => xl_topics h ⟨fun z => ?_, fun _ => hq⟩⟩
    · have z2 : nI j < nI 0 := z
      rw [nI_ltI (by omega) (by omega)] at z2; omega
    · rw [nI_leI (by omega) (by omega)] at z; omega
  · have hq := hn e1
    refine ⟨fun _ => hq, fun z => xl_topics h ⟨fun _ => hq, fun z2 => ?_⟩⟩
    have a1 : ¬ x.toInt < 0 := fun w => z (Int32.lt_iff_toInt_lt.mpr w)
    have a2 : ¬ ((nT P : Nat) : Int) ≤ x.toInt := fun w => z2 (Int32.le_iff_toInt_le.mpr (by rw [nI_toInt (by omega)]; exact w))
    omega
theorem xl_isPerson {ν : XN} {b : Nat} {P : Pl} {x : Int32} {Q : Int32 → XN → Prop} (h : xPb ν b P) (hs : ∀ j, ix x (nP P) = some j → j < nP P → x = nI j → Q (nI 1) ν) (hn : ix x (nP P) = none → Q (nI 0) ν) : xw_X0_isPerson x ν Q := by
  have h5 := h.2.2.2.2.2.2.2.2
  unfold xw_X0_isPerson
  rcases ix_cases x (nP P) with ⟨j, e1, e2, e3⟩ | ⟨e1, e2⟩
  · have hq := hs j e1 e2 e3
    subst e3
    refine ⟨fun z => ?_, fun _ => xl_people h ⟨fun z => ?_, fun _ => hq⟩⟩
    · have z2 : nI j < nI 0 := z
      rw [nI_ltI (by omega) (by omega)] at z2; omega
    · rw [nI_leI (by omega) (by omega)] at z; omega
  · have hq := hn e1
    refine ⟨fun _ => hq, fun z => xl_people h ⟨fun _ => hq, fun z2 => ?_⟩⟩
    have a1 : ¬ x.toInt < 0 := fun w => z (Int32.lt_iff_toInt_lt.mpr w)
    have a2 : ¬ ((nP P : Nat) : Int) ≤ x.toInt := fun w => z2 (Int32.le_iff_toInt_le.mpr (by rw [nI_toInt (by omega)]; exact w))
    omega
/-- whether a number lies in a row of n -/
theorem xl_is {ν : XN} {x hi : Int32} {n : Nat} {Q : Int32 → XN → Prop} (h1 : hi.toInt = (n : Int) - 1) (hs : ∀ j, ix x n = some j → j < n → x = nI j → Q (nI 1) ν) (hn : ix x n = none → Q (nI 0) ν) : xw_X0_is x 0 hi ν Q := by
  unfold xw_X0_is
  have e0 : (0 : Int32).toInt = 0 := rfl
  rw [Int32.lt_iff_toInt_lt, Int32.lt_iff_toInt_lt, h1, e0]
  rcases ix_cases x n with ⟨j, e1, e2, e3⟩ | ⟨e1, e2⟩
  · have ht : 0 ≤ x.toInt ∧ x.toInt < n := by
      unfold ix at e1
      split at e1
      · assumption
      · cases e1
    exact ⟨fun z => by omega, fun _ => ⟨fun z => by omega, fun _ => hs j e1 e2 e3⟩⟩
  · exact ⟨fun _ => hn e1, fun z => ⟨fun _ => hn e1, fun z2 => by omega⟩⟩
theorem nIm1_i {n : Nat} (h : n < 2 ^ 31) : (nI n - 1).toInt = (n : Int) - 1 := by
  rw [← Int32.toInt_toInt64]; exact nIm1_toInt h
theorem xl_isIn {ν : XN} {b : Nat} {P : Pl} {x y : Int32} {Q : Int32 → XN → Prop} (h : xPb ν b P) (hs : ∀ c r, ix x (plC P) = some c → ix y (plR P) = some r → c < plC P → r < plR P → x = nI c → y = nI r → Q (nI 1) ν) (hn : (ix x (plC P) = none ∨ ix y (plR P) = none) → Q (nI 0) ν) : xw_X0_isIn x y ν Q := by
  have h7 := h.2.2.2.2.2
  unfold xw_X0_isIn
  refine ⟨b, h.1, h.2.1, ?_⟩
  rw [h.2.2.1.1]
  refine xl_is (nIm1_i (by omega)) (fun c c1 c2 c3 => ⟨fun z => absurd z (by decide), fun _ => ⟨b, h.1, h.2.1, ?_⟩⟩) (fun c1 => ⟨fun _ => hn (Or.inl c1), fun z => absurd rfl z⟩)
  rw [h.2.2.1.2.1]
  refine xl_is (nIm1_i (by omega)) (fun r r1 r2 r3 => ⟨fun z => absurd z (by decide), fun _ => hs c r c1 r1 c2 r2 c3 r3⟩) (fun r1 => ⟨fun _ => hn (Or.inr r1), fun z => absurd rfl z⟩)
theorem ix_nI2 {n c : Nat} (hc : c < 2 ^ 31) : ix (nI c) n = if c < n then some c else none := by
  unfold ix
  rw [nI_toInt hc]
  by_cases z : c < n
  · rw [if_pos z, if_pos ⟨by omega, by omega⟩]; simp
  · rw [if_neg z, if_neg (by omega)]
theorem xl_isCellN {ν : XN} {b c : Nat} {P : Pl} {Q : Int32 → XN → Prop} (h : xPb ν b P) (hc : c < 100000) (hy : isC P c → Q (nI 1) ν) (hn : ¬ isC P c → Q (nI 0) ν) : xw_X0_isCell (nI c) ν Q := by
  unfold xw_X0_isCell
  refine ⟨fun z => ?_, fun _ => ?_⟩
  · have z2 : nI c < nI 0 := z
    rw [nI_ltI (by omega) (by omega)] at z2; omega
  · simp (disch := omega) only [i_0, i_1, i_2, i_3, i_4, i_5, i_6, i_7, i_8, i_9, i_10, i_11, i_12, i_13, i_16, i_19, i_20, i_21, i_22, i_23, i_24, i_25, i_30, i_31, i_32, i_39, i_40, i_41, i_42, i_43, i_44, i_45, i_47, i_48, i_49, i_50, i_51, i_52, i_57, i_59, i_60, i_61, i_62, i_63, i_64, i_71, i_72, i_80, i_91, i_93, i_97, i_99, i_100, i_122, i_227, i_228, i_232, i_251, i_255, i_256, i_463, i_999, i_1000, i_1519, i_1600, i_9999, i_100000000, i_2147483639, i_2147483647, neg_nI1, nI_add, pk_mul, nI_remL, pk_sub, pk_div, nI_clamp, nI_leI, nI_ltI, nI_eq, vpT, nI_m1, m1_nI, nI_lem1, m1_le, m1_lt, nI_ltm1, nI_bit, nI_shl, nI_xor, nI_or, n_rem]
    have e1 : c - c / 8 * 8 = c % 8 := by omega
    try rw [e1]
    refine xl_isIn h (fun c' r' c1 r1 c2 r2 c3 r3 => ⟨fun z => absurd z (by decide), fun _ => hy ?_⟩) (fun hh => ⟨fun _ => hn (fun hi => ?_), fun z => absurd rfl z⟩)
    · have h7 := h.2.2.2.2.2
      simp (disch := omega) only [nI_eq] at c3 r3
      exact ⟨by omega, by omega⟩
    · rw [ix_nI2 (by omega), ix_nI2 (by omega), if_pos hi.1, if_pos hi.2] at hh
      rcases hh with z | z <;> cases z
