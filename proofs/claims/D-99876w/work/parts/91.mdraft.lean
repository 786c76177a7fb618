/-! THE REFERENCE: what is told, in its arrays; names, cells -/
abbrev kP : List Nat := [2, 4, 5, 6, 10, 38, 48, 49, 51, 103, 105, 106, 107]
abbrev aP : List Nat := [39, 40, 42, 43, 44, 45, 46, 47, 102, 104]
/-- what reading may change: never what stands -/
def Pf (σ σ' : FS) : Prop := Fm kP aP [41] σ σ' ∧ (∀ i, 3 ≤ i → fA σ' 39 i = fA σ 39 i ∧ fA σ' 40 i = fA σ 40 i ∧ fA σ' 45 i = fA σ 45 i ∧ fA σ' 46 i = fA σ 46 i) ∧ (∀ i, 24 ≤ i → fA σ' 44 i = fA σ 44 i) ∧ (∀ i, 1600 ≤ i → fA σ' 47 i = fA σ 47 i) ∧ ∀ i, 16 ≤ i → fB σ' 41 i = fB σ 41 i
theorem Pf.refl (σ : FS) : Pf σ σ := ⟨Fm.refl _ _ _ _, fun _ _ => ⟨rfl, rfl, rfl, rfl⟩, fun _ _ => rfl, fun _ _ => rfl, fun _ _ => rfl⟩
theorem Pf.trans {σ σ' σ'' : FS} (h : Pf σ σ') (g : Pf σ' σ'') : Pf σ σ'' :=
  ⟨h.1.trans g.1, fun i hi => ⟨(g.2.1 i hi).1.trans (h.2.1 i hi).1, (g.2.1 i hi).2.1.trans (h.2.1 i hi).2.1, (g.2.1 i hi).2.2.1.trans (h.2.1 i hi).2.2.1, (g.2.1 i hi).2.2.2.trans (h.2.1 i hi).2.2.2⟩, fun i hi => (g.2.2.1 i hi).trans (h.2.2.1 i hi), fun i hi => (g.2.2.2.1 i hi).trans (h.2.2.2.1 i hi), fun i hi => (g.2.2.2.2 i hi).trans (h.2.2.2.2 i hi)⟩
theorem Pf.ofFm {ks as : List Nat} {σ σ' : FS} (h : Fm ks as [] σ σ') (h1 : ∀ k ∈ ks, k ∈ kP) (h2 : ∀ k ∈ as, k ∈ aP ∧ k ≠ 39 ∧ k ≠ 40 ∧ k ≠ 44 ∧ k ≠ 45 ∧ k ≠ 46 ∧ k ≠ 47) : Pf σ σ' := by
  have g : ∀ a, (a = 39 ∨ a = 40 ∨ a = 44 ∨ a = 45 ∨ a = 46 ∨ a = 47) → fA σ' a = fA σ a := fun a ha => h.2.1 a (fun z => by have := (h2 a z).2; omega)
  refine ⟨h.wide h1 (fun k z => (h2 k z).1) (by simp), fun i _ => ⟨?_, ?_, ?_, ?_⟩, fun i _ => ?_, fun i _ => ?_, fun i _ => ?_⟩
  · rw [g 39 (by decide)]
  · rw [g 40 (by decide)]
  · rw [g 45 (by decide)]
  · rw [g 46 (by decide)]
  · rw [g 44 (by decide)]
  · rw [g 47 (by decide)]
  · rw [h.2.2.1 41 (by simp)]
theorem FQ.p {σ σ' : FS} (h : FQ σ σ') : Pf σ σ' := Pf.ofFm h (by decide) (by decide)
theorem FT.p {σ σ' : FS} (h : FT σ σ') : Pf σ σ' := Pf.ofFm h (by decide) (by decide)
def cdM (σ : FS) (u w : Nat) (o : Option (List Nat)) : Prop := match o with
  | none => fA σ 45 w = M1
  | some cs => ∃ f, fA σ 45 w = nI f ∧ fA σ 46 w = nI (f + cs.length) ∧ f + cs.length ≤ u ∧ ∀ i c, cs[i]? = some c → fA σ 47 (f + i) = nI c
/-- n statements so far; u codes so far -/
def Dm (σ : FS) (D : Dr) (n u : Nat) : Prop := (fI σ 0 49 = nI n ∧ n ≤ 80 ∧ fI σ 0 48 = nI u ∧ u ≤ 1600) ∧ (fA σ 39 0 = nI (plC D.1) ∧ fA σ 39 1 = nI (plR D.1) ∧ fA σ 39 2 = nI (plW D.1)) ∧ (fA σ 40 0 = nI (nT D.1) ∧ fA σ 40 1 = nI (nP D.1) ∧ fA σ 40 2 = nI (plL D.1).length)
  ∧ ((∀ (k : Nat) w, (plT D.1)[k]? = some w → fB σ 41 k = lI (enc w)) ∧ ∀ (k : Nat) w, (plN D.1)[k]? = some w → fB σ 41 (8 + k) = lI (enc w))
  ∧ (∀ c, isC D.1 c → fA σ 42 (c7 c) = nI (dH D c)) ∧ (∀ p, p < nP D.1 → fA σ 43 (3 * p) = nI (c7 (dA D p)) ∧ fA σ 43 (3 * p + 1) = nI (dT D p) ∧ fA σ 43 (3 * p + 2) = nI (dK D p))
  ∧ (∀ (k : Nat) q, (plL D.1)[k]? = some q → fA σ 44 (2 * k) = nI q.1 ∧ fA σ 44 (2 * k + 1) = nI q.2) ∧ (cdM σ u 0 (plF D.1) ∧ cdM σ u 1 (plG D.1) ∧ cdM σ u 2 (plH D.1))
theorem cdM.eqv {σ σ' : FS} {u w : Nat} {o : Option (List Nat)} (h : cdM σ u w o) (e1 : fA σ' 45 = fA σ 45) (e2 : fA σ' 46 = fA σ 46) (e3 : fA σ' 47 = fA σ 47) : cdM σ' u w o := by
  cases o with
  | none => unfold cdM at h ⊢; rw [e1]; exact h
  | some cs => unfold cdM at h ⊢; rw [e1, e2, e3]; exact h
theorem Dm.q {σ σ' : FS} {D : Dr} {n u : Nat} (h : Dm σ D n u) (f : FQ σ σ') : Dm σ' D n u := by
  obtain ⟨h1, h2, h3, h4, h5, h6, h7, h8⟩ := h
  have g : ∀ a, a ∉ ([102, 104] : List Nat) → fA σ' a = fA σ a := f.2.1
  refine ⟨?_, ?_, ?_, ?_, ?_, ?_, ?_, ?_⟩
  · rw [f.1 49 (by decide), f.1 48 (by decide)]; exact h1
  · rw [g 39 (by decide)]; exact h2
  · rw [g 40 (by decide)]; exact h3
  · rw [f.2.2.1 41 (by simp)]; exact h4
  · rw [g 42 (by decide)]; exact h5
  · rw [g 43 (by decide)]; exact h6
  · rw [g 44 (by decide)]; exact h7
  · exact ⟨h8.1.eqv (g 45 (by decide)) (g 46 (by decide)) (g 47 (by decide)), h8.2.1.eqv (g 45 (by decide)) (g 46 (by decide)) (g 47 (by decide)), h8.2.2.eqv (g 45 (by decide)) (g 46 (by decide)) (g 47 (by decide))⟩
theorem Dm.t {σ σ' : FS} {D : Dr} {n u : Nat} (h : Dm σ D n u) (f : FT σ σ') : Dm σ' D n u := h.q (FT.q f)
/-! names are told apart by their numbers -/
theorem enc_inj : ∀ (n : Nat) (w w' : List Nat), w.length ≤ n → (∀ c ∈ w, 97 ≤ c ∧ c ≤ 122) → (∀ c ∈ w', 97 ≤ c ∧ c ≤ 122) → enc w = enc w' → w = w' := by
  intro n
  induction n with
  | zero =>
    intro w w' hl h1 h2 he
    have hw : w = [] := List.length_eq_zero_iff.mp (by omega)
    subst hw
    rcases List.eq_nil_or_concat w' with z | ⟨v, c, z⟩
    · exact z.symm
    · rw [z] at he h2
      have := h2 c (by simp)
      rw [List.concat_eq_append, enc_app] at he
      have : enc [] = 0 := rfl
      omega
  | succ n ih =>
    intro w w' hl h1 h2 he
    rcases List.eq_nil_or_concat w with z | ⟨v, c, z⟩ <;> rcases List.eq_nil_or_concat w' with z' | ⟨v', c', z'⟩
    · rw [z, z']
    · rw [z, z'] at he; rw [z'] at h2
      have := h2 c' (by simp)
      rw [List.concat_eq_append, enc_app] at he
      have : enc [] = 0 := rfl
      omega
    · rw [z, z'] at he; rw [z] at h1
      have := h1 c (by simp)
      rw [List.concat_eq_append, enc_app] at he
      have : enc [] = 0 := rfl
      omega
    · subst z; subst z'
      simp only [List.concat_eq_append] at *
      rw [enc_app, enc_app] at he
      have hc := h1 c (by simp)
      have hc' := h2 c' (by simp)
      have e1 : c = c' := by omega
      have e2 : enc v = enc v' := by omega
      rw [e1, ih v v' (by simp at hl; omega) (fun x hx => h1 x (by simp [hx])) (fun x hx => h2 x (by simp [hx])) e2]
theorem enc_lI {w w' : List Nat} (h : nmOK w) (h' : nmOK w') : (lI (enc w) = lI (enc w')) = (w = w') := by
  have m1 := enc_max h w.length (Nat.le_refl _)
  have m2 := enc_max h' w'.length (Nat.le_refl _)
  rw [List.take_length] at m1 m2
  rw [lI_eq (by omega) (by omega) (by omega) (by omega)]
  refine propext ⟨fun z => enc_inj w.length w w' (Nat.le_refl _) h.2.2 h'.2.2 (by omega), fun z => by rw [z]⟩
/-! faults go through -/
theorem ml_numberB {σ : FS} {q : Nat × Nat} {lo hi : Int32} {Q : Int32 → FS → Prop} (h : Bd σ q) (hQ : Q (nI 0) σ) : mw_number lo hi σ Q := by
  unfold mw_number
  exact ⟨fun z => absurd z h.ne, fun _ => hQ⟩
theorem ml_nameB {σ : FS} {q : Nat × Nat} {Q : Int64 → FS → Prop} (h : Bd σ q) (hQ : Q 0 σ) : mw_name σ Q := by
  unfold mw_name
  exact ⟨fun z => absurd z h.ne, fun _ => hQ⟩
theorem ml_failB {σ : FS} {q : Nat × Nat} {a b : Int32} {Q : FS → Prop} (h : Bd σ q) (hQ : Q σ) : mw_fail a b σ Q := by
  unfold mw_fail
  exact ⟨fun z => absurd z h.ne, fun _ => hQ⟩
/-- a list of names, where it stands -/
def NmL (σ : FS) (i : Nat) (l : List (List Nat)) : Prop := i < 2 ∧ fA σ 40 i = nI l.length ∧ l.length ≤ 7 ∧ (∀ (k : Nat) w, l[k]? = some w → fB σ 41 (8 * i + k) = lI (enc w)) ∧ ∀ w ∈ l, nmOK w
theorem NmL.t {σ σ' : FS} {i : Nat} {l : List (List Nat)} (h : NmL σ i l) (f : FT σ σ') : NmL σ' i l := by
  unfold NmL; rw [f.2.1 40 (by simp), f.2.2.1 41 (by simp)]; exact h
theorem Dm.nt {σ : FS} {D : Dr} {n u : Nat} (h : Dm σ D n u) (hD : drOK D) : NmL σ 0 (plT D.1) := by
  have := hD.1.2.2.2.1
  exact ⟨by decide, h.2.2.1.1, by unfold nT at this; omega, fun k w hw => by rw [show 8 * 0 + k = k by omega]; exact h.2.2.2.1.1 k w hw, fun w hw => hD.2.2 w (Or.inl hw)⟩
theorem Dm.nn {σ : FS} {D : Dr} {n u : Nat} (h : Dm σ D n u) (hD : drOK D) : NmL σ 1 (plN D.1) := by
  have := hD.1.2.2.2.2.1
  exact ⟨by decide, h.2.2.1.2.1, by unfold nP at this; omega, fun k w hw => h.2.2.2.1.2 k w hw, fun w hw => hD.2.2 w (Or.inr hw)⟩
theorem ml_namedB8 {σ : FS} {q : Nat × Nat} {i : Nat} {l : List (List Nat)} {x : Int64} {Q : Int32 → FS → Prop} (h : Bd σ q) (hl : NmL σ i l) (hQ : ∀ r, Q r σ) : mw_named_8 (nI i) x (nI 0) σ Q := by
  unfold mw_named_8
  intro X hX
  have h1 := hl.1
  have h2 := hl.2.2.1
  have key : ∀ m k, k + m = l.length → X (nI i) x (nI k) σ := by
    intro m
    induction m with
    | zero =>
      intro k hk
      refine hX _ _ _ _ ?_
      simp (disch := omega) only [i_0, i_1, i_2, i_3, i_4, i_5, i_6, i_7, i_8, i_9, i_10, i_11, i_12, i_13, i_16, i_19, i_20, i_21, i_22, i_23, i_24, i_25, i_30, i_31, i_32, i_39, i_40, i_41, i_42, i_43, i_44, i_45, i_47, i_48, i_49, i_50, i_51, i_52, i_57, i_59, i_60, i_61, i_62, i_63, i_64, i_71, i_72, i_80, i_91, i_93, i_97, i_99, i_100, i_122, i_227, i_228, i_232, i_251, i_255, i_256, i_463, i_999, i_1000, i_1519, i_1600, i_9999, i_100000000, i_2147483639, i_2147483647, neg_nI1, nI_add, pk_mul, nI_remL, pk_sub, pk_div, nI_clamp, nI_leI, nI_ltI, nI_eq, vpT, nI_m1, m1_nI, nI_lem1, m1_le, m1_lt, nI_ltm1, nI_bit, nI_shl, nI_xor, nI_or, n_rem, forall_eq, true_and, and_true, implies_true, true_implies, false_implies, not_true_eq_false, not_false_eq_true, Nat.zero_add, Nat.add_zero, ite_true, ite_false, if_true, if_false, true_or, or_true, false_or, or_false, and_self, and_false, false_and, Nat.reduceEqDiff, reduceIte]
      rw [hl.2.1]
      simp (disch := omega) only [i_0, i_1, i_2, i_3, i_4, i_5, i_6, i_7, i_8, i_9, i_10, i_11, i_12, i_13, i_16, i_19, i_20, i_21, i_22, i_23, i_24, i_25, i_30, i_31, i_32, i_39, i_40, i_41, i_42, i_43, i_44, i_45, i_47, i_48, i_49, i_50, i_51, i_52, i_57, i_59, i_60, i_61, i_62, i_63, i_64, i_71, i_72, i_80, i_91, i_93, i_97, i_99, i_100, i_122, i_227, i_228, i_232, i_251, i_255, i_256, i_463, i_999, i_1000, i_1519, i_1600, i_9999, i_100000000, i_2147483639, i_2147483647, neg_nI1, nI_add, pk_mul, nI_remL, pk_sub, pk_div, nI_clamp, nI_leI, nI_ltI, nI_eq, vpT, nI_m1, m1_nI, nI_lem1, m1_le, m1_lt, nI_ltm1, nI_bit, nI_shl, nI_xor, nI_or, n_rem, forall_eq, true_and, and_true, implies_true, true_implies, false_implies, not_true_eq_false, not_false_eq_true, Nat.zero_add, Nat.add_zero, ite_true, ite_false, if_true, if_false, true_or, or_true, false_or, or_false, and_self, and_false, false_and, Nat.reduceEqDiff, reduceIte]
      exact ⟨fun _ => ⟨fun _ => hQ _, fun z => absurd z h.ne⟩, fun z => by omega⟩
    | succ m ih =>
      intro k hk
      refine hX _ _ _ _ ?_
      simp (disch := omega) only [i_0, i_1, i_2, i_3, i_4, i_5, i_6, i_7, i_8, i_9, i_10, i_11, i_12, i_13, i_16, i_19, i_20, i_21, i_22, i_23, i_24, i_25, i_30, i_31, i_32, i_39, i_40, i_41, i_42, i_43, i_44, i_45, i_47, i_48, i_49, i_50, i_51, i_52, i_57, i_59, i_60, i_61, i_62, i_63, i_64, i_71, i_72, i_80, i_91, i_93, i_97, i_99, i_100, i_122, i_227, i_228, i_232, i_251, i_255, i_256, i_463, i_999, i_1000, i_1519, i_1600, i_9999, i_100000000, i_2147483639, i_2147483647, neg_nI1, nI_add, pk_mul, nI_remL, pk_sub, pk_div, nI_clamp, nI_leI, nI_ltI, nI_eq, vpT, nI_m1, m1_nI, nI_lem1, m1_le, m1_lt, nI_ltm1, nI_bit, nI_shl, nI_xor, nI_or, n_rem, forall_eq, true_and, and_true, implies_true, true_implies, false_implies, not_true_eq_false, not_false_eq_true, Nat.zero_add, Nat.add_zero, ite_true, ite_false, if_true, if_false, true_or, or_true, false_or, or_false, and_self, and_false, false_and, Nat.reduceEqDiff, reduceIte]
      rw [hl.2.1]
      simp (disch := omega) only [i_0, i_1, i_2, i_3, i_4, i_5, i_6, i_7, i_8, i_9, i_10, i_11, i_12, i_13, i_16, i_19, i_20, i_21, i_22, i_23, i_24, i_25, i_30, i_31, i_32, i_39, i_40, i_41, i_42, i_43, i_44, i_45, i_47, i_48, i_49, i_50, i_51, i_52, i_57, i_59, i_60, i_61, i_62, i_63, i_64, i_71, i_72, i_80, i_91, i_93, i_97, i_99, i_100, i_122, i_227, i_228, i_232, i_251, i_255, i_256, i_463, i_999, i_1000, i_1519, i_1600, i_9999, i_100000000, i_2147483639, i_2147483647, neg_nI1, nI_add, pk_mul, nI_remL, pk_sub, pk_div, nI_clamp, nI_leI, nI_ltI, nI_eq, vpT, nI_m1, m1_nI, nI_lem1, m1_le, m1_lt, nI_ltm1, nI_bit, nI_shl, nI_xor, nI_or, n_rem, forall_eq, true_and, and_true, implies_true, true_implies, false_implies, not_true_eq_false, not_false_eq_true, Nat.zero_add, Nat.add_zero, ite_true, ite_false, if_true, if_false, true_or, or_true, false_or, or_false, and_self, and_false, false_and, Nat.reduceEqDiff, reduceIte]
      exact ⟨fun z => by omega, fun _ => ⟨fun _ => ih (k + 1) (by omega), fun _ => hQ _⟩⟩
  exact key l.length 0 (by omega)
theorem ml_namedB {σ : FS} {q : Nat × Nat} {i : Nat} {l : List (List Nat)} {Q : Int32 → FS → Prop} (h : Bd σ q) (hl : NmL σ i l) (hQ : ∀ r, Q r σ) : mw_named (nI i) σ Q := by
  unfold mw_named
  exact ml_nameB h (ml_namedB8 h hl hQ)
theorem ml_named {σ : FS} {t : Nat → Nat} {e a i : Nat} {l : List (List Nat)} {Q : Int32 → FS → Prop} (h : Tok σ t e a) (hl : NmL σ i l)
    (ho : ∀ j f b, pOf l t e a = .inl ((j, f), b) → j < l.length → ∀ σ', FT σ σ' → Tok σ' t e b → fI σ' 0 38 = nI f → Q (nI j) σ') (hx : ∀ q, pOf l t e a = .inr q → ∀ σ' r, FT σ σ' → Bd σ' q → Q r σ') : mw_named (nI i) σ Q := by
  unfold mw_named
  refine ml_name h (fun w b f σ1 hp hw hF1 hT1 h38 => ?_) (fun q r σ1 hp hF1 hB1 => ml_namedB8 hB1 (hl.t hF1) (fun r => hx q (by unfold pOf; rw [hp]; rfl) σ1 r hF1 hB1))
  have hl1 := hl.t hF1
  have h1 := hl.1
  have h2 := hl.2.2.1
  have hpo : pOf l t e a = if ixOf l w < l.length then .inl ((ixOf l w, f), b) else .inr (3, f) := by unfold pOf; rw [hp]; rfl
  unfold mw_named_8
  intro X hX
  have key : ∀ m k, k + m = l.length → (∀ j v, j < k → l[j]? = some v → v ≠ w) → X (nI i) (lI (enc w)) (nI k) σ1 := by
    intro m
    induction m with
    | zero =>
      intro k hk hn
      have hix : ¬ ixOf l w < l.length := by
        unfold ixOf
        intro z
        have hz := List.findIdx_getElem (w := z)
        simp at hz
        exact hn _ _ (by omega) (List.getElem?_eq_getElem z) hz
      rw [if_neg hix] at hpo
      refine hX _ _ _ _ ?_
      simp (disch := omega) only [i_0, i_1, i_2, i_3, i_4, i_5, i_6, i_7, i_8, i_9, i_10, i_11, i_12, i_13, i_16, i_19, i_20, i_21, i_22, i_23, i_24, i_25, i_30, i_31, i_32, i_39, i_40, i_41, i_42, i_43, i_44, i_45, i_47, i_48, i_49, i_50, i_51, i_52, i_57, i_59, i_60, i_61, i_62, i_63, i_64, i_71, i_72, i_80, i_91, i_93, i_97, i_99, i_100, i_122, i_227, i_228, i_232, i_251, i_255, i_256, i_463, i_999, i_1000, i_1519, i_1600, i_9999, i_100000000, i_2147483639, i_2147483647, neg_nI1, nI_add, pk_mul, nI_remL, pk_sub, pk_div, nI_clamp, nI_leI, nI_ltI, nI_eq, vpT, nI_m1, m1_nI, nI_lem1, m1_le, m1_lt, nI_ltm1, nI_bit, nI_shl, nI_xor, nI_or, n_rem, forall_eq, true_and, and_true, implies_true, true_implies, false_implies, not_true_eq_false, not_false_eq_true, Nat.zero_add, Nat.add_zero, ite_true, ite_false, if_true, if_false, true_or, or_true, false_or, or_false, and_self, and_false, false_and, Nat.reduceEqDiff, reduceIte]
      rw [hl1.2.1]
      simp (disch := omega) only [i_0, i_1, i_2, i_3, i_4, i_5, i_6, i_7, i_8, i_9, i_10, i_11, i_12, i_13, i_16, i_19, i_20, i_21, i_22, i_23, i_24, i_25, i_30, i_31, i_32, i_39, i_40, i_41, i_42, i_43, i_44, i_45, i_47, i_48, i_49, i_50, i_51, i_52, i_57, i_59, i_60, i_61, i_62, i_63, i_64, i_71, i_72, i_80, i_91, i_93, i_97, i_99, i_100, i_122, i_227, i_228, i_232, i_251, i_255, i_256, i_463, i_999, i_1000, i_1519, i_1600, i_9999, i_100000000, i_2147483639, i_2147483647, neg_nI1, nI_add, pk_mul, nI_remL, pk_sub, pk_div, nI_clamp, nI_leI, nI_ltI, nI_eq, vpT, nI_m1, m1_nI, nI_lem1, m1_le, m1_lt, nI_ltm1, nI_bit, nI_shl, nI_xor, nI_or, n_rem, forall_eq, true_and, and_true, implies_true, true_implies, false_implies, not_true_eq_false, not_false_eq_true, Nat.zero_add, Nat.add_zero, ite_true, ite_false, if_true, if_false, true_or, or_true, false_or, or_false, and_self, and_false, false_and, Nat.reduceEqDiff, reduceIte]
      refine ⟨fun _ => ⟨fun z => absurd hT1.2.2.2.1 z, fun _ => ?_⟩, fun z => by omega⟩
      rw [h38]
      exact ml_fail (q := (3, f)) hT1.2.2.2.1 (by simp) (fun σ5 hF5 hB5 => hx _ hpo σ5 _ (hF1.trans (hF5.wide (by decide) (by decide) (by decide))) hB5)
    | succ m ih =>
      intro k hk hn
      have hkl : k < l.length := by omega
      have hkv : l[k]? = some l[k] := List.getElem?_eq_getElem hkl
      refine hX _ _ _ _ ?_
      simp (disch := omega) only [i_0, i_1, i_2, i_3, i_4, i_5, i_6, i_7, i_8, i_9, i_10, i_11, i_12, i_13, i_16, i_19, i_20, i_21, i_22, i_23, i_24, i_25, i_30, i_31, i_32, i_39, i_40, i_41, i_42, i_43, i_44, i_45, i_47, i_48, i_49, i_50, i_51, i_52, i_57, i_59, i_60, i_61, i_62, i_63, i_64, i_71, i_72, i_80, i_91, i_93, i_97, i_99, i_100, i_122, i_227, i_228, i_232, i_251, i_255, i_256, i_463, i_999, i_1000, i_1519, i_1600, i_9999, i_100000000, i_2147483639, i_2147483647, neg_nI1, nI_add, pk_mul, nI_remL, pk_sub, pk_div, nI_clamp, nI_leI, nI_ltI, nI_eq, vpT, nI_m1, m1_nI, nI_lem1, m1_le, m1_lt, nI_ltm1, nI_bit, nI_shl, nI_xor, nI_or, n_rem, forall_eq, true_and, and_true, implies_true, true_implies, false_implies, not_true_eq_false, not_false_eq_true, Nat.zero_add, Nat.add_zero, ite_true, ite_false, if_true, if_false, true_or, or_true, false_or, or_false, and_self, and_false, false_and, Nat.reduceEqDiff, reduceIte]
      rw [hl1.2.1]
      simp (disch := omega) only [i_0, i_1, i_2, i_3, i_4, i_5, i_6, i_7, i_8, i_9, i_10, i_11, i_12, i_13, i_16, i_19, i_20, i_21, i_22, i_23, i_24, i_25, i_30, i_31, i_32, i_39, i_40, i_41, i_42, i_43, i_44, i_45, i_47, i_48, i_49, i_50, i_51, i_52, i_57, i_59, i_60, i_61, i_62, i_63, i_64, i_71, i_72, i_80, i_91, i_93, i_97, i_99, i_100, i_122, i_227, i_228, i_232, i_251, i_255, i_256, i_463, i_999, i_1000, i_1519, i_1600, i_9999, i_100000000, i_2147483639, i_2147483647, neg_nI1, nI_add, pk_mul, nI_remL, pk_sub, pk_div, nI_clamp, nI_leI, nI_ltI, nI_eq, vpT, nI_m1, m1_nI, nI_lem1, m1_le, m1_lt, nI_ltm1, nI_bit, nI_shl, nI_xor, nI_or, n_rem, forall_eq, true_and, and_true, implies_true, true_implies, false_implies, not_true_eq_false, not_false_eq_true, Nat.zero_add, Nat.add_zero, ite_true, ite_false, if_true, if_false, true_or, or_true, false_or, or_false, and_self, and_false, false_and, Nat.reduceEqDiff, reduceIte]
      rw [hl1.2.2.2.1 k _ hkv]
      simp only [lgc_eq, enc_lI (hl1.2.2.2.2 _ (List.getElem_mem hkl)) hw]
      refine ⟨fun z => by omega, fun _ => ⟨fun z => ih (k + 1) (by omega) (fun j v hj hv => ?_), fun z => ?_⟩⟩
      · by_cases hjk : j = k
        · subst hjk; rw [hkv] at hv; cases hv; exact z
        · exact hn j v (by omega) hv
      · have hix : ixOf l w = k := by
          unfold ixOf
          rw [List.findIdx_eq hkl]
          refine ⟨by simp [z], fun j hj => ?_⟩
          have := hn j l[j] hj (List.getElem?_eq_getElem (by omega))
          simp [this]
        rw [hix, if_pos hkl] at hpo
        exact ho k f b hpo hkl σ1 hF1 hT1 h38
  exact key l.length 0 (by omega) (fun j v hj => by omega)
