/-! THE SYSTEM: what a state's methods leave as it is -/
def XFr (o : Nat) (σ σ' : FS) : Prop := (∀ o' k, o' ≠ o → fI σ' o' k = fI σ o' k) ∧ (∀ a, a / 100 ≠ o + 90 → fA σ' a = fA σ a) ∧ (∀ a, a ≠ 12 → fB σ' a = fB σ a) ∧ (∀ a, a ≠ rK o → fP σ' a = fP σ a) ∧ fL σ' = fL σ ∧ fR σ' = fR σ
theorem XFr.refl (o : Nat) (σ : FS) : XFr o σ σ := ⟨fun _ _ _ => rfl, fun _ _ => rfl, fun _ _ => rfl, fun _ _ => rfl, rfl, rfl⟩
theorem XFr.trans {o : Nat} {σ σ' σ'' : FS} (h : XFr o σ σ') (g : XFr o σ' σ'') : XFr o σ σ'' :=
  ⟨fun a k z => (g.1 a k z).trans (h.1 a k z), fun a z => (g.2.1 a z).trans (h.2.1 a z), fun a z => (g.2.2.1 a z).trans (h.2.2.1 a z), fun a z => (g.2.2.2.1 a z).trans (h.2.2.2.1 a z), g.2.2.2.2.1.trans h.2.2.2.2.1, g.2.2.2.2.2.trans h.2.2.2.2.2⟩
/-- only the moment's numbers change -/
def XB (σ σ' : FS) : Prop := fI σ' = fI σ ∧ fA σ' = fA σ ∧ (∀ a, a ≠ 12 → fB σ' a = fB σ a) ∧ fP σ' = fP σ ∧ fL σ' = fL σ ∧ fR σ' = fR σ
theorem XB.f {o : Nat} {σ σ' : FS} (h : XB σ σ') : XFr o σ σ' := ⟨fun _ _ _ => by rw [h.1], fun _ _ => by rw [h.2.1], h.2.2.1, fun _ _ => by rw [h.2.2.2.1], h.2.2.2.2.1, h.2.2.2.2.2⟩
theorem XB.trans {σ σ' σ'' : FS} (h : XB σ σ') (g : XB σ' σ'') : XB σ σ'' := ⟨g.1.trans h.1, g.2.1.trans h.2.1, fun a z => (g.2.2.1 a z).trans (h.2.2.1 a z), g.2.2.2.1.trans h.2.2.2.1, g.2.2.2.2.1.trans h.2.2.2.2.1, g.2.2.2.2.2.trans h.2.2.2.2.2⟩
theorem XB.s (σ : FS) (k : Nat) (v : Int64) : XB σ (sB σ 12 k v) := ⟨rfl, rfl, fun a ha => by funext i; rw [fB_sB, if_neg (fun q => ha q.1)], rfl, rfl, rfl⟩
theorem xSt.b {σ σ' : FS} {o : Nat} {P : Pl} {s : St} (h : xSt σ o P s) (g : XB σ σ') : xSt σ' o P s := by
  unfold xSt xRk
  rw [g.1, g.2.1, g.2.2.2.1]
  exact h
theorem xPb.b {ν ν' : XN} {b : Nat} {P : Pl} (h : xPb ν b P) (g : XB ν.1 ν'.1) (e : ν'.2 = ν.2) : xPb ν' b P := by
  unfold xPb
  rw [e, g.2.2.2.2.2]
  exact h
theorem x12 : xft 3 0 = 12 ∧ xok 4 12 ∧ xlen 12 = 9 := by
  refine ⟨rfl, ?_, ?_⟩
  · show (xat 12).1 = 4; rfl
  · show (xat 12).2 = 9; rfl
theorem XB.refl (σ : FS) : XB σ σ := ⟨rfl, rfl, fun _ _ => rfl, rfl, rfl, rfl⟩
/-- nothing but object o, and of it not its field 2 -/
def XGo (o : Nat) (σ σ' : FS) : Prop := XFr o σ σ' ∧ fI σ' o 2 = fI σ o 2
theorem XGo.refl (o : Nat) (σ : FS) : XGo o σ σ := ⟨XFr.refl o σ, rfl⟩
theorem XGo.trans {o : Nat} {σ σ' σ'' : FS} (h : XGo o σ σ') (g : XGo o σ' σ'') : XGo o σ σ'' := ⟨h.1.trans g.1, g.2.trans h.2⟩
theorem XB.g {o : Nat} {σ σ' : FS} (h : XB σ σ') : XGo o σ σ' := ⟨h.f, by rw [h.1]⟩
theorem XGo.sA {o : Nat} (σ : FS) {a : Nat} (k : Nat) (v : Int32) (ha : a / 100 = o + 90) : XGo o σ (sA σ a k v) :=
  ⟨⟨fun _ _ _ => rfl, fun b hb => by funext i; rw [fA_sA, if_neg (fun q => hb (by rw [q.1]; exact ha))], fun _ _ => rfl, fun _ _ => rfl, rfl, rfl⟩, rfl⟩
theorem XGo.sI {o : Nat} (σ : FS) (k : Nat) (v : Int32) (hk : k ≠ 2) : XGo o σ (sI σ o k v) :=
  ⟨⟨fun a b c => by rw [fI_sI, if_neg (fun q => c q.1)], fun _ _ => rfl, fun _ _ => rfl, fun _ _ => rfl, rfl, rfl⟩, by rw [fI_sI, if_neg (fun q => hk q.2.symm)]⟩
theorem fP_sP (σ : FS) (a k v a' k' : Nat) : fP (sP σ a k v) a' k' = if a' = a ∧ k' = k then v else fP σ a' k' := rfl
theorem XGo.sP {o : Nat} (σ : FS) (k v : Nat) : XGo o σ (sP σ (rK o) k v) :=
  ⟨⟨fun _ _ _ => rfl, fun _ _ => rfl, fun _ _ => rfl, fun b hb => by funext i; rw [fP_sP, if_neg (fun q => hb q.1)], rfl, rfl⟩, rfl⟩
theorem xl_asks {ν : XN} {o p t : Nat} {P : Pl} {s : St} {Q : XN → Prop} (h1 : 10 ≤ o) (h2 : o < 36) (hP : plOK P) (hs : xSt ν.1 o P s) (hp : p < nP P) (ht : t < 1000) (hQ : ∀ ν', XB ν.1 ν'.1 → ν'.2 = ν.2 → (∀ sd i, i < 5 → fB ν'.1 12 i = lI (zPt s p t sd i)) → Q ν') : xw_X5_asks o (nI p) (nI t) ν Q := by
  obtain ⟨kh1, kh2, kh3⟩ := xk_h h1 h2
  obtain ⟨ka1, ka2, ka3⟩ := xk_a h1 h2
  obtain ⟨kt1, kt2, kt3⟩ := xk_t h1 h2
  obtain ⟨kk1, kk2, kk3⟩ := xk_k h1 h2
  have h7 := hP.2.2.2.2.1
  have h5 := hP.2.2.2.1
  obtain ⟨c1, c2, c3⟩ := hs.1.2.2.1 p hp
  obtain ⟨a1, a2, a3⟩ := hs.2.2.2.2.1 p hp
  have hh := hs.1.2.1 _ c1
  have hhv := hs.2.2.2.1 _ c1
  have hcl := isC_lt hP c1
  have hk32 : zK s p < 32 := Nat.lt_of_lt_of_le c3 (Nat.le_trans (Nat.pow_le_pow_right (by decide) h5) (by decide))
  have hpc := popc_le _ (show zK s p < 128 by omega)
  have hd := hs.1.1
  unfold xw_X5_asks
  simp only [kt1, ka1, kh1, kk1, x12.1, kt3, ka3, kh3, kk3, x12.2.2, kt2, ka2, kh2, kk2, x12.2.1, xoc_st h1 h2]
  simp (disch := omega) only [i_0, i_1, i_2, i_3, i_4, i_5, i_6, i_7, i_8, i_9, i_10, i_11, i_12, i_13, i_16, i_19, i_20, i_21, i_22, i_23, i_24, i_25, i_30, i_31, i_32, i_39, i_40, i_41, i_42, i_43, i_44, i_45, i_47, i_48, i_49, i_50, i_51, i_52, i_57, i_59, i_60, i_61, i_62, i_63, i_64, i_71, i_72, i_80, i_91, i_93, i_97, i_99, i_100, i_122, i_227, i_228, i_232, i_251, i_255, i_256, i_463, i_999, i_1000, i_1519, i_1600, i_9999, i_100000000, i_2147483639, i_2147483647, neg_nI1, nI_add, pk_mul, nI_remL, pk_sub, pk_div, nI_clamp, nI_leI, nI_ltI, nI_eq, vpT, nI_m1, m1_nI, nI_lem1, m1_le, m1_lt, nI_ltm1, nI_bit, nI_shl, nI_xor, nI_or, n_rem, forall_eq, true_and, and_true, implies_true, true_implies, false_implies, not_true_eq_false, not_false_eq_true, Nat.zero_add, Nat.add_zero, ite_true, ite_false, if_true, if_false, true_or, or_true, false_or, or_false, and_self, and_false, false_and, Nat.reduceEqDiff, reduceIte, fA_sB, fI_sB, a1, a2, a3, hhv, nI_toL, hs.2.1]
  refine xl_bits hk32 ?_
  refine hQ _ ((XB.s _ _ _).trans ((XB.s _ _ _).trans ((XB.s _ _ _).trans ((XB.s _ _ _).trans (XB.s _ _ _))))) rfl ?_
  intro sd i hi
  have hcc : i = 0 ∨ i = 1 ∨ i = 2 ∨ i = 3 ∨ i = 4 := by omega
  rcases hcc with rfl | rfl | rfl | rfl | rfl <;> simp (disch := omega) [fB_sB, zPt, nI_toL, fI_sB, hs.2.1]
theorem xl_has {ν : XN} {a t : Nat} {Q : Int32 → XN → Prop} (ha : a < 2 ^ 31) (ht : t < 32) (hy : a / 2 ^ t % 2 = 1 → Q (nI 1) ν) (hn : ¬ a / 2 ^ t % 2 = 1 → Q (nI 0) ν) : xw_X0_has (nI a) (nI t) ν Q := by
  unfold xw_X0_has
  have : a / 2 ^ t % 2 < 2 := Nat.mod_lt _ (by decide)
  simp (disch := omega) only [i_0, i_1, i_2, i_3, i_4, i_5, i_6, i_7, i_8, i_9, i_10, i_11, i_12, i_13, i_16, i_19, i_20, i_21, i_22, i_23, i_24, i_25, i_30, i_31, i_32, i_39, i_40, i_41, i_42, i_43, i_44, i_45, i_47, i_48, i_49, i_50, i_51, i_52, i_57, i_59, i_60, i_61, i_62, i_63, i_64, i_71, i_72, i_80, i_91, i_93, i_97, i_99, i_100, i_122, i_227, i_228, i_232, i_251, i_255, i_256, i_463, i_999, i_1000, i_1519, i_1600, i_9999, i_100000000, i_2147483639, i_2147483647, neg_nI1, nI_add, pk_mul, nI_remL, pk_sub, pk_div, nI_clamp, nI_leI, nI_ltI, nI_eq, vpT, nI_m1, m1_nI, nI_lem1, m1_le, m1_lt, nI_ltm1, nI_bit, nI_shl, nI_xor, nI_or, n_rem, forall_eq, true_and, and_true, implies_true, true_implies, false_implies, not_true_eq_false, not_false_eq_true, Nat.zero_add, Nat.add_zero, ite_true, ite_false, if_true, if_false, true_or, or_true, false_or, or_false, and_self, and_false, false_and, Nat.reduceEqDiff, reduceIte]
  exact ⟨hn, hy⟩
/-- a formula of the plain: what it tells, out of the moment's numbers -/
def xOV (VA : Nat → Nat → XN → (Int64 → XN → Prop) → Prop) (ρ : RS) (b k : Nat) (o : Option (List Nat)) (al : Nat → Bool) : Prop := (o = none ∧ rO ρ b k = none) ∨ ∃ cs a, o = some cs ∧ rO ρ b k = some a ∧ ∀ (ν : XN) (pt : Nat → Int) (Q : Int64 → XN → Prop), ν.2 = ρ → (∀ i, i < 9 → al i = true → fB ν.1 12 i = lI (pt i) ∧ -1000000 ≤ pt i ∧ pt i ≤ 1000000) → Q (lI (evV pt lk0 cs)) ν → VA a 3 ν Q
def xOT (TA : Nat → Nat → XN → (Int32 → XN → Prop) → Prop) (ρ : RS) (b k : Nat) (o : Option (List Nat)) (al : Nat → Bool) : Prop := (o = none ∧ rO ρ b k = none) ∨ ∃ cs a, o = some cs ∧ rO ρ b k = some a ∧ ∀ (ν : XN) (pt : Nat → Int) (Q : Int32 → XN → Prop), ν.2 = ρ → (∀ i, i < 9 → al i = true → fB ν.1 12 i = lI (pt i) ∧ -1000000 ≤ pt i ∧ pt i ≤ 1000000) → Q (nI (if evV pt lk0 cs = 1 then 1 else 0)) ν → TA a 3 ν Q
def xAk (ρ : RS) (b : Nat) (P : Pl) : Prop := ∃ l as, rO ρ b 7 = some l ∧ LRep ρ l as ∧ as.length = (plL P).length ∧ ∀ (k : Nat) q, (plL P)[k]? = some q → ∃ a, as[k]? = some a ∧ rc ρ a = 10 ∧ rI ρ a 0 = nI q.1 ∧ rI ρ a 1 = nI q.2
/-- what a state's methods need of the plain -/
def xCx (VA : Nat → Nat → XN → (Int64 → XN → Prop) → Prop) (TA : Nat → Nat → XN → (Int32 → XN → Prop) → Prop) (ν : XN) (b : Nat) (P : Pl) : Prop := xPb ν b P ∧ plOK P ∧ (xOV VA ν.2 b 8 (plF P) al1 ∧ xOV VA ν.2 b 9 (plG P) al0 ∧ xOT TA ν.2 b 10 (plH P) al0) ∧ xAk ν.2 b P
theorem xPb.e {ν ν' : XN} {b : Nat} {P : Pl} (h : xPb ν b P) (e1 : fR ν'.1 = fR ν.1) (e2 : ν'.2 = ν.2) : xPb ν' b P := by
  unfold xPb
  rw [e1, e2]
  exact h
theorem xCx.e {VA : Nat → Nat → XN → (Int64 → XN → Prop) → Prop} {TA : Nat → Nat → XN → (Int32 → XN → Prop) → Prop} {ν ν' : XN} {b : Nat} {P : Pl} (h : xCx VA TA ν b P) (e1 : fR ν'.1 = fR ν.1) (e2 : ν'.2 = ν.2) : xCx VA TA ν' b P := by
  refine ⟨h.1.e e1 e2, h.2.1, ?_⟩
  rw [e2]
  exact h.2.2
theorem XGo.r {o : Nat} {σ σ' : FS} (h : XGo o σ σ') : fR σ' = fR σ := h.1.2.2.2.2.2
theorem xl_would {VA : Nat → Nat → XN → (Int64 → XN → Prop) → Prop} {TA : Nat → Nat → XN → (Int32 → XN → Prop) → Prop} {ν : XN} {o p t b sil : Nat} {P : Pl} {s : St} {Q : Int32 → XN → Prop} (h1 : 10 ≤ o) (h2 : o < 36) (hC : xCx VA TA ν b P) (hs : xSt ν.1 o P s) (hsi : fI ν.1 o 2 = nI sil) (hsl : sil < 128) (hp : p < nP P) (ht : t < nT P) (hQ : ∀ ν', XB ν.1 ν'.1 → ν'.2 = ν.2 → Q (nI (zWo P sil s p t)) ν') : xw_X5_would VA TA o (nI p) (nI t) ν Q := by
  have hP := hC.2.1
  obtain ⟨kk1, kk2, kk3⟩ := xk_k h1 h2
  have h7 := hP.2.2.2.2.1
  have h5 := hP.2.2.2.1
  obtain ⟨c1, c2, c3⟩ := hs.1.2.2.1 p hp
  obtain ⟨a1, a2, a3⟩ := hs.2.2.2.2.1 p hp
  have hk32 : zK s p < 32 := Nat.lt_of_lt_of_le c3 (Nat.le_trans (Nat.pow_le_pow_right (by decide) h5) (by decide))
  unfold xw_X5_would
  simp only [kk1, kk2, kk3, xoc_st h1 h2]
  simp (disch := omega) only [i_0, i_1, i_2, i_3, i_4, i_5, i_6, i_7, i_8, i_9, i_10, i_11, i_12, i_13, i_16, i_19, i_20, i_21, i_22, i_23, i_24, i_25, i_30, i_31, i_32, i_39, i_40, i_41, i_42, i_43, i_44, i_45, i_47, i_48, i_49, i_50, i_51, i_52, i_57, i_59, i_60, i_61, i_62, i_63, i_64, i_71, i_72, i_80, i_91, i_93, i_97, i_99, i_100, i_122, i_227, i_228, i_232, i_251, i_255, i_256, i_463, i_999, i_1000, i_1519, i_1600, i_9999, i_100000000, i_2147483639, i_2147483647, neg_nI1, nI_add, pk_mul, nI_remL, pk_sub, pk_div, nI_clamp, nI_leI, nI_ltI, nI_eq, vpT, nI_m1, m1_nI, nI_lem1, m1_le, m1_lt, nI_ltm1, nI_bit, nI_shl, nI_xor, nI_or, n_rem, forall_eq, true_and, and_true, implies_true, true_implies, false_implies, not_true_eq_false, not_false_eq_true, Nat.zero_add, Nat.add_zero, ite_true, ite_false, if_true, if_false, true_or, or_true, false_or, or_false, and_self, and_false, false_and, Nat.reduceEqDiff, reduceIte, a3]
  refine xl_has (by omega) (by omega) (fun z => ⟨fun _ => ?_, fun q => absurd q (by decide)⟩) (fun z => ⟨fun q => absurd rfl q, fun _ => ?_⟩)
  · have h9 := hQ ν (XB.refl _) rfl
    have hz : zWo P sil s p t = 0 := by unfold zWo; rw [if_pos (Or.inl z)]
    rw [hz] at h9
    exact h9
  · rw [hsi]
    refine xl_has (by omega) (by omega) (fun z2 => ⟨fun q => absurd q (by decide), fun _ => ?_⟩) (fun z2 => ⟨fun _ => ?_, fun q => absurd rfl q⟩)
    · have h9 := hQ ν (XB.refl _) rfl
      have hz : zWo P sil s p t = 0 := by unfold zWo; rw [if_pos (Or.inr z2)]
      rw [hz] at h9
      exact h9
    · refine xl_asks h1 h2 hP hs hp (by omega) (fun ν' hB e hv => ?_)
      have hb := hC.1.b hB e
      have h9 := hQ ν' hB e
      unfold zWo at h9
      rw [if_neg (by rw [not_or]; exact ⟨z, z2⟩)] at h9
      refine ⟨b, hb.1, hb.2.1, ?_⟩
      rcases hC.2.2.1.2.2 with ⟨x1, x2⟩ | ⟨cs, a, x1, x2, x3⟩
      · rw [x1] at h9
        rw [e, x2]
        exact ⟨fun _ => h9, fun b12 q => by cases q⟩
      · rw [x1] at h9
        rw [e, x2]
        refine ⟨fun q => (by cases q), fun b12 q => ⟨b, hb.1, e ▸ hb.2.1, a, x2, ?_⟩⟩
        refine x3 ν' (zPt s p t 0) _ e (fun i hi ha => ⟨hv 0 i (by simp [al0] at ha; omega), zPt_in hP hs.1 hp (by omega) (by decide) i hi⟩) ?_
        simp only [] at h9
        by_cases z3 : evV (zPt s p t 0) lk0 cs = 1
        · rw [if_pos z3] at h9 ⊢
          exact ⟨fun q => absurd q (by decide), fun _ => h9⟩
        · rw [if_neg z3] at h9 ⊢
          exact ⟨fun _ => h9, fun q => absurd rfl q⟩
theorem xl_cut {ν : XN} {v : Int} {Q : Int32 → XN → Prop} (h1 : -1000000000000 ≤ v) (h2 : v ≤ 1000000000000) (hQ : Q (nI (cut9 v)) ν) : xw_J12_min_2 (9 : Int64) (lI v) ν (fun r22 ν21 => (xw_J12_max_2 (0 : Int64) r22 ν21 (fun r24 ν23 => Q (Int64.toInt32 r24) ν23))) := by
  unfold xw_J12_min_2 xw_J12_max_2
  simp (disch := omega) only [i_0, i_1, i_2, i_3, i_4, i_5, i_6, i_7, i_8, i_9, i_10, i_11, i_12, i_13, i_16, i_19, i_20, i_21, i_22, i_23, i_24, i_25, i_30, i_31, i_32, i_39, i_40, i_41, i_42, i_43, i_44, i_45, i_47, i_48, i_49, i_50, i_51, i_52, i_57, i_59, i_60, i_61, i_62, i_63, i_64, i_71, i_72, i_80, i_91, i_93, i_97, i_99, i_100, i_122, i_227, i_228, i_232, i_251, i_255, i_256, i_463, i_999, i_1000, i_1519, i_1600, i_9999, i_100000000, i_2147483639, i_2147483647, neg_nI1, nI_add, pk_mul, nI_remL, pk_sub, pk_div, nI_clamp, nI_leI, nI_ltI, nI_eq, vpT, nI_m1, m1_nI, nI_lem1, m1_le, m1_lt, nI_ltm1, nI_bit, nI_shl, nI_xor, nI_or, n_rem, l_0, l_1, l_9, l_27, l_64, l_12345, l_1000000, l_1103515245, l_2147483648, l_1000000000000000, lI_neg, lI_add, lI_sub, lI_mul, lgc_le, lgc_ge, lgc_eq, lgc_lt, lgc_gt, nI_toL, lI_toI, lI_le, lI_lt, lI_eq]
  have go : ∀ z : Int, 0 ≤ z → z ≤ 9 → z.toNat = cut9 v → Q ((lI z).toInt32) ν := by
    intro z z1 z2 z3
    rw [lI_toI z1 (by omega), z3]; exact hQ
  refine ⟨fun c => ⟨fun c2 => go v (by omega) (by omega) ?_, fun c2 => go 0 (by omega) (by omega) ?_⟩, fun c => ⟨fun c2 => go 9 (by omega) (by omega) ?_, fun c2 => absurd (show (0 : Int) < 9 by omega) c2⟩⟩ <;> unfold cut9 <;> (repeat' split) <;> omega
theorem xl_times {VA : Nat → Nat → XN → (Int64 → XN → Prop) → Prop} {TA : Nat → Nat → XN → (Int32 → XN → Prop) → Prop} {ν : XN} {o p t b c : Nat} {P : Pl} {s : St} {Q : Int32 → XN → Prop} (h1 : 10 ≤ o) (h2 : o < 36) (hC : xCx VA TA ν b P) (hs : xSt ν.1 o P s) (hp : p < nP P) (ht : t < nT P) (hc : isC P c) (hQ : ∀ ν', XB ν.1 ν'.1 → ν'.2 = ν.2 → Q (nI (zTm P s p t (zH s c))) ν') : xw_X5_times VA TA o (nI p) (nI t) (nI c) ν Q := by
  have hP := hC.2.1
  obtain ⟨kh1, kh2, kh3⟩ := xk_h h1 h2
  have h7 := hP.2.2.2.2.1
  have h5 := hP.2.2.2.1
  have hh := hs.1.2.1 _ hc
  have hcl := isC_lt hP hc
  have hb := hC.1
  unfold zTm at hQ
  unfold xw_X5_times
  refine ⟨xoc_st h1 h2, b, hb.1, hb.2.1, ?_⟩
  rcases hC.2.2.1.1 with ⟨x1, x2⟩ | ⟨cs, a, x1, x2, x3⟩
  · rw [x1] at hQ
    rw [x2]
    exact ⟨fun _ => hQ ν (XB.refl _) rfl, fun b12 q => by cases q⟩
  · rw [x1] at hQ
    rw [x2]
    refine ⟨fun q => (by cases q), fun b12 q => ?_⟩
    refine xl_asks h1 h2 hP hs hp (by omega) (fun ν' hB e hv => ?_)
    have hs' := hs.b hB
    have hb' := hb.b hB e
    have hhv := hs'.2.2.2.1 _ hc
    simp only [kh1, kh2, kh3, x12.1, x12.2.1, x12.2.2]
    simp (disch := omega) only [i_0, i_1, i_2, i_3, i_4, i_5, i_6, i_7, i_8, i_9, i_10, i_11, i_12, i_13, i_16, i_19, i_20, i_21, i_22, i_23, i_24, i_25, i_30, i_31, i_32, i_39, i_40, i_41, i_42, i_43, i_44, i_45, i_47, i_48, i_49, i_50, i_51, i_52, i_57, i_59, i_60, i_61, i_62, i_63, i_64, i_71, i_72, i_80, i_91, i_93, i_97, i_99, i_100, i_122, i_227, i_228, i_232, i_251, i_255, i_256, i_463, i_999, i_1000, i_1519, i_1600, i_9999, i_100000000, i_2147483639, i_2147483647, neg_nI1, nI_add, pk_mul, nI_remL, pk_sub, pk_div, nI_clamp, nI_leI, nI_ltI, nI_eq, vpT, nI_m1, m1_nI, nI_lem1, m1_le, m1_lt, nI_ltm1, nI_bit, nI_shl, nI_xor, nI_or, n_rem, forall_eq, true_and, and_true, implies_true, true_implies, false_implies, not_true_eq_false, not_false_eq_true, Nat.zero_add, Nat.add_zero, ite_true, ite_false, if_true, if_false, true_or, or_true, false_or, or_false, and_self, and_false, false_and, Nat.reduceEqDiff, reduceIte, hhv, nI_toL]
    refine ⟨b, hb'.1, hb'.2.1, a, by rw [e]; exact x2, ?_⟩
    refine x3 _ (zPt s p t (zH s c)) _ e (fun i hi ha => ⟨?_, zPt_in hP hs.1 hp (by omega) (by omega) i hi⟩) ?_
    · simp [al1] at ha
      show fB (sB ν'.1 12 5 (lI (zH s c))) 12 i = _
      rw [fB_sB]
      by_cases q5 : i = 5
      · rw [if_pos ⟨rfl, q5⟩, q5]; rfl
      · rw [if_neg (fun q => q5 q.2)]; exact hv _ i (by omega)
    · have hty := (hP.2.2.2.2.2.2.2.1 cs x1).1
      have hv := evV_in hP hs.1 hp (show t < 1000 by omega) (show zH s c < 1000 by omega) hty
      exact xl_cut (by omega) (by omega) (hQ _ (hB.trans (XB.s _ _ _)) e)
