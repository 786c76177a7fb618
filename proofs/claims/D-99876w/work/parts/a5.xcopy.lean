/-! THE SYSTEM: a state is copied -/
theorem le_no (a : Nat) {k : Nat} {x : Int32} (hx : x = nI a) (ha : a < 2 ^ 31) (hk : k < a) : ¬ x ≤ nI k := by rw [hx, nI_leI ha (by omega)]; omega
/-- nothing but these arrays change -/
def XA (p : Nat → Prop) (σ σ' : FS) : Prop := fI σ' = fI σ ∧ fP σ' = fP σ ∧ (∀ a, ¬ p a → fA σ' a = fA σ a) ∧ fB σ' = fB σ ∧ fL σ' = fL σ ∧ fR σ' = fR σ
theorem XA.refl (p : Nat → Prop) (σ : FS) : XA p σ σ := ⟨rfl, rfl, fun _ _ => rfl, rfl, rfl, rfl⟩
theorem XA.trans {p : Nat → Prop} {σ σ' σ'' : FS} (h : XA p σ σ') (g : XA p σ' σ'') : XA p σ σ'' := ⟨g.1.trans h.1, g.2.1.trans h.2.1, fun a z => (g.2.2.1 a z).trans (h.2.2.1 a z), g.2.2.2.1.trans h.2.2.2.1, g.2.2.2.2.1.trans h.2.2.2.2.1, g.2.2.2.2.2.trans h.2.2.2.2.2⟩
theorem XA.wide {p q : Nat → Prop} {σ σ' : FS} (h : XA p σ σ') (hpq : ∀ a, p a → q a) : XA q σ σ' := ⟨h.1, h.2.1, fun a z => h.2.2.1 a (fun w => z (hpq a w)), h.2.2.2⟩
theorem XA.sA {p : Nat → Prop} (σ : FS) {a : Nat} (k : Nat) (v : Int32) (ha : p a) : XA p σ (sA σ a k v) := ⟨rfl, rfl, fun b hb => by funext i; rw [fA_sA, if_neg (fun q => hb (by rw [q.1]; exact ha))], rfl, rfl, rfl⟩
theorem XA.g {p : Nat → Prop} {o : Nat} {σ σ' : FS} (h : XA p σ σ') (hp : ∀ a, p a → a / 100 = o + 90) : XGo o σ σ' := ⟨⟨fun _ _ _ => by rw [h.1], fun a z => h.2.2.1 a (fun w => z (hp a w)), fun _ _ => by rw [h.2.2.2.1], fun _ _ => by rw [h.2.1], h.2.2.2.2.1, h.2.2.2.2.2⟩, by rw [h.1]⟩
theorem XA.rk {p : Nat → Prop} {o : Nat} {σ σ' : FS} (h : XA p σ σ') (hr : xRk σ o) : xRk σ' o := by unfold xRk; rw [h.2.1]; exact hr
def isRow (σ : FS) (o : Nat) (a : Nat) : Prop := ∃ i, i < 40 ∧ a = fP σ (rK o) i
theorem xl_copy109 {ν : XN} {o o1 k : Nat} {X : Nat → Nat → Int32 → XN → Prop} {Q : Nat → XN → Prop} (h1 : 10 ≤ o) (h2 : o < 36) (g1 : 10 ≤ o1) (g2 : o1 < 36) (hne : o ≠ o1) (hr : xRk ν.1 o) (hr1 : xRk ν.1 o1) (hk : k < 40) (hQ : ∀ ν', XA (isRow ν.1 o) ν.1 ν'.1 → ν'.2 = ν.2 → (∀ j, j < 4 → fA ν'.1 (fP ν.1 (rK o) k) j = fA ν.1 (fP ν.1 (rK o1) k) j) → (∀ i, i < 40 → i ≠ k → fA ν'.1 (fP ν.1 (rK o) i) = fA ν.1 (fP ν.1 (rK o) i)) → X o o1 (nI (k + 1)) ν') : xw_X5_copy_109 X o o1 (nI k) (nI 0) ν Q := by
  obtain ⟨kr1, kr2, kr3⟩ := xk_r h1 h2
  obtain ⟨ks1, ks2, ks3⟩ := xk_r g1 g2
  have hd : fP ν.1 (rK o1) k ≠ fP ν.1 (rK o) k := fun q => by
    have a1 := (hr.ne hk).2.2.2.2
    have a2 := (hr1.ne hk).2.2.2.2
    rw [q] at a2; omega
  unfold xw_X5_copy_109
  intro Y hY
  have key : ∀ n j (ν2 : XN), 4 - j = n → j ≤ 4 → XA (isRow ν.1 o) ν.1 ν2.1 → ν2.2 = ν.2 → (∀ i, i < j → fA ν2.1 (fP ν.1 (rK o) k) i = fA ν.1 (fP ν.1 (rK o1) k) i) → (∀ a, a ≠ fP ν.1 (rK o) k → fA ν2.1 a = fA ν.1 a) → Y o o1 (nI k) (nI j) ν2 := by
    intro n
    induction n with
    | zero =>
      intro j ν2 hn hj hA e hv ho
      refine hY _ _ _ _ _ ⟨fun _ => ?_, fun q => absurd ((nI_leI (by omega) (by omega)).mpr (by omega) : nI 4 ≤ nI j) q⟩
      rw [nI_1]
      refine hQ ν2 hA e (fun i hi => hv i (by omega)) (fun i hi hik => ho _ (fun q => hik (hr.2 _ _ hi hk q)))
    | succ n ih =>
      intro j ν2 hn hj hA e hv ho
      refine hY _ _ _ _ _ ⟨fun q => absurd q (le_no 4 rfl (by decide) (by omega)), fun _ => ?_⟩
      obtain ⟨r1, r2⟩ := hr.ok h1 h2 hk
      obtain ⟨r3, r4⟩ := hr1.ok g1 g2 hk
      have ho1 := ho _ hd
      simp only [kr1, kr2, kr3, ks1, ks2, ks3, xoc_st h1 h2, xoc_st g1 g2, hA.2.1]
      simp (disch := omega) only [i_0, i_1, i_2, i_3, i_4, i_5, i_6, i_7, i_8, i_9, i_10, i_11, i_12, i_13, i_16, i_19, i_20, i_21, i_22, i_23, i_24, i_25, i_30, i_31, i_32, i_39, i_40, i_41, i_42, i_43, i_44, i_45, i_47, i_48, i_49, i_50, i_51, i_52, i_57, i_59, i_60, i_61, i_62, i_63, i_64, i_71, i_72, i_80, i_91, i_93, i_97, i_99, i_100, i_122, i_227, i_228, i_232, i_251, i_255, i_256, i_463, i_999, i_1000, i_1519, i_1600, i_9999, i_100000000, i_2147483639, i_2147483647, neg_nI1, nI_add, pk_mul, nI_remL, pk_sub, pk_div, nI_clamp, nI_leI, nI_ltI, nI_eq, vpT, nI_m1, m1_nI, nI_lem1, m1_le, m1_lt, nI_ltm1, nI_bit, nI_shl, nI_xor, nI_or, n_rem, forall_eq, true_and, and_true, implies_true, true_implies, false_implies, not_true_eq_false, not_false_eq_true, Nat.zero_add, Nat.add_zero, ite_true, ite_false, if_true, if_false, true_or, or_true, false_or, or_false, and_self, and_false, false_and, Nat.reduceEqDiff, reduceIte, r1, r2, r3, r4, ho1]
      refine ih (j + 1) _ (by omega) (by omega) (hA.trans (XA.sA _ _ _ ⟨k, hk, rfl⟩)) e (fun i hi => ?_) (fun a ha => ?_)
      · rw [fA_sA]
        by_cases z : i = j
        · rw [if_pos ⟨rfl, z⟩, z]
        · rw [if_neg (fun q => z q.2)]; exact hv i (by omega)
      · show fA (sA _ _ _ _) a = _
        funext i
        rw [fA_sA, if_neg (fun q => ha q.1), ho a ha]
  exact key 4 0 ν rfl (by decide) (XA.refl _ _) rfl (fun i hi => by omega) (fun a _ => rfl)
theorem xl_copy99 {ν : XN} {o o1 n : Nat} {Q : Nat → XN → Prop} (h1 : 10 ≤ o) (h2 : o < 36) (g1 : 10 ≤ o1) (g2 : o1 < 36) (hne : o ≠ o1) (hr : xRk ν.1 o) (hr1 : xRk ν.1 o1) (hn : fI ν.1 o 1 = nI n) (hn4 : n ≤ 40) (hQ : ∀ ν', XA (isRow ν.1 o) ν.1 ν'.1 → ν'.2 = ν.2 → (∀ k j, k < n → j < 4 → fA ν'.1 (fP ν.1 (rK o) k) j = fA ν.1 (fP ν.1 (rK o1) k) j) → Q o ν') : xw_X5_copy_99 o o1 (nI 0) ν Q := by
  unfold xw_X5_copy_99
  intro X hX
  have key : ∀ m k (ν2 : XN), n - k = m → k ≤ n → XA (isRow ν.1 o) ν.1 ν2.1 → ν2.2 = ν.2 → (∀ i j, i < k → j < 4 → fA ν2.1 (fP ν.1 (rK o) i) j = fA ν.1 (fP ν.1 (rK o1) i) j) → X o o1 (nI k) ν2 := by
    intro m
    induction m with
    | zero =>
      intro k ν2 hm hk hA e hv
      refine hX _ _ _ _ ⟨xoc_st h1 h2, fun _ => hQ ν2 hA e (fun i j hi hj => hv i j (by omega) hj), fun q => absurd ?_ q⟩
      rw [hA.1, hn, nI_leI (by omega) (by omega)]; omega
    | succ m ih =>
      intro k ν2 hm hk hA e hv
      refine hX _ _ _ _ ⟨xoc_st h1 h2, fun q => ?_, fun _ => ?_⟩
      · rw [hA.1, hn, nI_leI (by omega) (by omega)] at q; omega
      · refine xl_copy109 h1 h2 g1 g2 hne (hA.rk hr) (hA.rk hr1) (by omega) (fun ν3 hA3 e3 hv3 ho3 => ?_)
        rw [hA.2.1] at hv3 ho3
        have hA3' : XA (isRow ν.1 o) ν2.1 ν3.1 := hA3.wide (fun a ha => by obtain ⟨i, i1, i2⟩ := ha; exact ⟨i, i1, by rw [← hA.2.1]; exact i2⟩)
        refine ih (k + 1) ν3 (by omega) (by omega) (hA.trans hA3') (e3.trans e) (fun i j hi hj => ?_)
        by_cases z : i = k
        · subst z
          rw [hv3 j hj, hA.2.2.1 _ (fun w => ?_)]
          obtain ⟨i', i1, i2⟩ := w
          have a1 := (hr.ne i1).2.2.2.2
          have a2 := (hr1.ne (show i < 40 by omega)).2.2.2.2
          rw [i2] at a2; omega
        · rw [ho3 i (by omega) z]; exact hv i j (by omega) hj
  exact key n 0 ν rfl (by omega) (XA.refl _ _) rfl (fun i j hi => by omega)
theorem xl_copy {ν : XN} {o o1 : Nat} {P : Pl} {s : St} {Q : Nat → XN → Prop} (h1 : 10 ≤ o) (h2 : o < 36) (g1 : 10 ≤ o1) (g2 : o1 < 36) (hne : o ≠ o1) (hs : xSt ν.1 o1 P s) (hr : xRk ν.1 o) (hcl : ∀ c, isC P c → c < 64) (h7 : nP P ≤ 7)
    (hQ : ∀ ν', XFr o ν.1 ν'.1 → ν'.2 = ν.2 → fB ν'.1 = fB ν.1 → fP ν'.1 = fP ν.1 → xSt ν'.1 o P s → fI ν'.1 o 2 = nI 0 → Q o ν') : xw_X5_copy o o1 ν Q := by
  obtain ⟨kh1, kh2, kh3⟩ := xk_h h1 h2
  obtain ⟨ka1, ka2, ka3⟩ := xk_a h1 h2
  obtain ⟨kt1, kt2, kt3⟩ := xk_t h1 h2
  obtain ⟨kk1, kk2, kk3⟩ := xk_k h1 h2
  obtain ⟨jh1, jh2, jh3⟩ := xk_h g1 g2
  obtain ⟨ja1, ja2, ja3⟩ := xk_a g1 g2
  obtain ⟨jt1, jt2, jt3⟩ := xk_t g1 g2
  obtain ⟨jk1, jk2, jk3⟩ := xk_k g1 g2
  obtain ⟨s1, s2, s3, s4, s5, s6, s7⟩ := hs
  have e1 : ∀ x y : Nat, x / 100 = o + 90 → y / 100 = o1 + 90 → y ≠ x := fun x y hx hy q => by rw [q] at hy; omega
  unfold xw_X5_copy
  simp only [xoc_st h1 h2, xoc_st g1 g2]
  simp (disch := omega) only [i_0, i_1, i_2, i_3, i_4, i_5, i_6, i_7, i_8, i_9, i_10, i_11, i_12, i_13, i_16, i_19, i_20, i_21, i_22, i_23, i_24, i_25, i_30, i_31, i_32, i_39, i_40, i_41, i_42, i_43, i_44, i_45, i_47, i_48, i_49, i_50, i_51, i_52, i_57, i_59, i_60, i_61, i_62, i_63, i_64, i_71, i_72, i_80, i_91, i_93, i_97, i_99, i_100, i_122, i_227, i_228, i_232, i_251, i_255, i_256, i_463, i_999, i_1000, i_1519, i_1600, i_9999, i_100000000, i_2147483639, i_2147483647, neg_nI1, nI_add, pk_mul, nI_remL, pk_sub, pk_div, nI_clamp, nI_leI, nI_ltI, nI_eq, vpT, nI_m1, m1_nI, nI_lem1, m1_le, m1_lt, nI_ltm1, nI_bit, nI_shl, nI_xor, nI_or, n_rem, forall_eq, true_and, and_true, implies_true, true_implies, false_implies, not_true_eq_false, not_false_eq_true, Nat.zero_add, Nat.add_zero, ite_true, ite_false, if_true, if_false, true_or, or_true, false_or, or_false, and_self, and_false, false_and, Nat.reduceEqDiff, reduceIte]
  have i0 : (sI ν.1 o 0 (fI ν.1 o1 0), ν.2).1 = sI ν.1 o 0 (fI ν.1 o1 0) := rfl
  have q1 : fI (sI ν.1 o 0 (fI ν.1 o1 0)) o1 1 = nI (zE s).length := by rw [fI_sI, if_neg (by omega)]; exact s3
  rw [q1, s2]
  -- the three fields are set
  have hF0 : XFr o ν.1 (sI (sI (sI ν.1 o 0 (nI (zD s))) o 1 (nI (zE s).length)) o 2 (nI 0)) := by
    refine ⟨fun a b c => ?_, fun _ _ => rfl, fun _ _ => rfl, fun _ _ => rfl, rfl, rfl⟩
    rw [fI_sI, if_neg (fun q => c q.1), fI_sI, if_neg (fun q => c q.1), fI_sI, if_neg (fun q => c q.1)]
  have v0 : fI (sI (sI (sI ν.1 o 0 (nI (zD s))) o 1 (nI (zE s).length)) o 2 (nI 0)) o 0 = nI (zD s) := by
    rw [fI_sI, if_neg (by omega), fI_sI, if_neg (by omega), fI_sI, if_pos ⟨rfl, rfl⟩]
  have v1 : fI (sI (sI (sI ν.1 o 0 (nI (zD s))) o 1 (nI (zE s).length)) o 2 (nI 0)) o 1 = nI (zE s).length := by
    rw [fI_sI, if_neg (by omega), fI_sI, if_pos ⟨rfl, rfl⟩]
  have v2 : fI (sI (sI (sI ν.1 o 0 (nI (zD s))) o 1 (nI (zE s).length)) o 2 (nI 0)) o 2 = nI 0 := by
    rw [fI_sI, if_pos ⟨rfl, rfl⟩]
  have vA : fA (sI (sI (sI ν.1 o 0 (nI (zD s))) o 1 (nI (zE s).length)) o 2 (nI 0)) = fA ν.1 := rfl
  have vP : fP (sI (sI (sI ν.1 o 0 (nI (zD s))) o 1 (nI (zE s).length)) o 2 (nI 0)) = fP ν.1 := rfl
  have vB : fB (sI (sI (sI ν.1 o 0 (nI (zD s))) o 1 (nI (zE s).length)) o 2 (nI 0)) = fB ν.1 := rfl
  generalize sI (sI (sI ν.1 o 0 (nI (zD s))) o 1 (nI (zE s).length)) o 2 (nI 0) = σ0 at *
  clear i0 q1
  -- people
  have hp49 : ∀ (ν2 : XN), XA (fun a => a = hK o) σ0 ν2.1 → ν2.2 = ν.2 → (∀ i, i < 64 → fA ν2.1 (hK o) i = fA ν.1 (hK o1) i) → xw_X5_copy_49 o o1 (nI 0) ν2 Q := by
    intro ν2 hA2 e2 hv2
    unfold xw_X5_copy_49
    intro X hX
    have key : ∀ m k (ν3 : XN), 7 - k = m → k ≤ 7 → XA (fun a => a = aK o ∨ a = tK' o ∨ a = kK o) ν2.1 ν3.1 → ν3.2 = ν.2 → (∀ i, i < k → fA ν3.1 (aK o) i = fA ν.1 (aK o1) i ∧ fA ν3.1 (tK' o) i = fA ν.1 (tK' o1) i ∧ fA ν3.1 (kK o) i = fA ν.1 (kK o1) i) → X o o1 (nI k) ν3 := by
      intro m
      induction m with
      | zero =>
        intro k ν3 hm hk hA3 e3 hv3
        refine hX _ _ _ _ ⟨fun _ => ?_, fun q => absurd ((nI_leI (by omega) (by omega)).mpr (by omega) : nI 7 ≤ nI k) q⟩
        have eI3 : fI ν3.1 = fI σ0 := hA3.1.trans hA2.1
        have eP3 : fP ν3.1 = fP ν.1 := (hA3.2.1.trans hA2.2.1).trans vP
        have hr3 : xRk ν3.1 o := by unfold xRk; rw [eP3]; exact hr
        have hr13 : xRk ν3.1 o1 := by unfold xRk; rw [eP3]; exact s6
        refine xl_copy99 (n := (zE s).length) h1 h2 g1 g2 hne hr3 hr13 (by rw [eI3]; exact v1) s1.2.2.2 (fun ν4 hA4 e4 hv4 => ?_)
        rw [eP3] at hv4
        have eI4 : fI ν4.1 = fI σ0 := hA4.1.trans eI3
        have eP4 : fP ν4.1 = fP ν.1 := hA4.2.1.trans eP3
        have hn4 : ∀ a, (a = hK o ∨ a = aK o ∨ a = tK' o ∨ a = kK o) → fA ν4.1 a = fA ν3.1 a := by
          intro a ha
          refine hA4.2.2.1 a (fun w => ?_)
          obtain ⟨i, i1, i2⟩ := w
          have := hr3.ne i1
          rw [← i2] at this
          rcases ha with rfl | rfl | rfl | rfl
          · exact this.1 rfl
          · exact this.2.1 rfl
          · exact this.2.2.1 rfl
          · exact this.2.2.2.1 rfl
        have hf : XFr o ν.1 ν4.1 := hF0.trans ((hA2.g (o := o) (fun a ha => by rw [ha]; exact (@kdiv o).1)).1.trans ((hA3.g (o := o) (fun a ha => by rcases ha with rfl | rfl | rfl; exact (@kdiv o).2.1; exact (@kdiv o).2.2.1; exact (@kdiv o).2.2.2)).1.trans (hA4.g (o := o) (fun a ha => by obtain ⟨i, i1, i2⟩ := ha; rw [i2]; exact (hr3.ne i1).2.2.2.2)).1))
        refine hQ ν4 hf (e4.trans e3) ?_ eP4 ⟨s1, by rw [eI4]; exact v0, by rw [eI4]; exact v1, fun c hc => ?_, fun p hp => ?_, by unfold xRk; rw [eP4]; exact hr, fun k' r hk' => ?_⟩ (by rw [eI4]; exact v2)
        · rw [hA4.2.2.2.1, hA3.2.2.2.1, hA2.2.2.2.1, vB]
        · rw [hn4 _ (Or.inl rfl), hA3.2.2.1 _ (fun w => by rcases w with w | w | w; exact (@kne o).1 w; exact (@kne o).2.1 w; exact (@kne o).2.2.1 w), hv2 c (hcl c hc)]; exact s4 c hc
        · rw [hn4 _ (Or.inr (Or.inl rfl)), hn4 _ (Or.inr (Or.inr (Or.inl rfl))), hn4 _ (Or.inr (Or.inr (Or.inr rfl)))]
          obtain ⟨w1, w2, w3⟩ := hv3 p (by omega)
          rw [w1, w2, w3]; exact s5 p hp
        · have hk4 : k' < (zE s).length := (List.getElem?_eq_some_iff.mp hk').1
          have hl4 := s1.2.2.2
          have hrow : ∀ j, j < 4 → fA ν4.1 (fP ν4.1 (rK o) k') j = fA ν.1 (fP ν.1 (rK o1) k') j := by
            intro j hj
            rw [eP4, hv4 k' j hk4 hj]
            have d1 := (s6.ne (show k' < 40 by omega)).2.2.2.2
            rw [hA3.2.2.1 _ (fun w => ?_), hA2.2.2.1 _ (fun w => e1 _ _ (@kdiv o).1 d1 w), vA]
            rcases w with w | w | w
            · exact e1 _ _ (@kdiv o).2.1 d1 w
            · exact e1 _ _ (@kdiv o).2.2.1 d1 w
            · exact e1 _ _ (@kdiv o).2.2.2 d1 w
          rw [hrow 0 (by decide), hrow 1 (by decide), hrow 2 (by decide), hrow 3 (by decide)]
          exact s7 k' r hk'
      | succ m ih =>
        intro k ν3 hm hk hA3 e3 hv3
        refine hX _ _ _ _ ⟨fun q => absurd q (le_no 7 rfl (by decide) (by omega)), fun _ => ?_⟩
        have src : ∀ a, a / 100 = o1 + 90 → fA ν3.1 a = fA ν.1 a := by
          intro a ha
          rw [hA3.2.2.1 _ (fun w => ?_), hA2.2.2.1 _ (fun w => e1 _ _ (@kdiv o).1 ha w), vA]
          rcases w with w | w | w
          · exact e1 _ _ (@kdiv o).2.1 ha w
          · exact e1 _ _ (@kdiv o).2.2.1 ha w
          · exact e1 _ _ (@kdiv o).2.2.2 ha w
        simp only [ka1, ka2, ka3, kt1, kt2, kt3, kk1, kk2, kk3, ja1, ja2, ja3, jt1, jt2, jt3, jk1, jk2, jk3, xoc_st h1 h2, xoc_st g1 g2]
        simp (disch := omega) only [i_0, i_1, i_2, i_3, i_4, i_5, i_6, i_7, i_8, i_9, i_10, i_11, i_12, i_13, i_16, i_19, i_20, i_21, i_22, i_23, i_24, i_25, i_30, i_31, i_32, i_39, i_40, i_41, i_42, i_43, i_44, i_45, i_47, i_48, i_49, i_50, i_51, i_52, i_57, i_59, i_60, i_61, i_62, i_63, i_64, i_71, i_72, i_80, i_91, i_93, i_97, i_99, i_100, i_122, i_227, i_228, i_232, i_251, i_255, i_256, i_463, i_999, i_1000, i_1519, i_1600, i_9999, i_100000000, i_2147483639, i_2147483647, neg_nI1, nI_add, pk_mul, nI_remL, pk_sub, pk_div, nI_clamp, nI_leI, nI_ltI, nI_eq, vpT, nI_m1, m1_nI, nI_lem1, m1_le, m1_lt, nI_ltm1, nI_bit, nI_shl, nI_xor, nI_or, n_rem, forall_eq, true_and, and_true, implies_true, true_implies, false_implies, not_true_eq_false, not_false_eq_true, Nat.zero_add, Nat.add_zero, ite_true, ite_false, if_true, if_false, true_or, or_true, false_or, or_false, and_self, and_false, false_and, Nat.reduceEqDiff, reduceIte]
        have x1 := src _ (@kdiv o1).2.1
        have x2 := src _ (@kdiv o1).2.2.1
        have x3 := src _ (@kdiv o1).2.2.2
        have y2 : ∀ v, fA (sA ν3.1 (aK o) k v) (tK' o1) k = fA ν.1 (tK' o1) k := fun v => by rw [fA_sA, if_neg (fun q => e1 _ _ (@kdiv o).2.1 (@kdiv o1).2.2.1 q.1), x2]
        have y3 : ∀ v v', fA (sA (sA ν3.1 (aK o) k v) (tK' o) k v') (kK o1) k = fA ν.1 (kK o1) k := fun v v' => by rw [fA_sA, if_neg (fun q => e1 _ _ (@kdiv o).2.2.1 (@kdiv o1).2.2.2 q.1), fA_sA, if_neg (fun q => e1 _ _ (@kdiv o).2.1 (@kdiv o1).2.2.2 q.1), x3]
        rw [y2, y3, x1]
        refine ih (k + 1) _ (by omega) (by omega) (hA3.trans ((XA.sA _ _ _ (Or.inl rfl)).trans ((XA.sA _ _ _ (Or.inr (Or.inl rfl))).trans (XA.sA _ _ _ (Or.inr (Or.inr rfl)))))) e3 (fun i hi => ?_)
        show fA (sA (sA (sA _ _ _ _) _ _ _) _ _ _) _ _ = _ ∧ fA (sA (sA (sA _ _ _ _) _ _ _) _ _ _) _ _ = _ ∧ fA (sA (sA (sA _ _ _ _) _ _ _) _ _ _) _ _ = _
        have n1 := (@kne o).2.2.2.1
        have n2 := (@kne o).2.2.2.2.1
        have n3 := (@kne o).2.2.2.2.2
        by_cases z : i = k
        · subst z
          simp [fA_sA, n1, n2, n3, n1.symm, n2.symm, n3.symm]
        · obtain ⟨w1, w2, w3⟩ := hv3 i (by omega)
          simp only [fA_sA, z, and_false, if_false]
          exact ⟨w1, w2, w3⟩
    exact key 7 0 ν2 rfl (by decide) (XA.refl _ _) e2 (fun i hi => by omega)
  unfold xw_X5_copy_23
  intro X hX
  have key : ∀ m k (ν2 : XN), 64 - k = m → k ≤ 64 → XA (fun a => a = hK o) σ0 ν2.1 → ν2.2 = ν.2 → (∀ i, i < k → fA ν2.1 (hK o) i = fA ν.1 (hK o1) i) → X o o1 (nI k) ν2 := by
    intro m
    induction m with
    | zero =>
      intro k ν2 hm hk hA2 e2 hv2
      refine hX _ _ _ _ ⟨fun _ => hp49 ν2 hA2 e2 (fun i hi => hv2 i (by omega)), fun q => absurd ((nI_leI (by omega) (by omega)).mpr (by omega) : nI 64 ≤ nI k) q⟩
    | succ m ih =>
      intro k ν2 hm hk hA2 e2 hv2
      refine hX _ _ _ _ ⟨fun q => absurd q (le_no 64 rfl (by decide) (by omega)), fun _ => ?_⟩
      simp only [kh1, kh2, kh3, jh1, jh2, jh3, xoc_st h1 h2, xoc_st g1 g2]
      simp (disch := omega) only [i_0, i_1, i_2, i_3, i_4, i_5, i_6, i_7, i_8, i_9, i_10, i_11, i_12, i_13, i_16, i_19, i_20, i_21, i_22, i_23, i_24, i_25, i_30, i_31, i_32, i_39, i_40, i_41, i_42, i_43, i_44, i_45, i_47, i_48, i_49, i_50, i_51, i_52, i_57, i_59, i_60, i_61, i_62, i_63, i_64, i_71, i_72, i_80, i_91, i_93, i_97, i_99, i_100, i_122, i_227, i_228, i_232, i_251, i_255, i_256, i_463, i_999, i_1000, i_1519, i_1600, i_9999, i_100000000, i_2147483639, i_2147483647, neg_nI1, nI_add, pk_mul, nI_remL, pk_sub, pk_div, nI_clamp, nI_leI, nI_ltI, nI_eq, vpT, nI_m1, m1_nI, nI_lem1, m1_le, m1_lt, nI_ltm1, nI_bit, nI_shl, nI_xor, nI_or, n_rem, forall_eq, true_and, and_true, implies_true, true_implies, false_implies, not_true_eq_false, not_false_eq_true, Nat.zero_add, Nat.add_zero, ite_true, ite_false, if_true, if_false, true_or, or_true, false_or, or_false, and_self, and_false, false_and, Nat.reduceEqDiff, reduceIte]
      have x1 : fA ν2.1 (hK o1) k = fA ν.1 (hK o1) k := by rw [hA2.2.2.1 _ (fun w => e1 _ _ (@kdiv o).1 (@kdiv o1).1 w), vA]
      rw [x1]
      refine ih (k + 1) _ (by omega) (by omega) (hA2.trans (XA.sA _ _ _ rfl)) e2 (fun i hi => ?_)
      show fA (sA _ _ _ _) _ _ = _
      rw [fA_sA]
      by_cases z : i = k
      · rw [if_pos ⟨rfl, z⟩, z]
      · rw [if_neg (fun q => z q.2)]; exact hv2 i (by omega)
  exact key 64 0 _ rfl (by decide) (XA.refl _ _) rfl (fun i hi => by omega)
theorem xl_isFree {ν : XN} {o b c : Nat} {P : Pl} {s : St} {Q : Int32 → XN → Prop} (h1 : 10 ≤ o) (h2 : o < 36) (hC : xPb ν b P) (hs : xSt ν.1 o P s) (hc : c < 64) (hcl : ∀ c, isC P c → c < 64) (hQ : Q (nI (if freeS P s c = true then 1 else 0)) ν) : xw_X5_isFree o (nI c) ν Q := by
  obtain ⟨ka1, ka2, ka3⟩ := xk_a h1 h2
  have h7 := hC.2.2.2.2.2.2.2.2
  unfold xw_X5_isFree xw_X5_isFree_2
  intro X hX
  have key : ∀ m k, nP P - k = m → k ≤ nP P → (∀ i, i < k → zA s i ≠ c) → X o (nI c) (nI k) ν := by
    intro m
    induction m with
    | zero =>
      intro k hm hk hv
      have hk2 : k = nP P := by omega
      subst hk2
      refine hX _ _ _ _ ⟨xoc_st h1 h2, xl_people hC ⟨fun _ => ?_, fun q => absurd ?_ q⟩⟩
      · have : freeS P s c = true := by
          unfold freeS
          rw [List.all_eq_true]
          intro i hi
          simp only [bne_iff_ne, ne_eq]
          exact hv i (List.mem_range.mp hi)
        rw [if_pos this] at hQ; exact hQ
      · rw [nI_leI (by omega) (by omega)]; omega
    | succ m ih =>
      intro k hm hk hv
      have hkp : k < nP P := by omega
      have a1 := (hs.2.2.2.2.1 k hkp).1
      have a2 := hcl _ (hs.1.2.2.1 k hkp).1
      refine hX _ _ _ _ ⟨xoc_st h1 h2, xl_people hC ⟨fun q => ?_, fun _ => ?_⟩⟩
      · rw [nI_leI (by omega) (by omega)] at q; omega
      · simp only [ka1, ka2, ka3]
        simp (disch := omega) only [i_0, i_1, i_2, i_3, i_4, i_5, i_6, i_7, i_8, i_9, i_10, i_11, i_12, i_13, i_16, i_19, i_20, i_21, i_22, i_23, i_24, i_25, i_30, i_31, i_32, i_39, i_40, i_41, i_42, i_43, i_44, i_45, i_47, i_48, i_49, i_50, i_51, i_52, i_57, i_59, i_60, i_61, i_62, i_63, i_64, i_71, i_72, i_80, i_91, i_93, i_97, i_99, i_100, i_122, i_227, i_228, i_232, i_251, i_255, i_256, i_463, i_999, i_1000, i_1519, i_1600, i_9999, i_100000000, i_2147483639, i_2147483647, neg_nI1, nI_add, pk_mul, nI_remL, pk_sub, pk_div, nI_clamp, nI_leI, nI_ltI, nI_eq, vpT, nI_m1, m1_nI, nI_lem1, m1_le, m1_lt, nI_ltm1, nI_bit, nI_shl, nI_xor, nI_or, n_rem, forall_eq, true_and, and_true, implies_true, true_implies, false_implies, not_true_eq_false, not_false_eq_true, Nat.zero_add, Nat.add_zero, ite_true, ite_false, if_true, if_false, true_or, or_true, false_or, or_false, and_self, and_false, false_and, Nat.reduceEqDiff, reduceIte, a1]
        refine ⟨fun q => ih (k + 1) (by omega) (by omega) (fun i hi => ?_), fun q => ?_⟩
        · by_cases z : i = k
          · rw [z]; exact q
          · exact hv i (by omega)
        · have : ¬ freeS P s c = true := by
            unfold freeS
            rw [List.all_eq_true]
            intro w
            have := w k (List.mem_range.mpr hkp)
            simp only [bne_iff_ne, ne_eq] at this
            exact this q
          rw [if_neg this] at hQ; exact hQ
  exact key _ 0 rfl (by omega) (fun i hi => by omega)
