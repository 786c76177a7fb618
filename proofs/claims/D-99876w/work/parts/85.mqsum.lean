/-! THE REFERENCE: a sum -/
theorem ml_atoms {t : Nat → Nat} {e : Nat} {W0 : List Nat} {B : Nat} {σ0 : FS} {X : Int32 → Int32 → FS → Prop} {x1 : Int32} {Q : FS → Prop} {kd : Nat} (h51 : fI σ0 0 51 = nI kd) (hk : kd < 3) (hB : B = W0.length) (hW0 : ∀ x U', W0 = x :: U' → 4 < x) (hE : ∀ σ, fI σ 0 5 = nI 0 → cE X x1 Q σ → X x1 (nI 1) σ) : ∀ r, AtP t e W0 B σ0 X x1 Q (pAtom (alK kd) t e r) r
  | 0 => ml_atom h51 hk hB hW0 hE (fun _ => rfl) (fun r' h => by omega)
  | r + 1 => ml_atom h51 hk hB hW0 hE (fun h => by omega) (fun r' h => ⟨pAtom (alK kd) t e r, rfl, (show r = r' by omega) ▸ ml_atoms h51 hk hB hW0 hE r, adv_atom _ _ _ _⟩)
theorem ml_sums53 {t : Nat → Nat} {e a o B : Nat} {W : List Nat} {Q : FS → Prop} : ∀ (Vp C : List Nat) (σ : FS), Xs σ t e a C (Vp ++ W) o W.length → (∀ σ', FQ σ σ' → Xs σ' t e a (C ++ Vp) W o B → Q σ') → mw_qSums_53 (nI B) σ Q := by
  intro Vp C σ h hQ
  unfold mw_qSums_53
  intro X hX
  induction Vp generalizing C σ with
  | nil =>
    have hle := h.1.le
    have hl := h.2.2.2.2.2
    have h105 : fI σ 0 105 = nI W.length := h.2.2.1.1
    simp only [List.nil_append] at h hl
    refine hX _ _ ⟨fun z => absurd h.1.2.2.2.1 z, fun _ => ⟨fun _ => ?_, fun z => absurd ?_ z⟩⟩
    · unfold mw_qSums_78
      simp only [forall_eq]
      have hF : FW σ (sI σ 0 107 (nI B)) := Fm.sI σ _ (by decide)
      refine hQ _ hF.q ⟨h.1.q hF, ?_, h.2.2.1.eqv (by rw [fI_sI]; simp) rfl, ⟨by rw [fI_sI]; simpa using h.2.2.2.1.1, h.2.2.2.1.2⟩, by rw [fI_sI]; simp, by simpa using hl⟩
      rw [List.append_nil]; exact h.2.1.eqv (by rw [fI_sI]; simp) rfl
    · rw [h105, h.2.2.2.2.1]; exact Int32.le_refl _
  | cons x Vp ih =>
    have hle := h.1.le
    have hl := h.2.2.2.2.2
    have h105 := h.2.2.1.1
    simp only [List.cons_append, List.length_cons] at h105 hl
    have hlen : W.length ≤ (Vp ++ W).length := by rw [List.length_append]; omega
    refine hX _ _ ⟨fun z => absurd h.1.2.2.2.1 z, fun _ => ?_⟩
    rw [h105, h.2.2.2.2.1]
    simp (disch := omega) only [i_0, i_1, i_2, i_3, i_4, i_5, i_6, i_7, i_8, i_9, i_10, i_11, i_12, i_13, i_16, i_19, i_20, i_21, i_22, i_23, i_24, i_25, i_30, i_31, i_32, i_39, i_40, i_41, i_42, i_43, i_44, i_45, i_47, i_48, i_49, i_50, i_51, i_52, i_57, i_59, i_60, i_61, i_62, i_63, i_64, i_71, i_72, i_80, i_91, i_93, i_97, i_99, i_100, i_122, i_227, i_228, i_232, i_251, i_255, i_256, i_463, i_999, i_1000, i_1519, i_1600, i_9999, i_100000000, i_2147483639, i_2147483647, neg_nI1, nI_add, pk_mul, nI_remL, pk_sub, pk_div, nI_clamp, nI_leI, nI_ltI, nI_eq, vpT, nI_m1, m1_nI, nI_lem1, m1_le, m1_lt, nI_ltm1, nI_bit, nI_shl, nI_xor, nI_or, n_rem, forall_eq, true_and, and_true, implies_true, true_implies, false_implies, not_true_eq_false, not_false_eq_true, Nat.zero_add, Nat.add_zero, ite_true, ite_false, if_true, if_false, true_or, or_true, false_or, or_false, and_self, and_false, false_and, Nat.reduceEqDiff, reduceIte]
    refine ⟨fun z => by omega, fun _ => ml_qDrops h (fun σ' hF hX' => ih (C ++ [x]) σ' hX' (fun σ'' hF2 hX2 => hQ σ'' (hF.q.trans hF2) ?_))⟩
    rw [List.append_assoc] at hX2; exact hX2
theorem ml_qSums {σ : FS} {t : Nat → Nat} {e a o B kd : Nat} {C W : List Nat} {Q : FS → Prop} (h : Xs σ t e a C W o B) (h51 : fI σ 0 51 = nI kd) (hk : kd < 3) (hW : ∀ x U', W = x :: U' → 4 < x)
    (ho : ∀ cs b, pSum (pAtom (alK kd) t e (6 - o)) t e a = .inl (cs, b) → ∀ σ', FQ σ σ' → Xs σ' t e b (C ++ cs) W o B → Q σ') (hx : ∀ q, pSum (pAtom (alK kd) t e (6 - o)) t e a = .inr q → ∀ σ', FQ σ σ' → BdC σ' q → Q σ') : mw_qSums σ Q := by
  have ho6 := h.2.2.2.1.2
  unfold mw_qSums
  rw [h.2.2.1.1, h.2.2.2.2.1]
  simp only [forall_eq]
  have hF1 : FW σ (sI σ 0 107 (nI W.length)) := Fm.sI σ _ (by decide)
  have hX1 : Xs (sI σ 0 107 (nI W.length)) t e a C ([] ++ W) o W.length := ⟨h.1.q hF1, h.2.1.eqv (by rw [fI_sI]; simp) rfl, h.2.2.1.eqv (by rw [fI_sI]; simp) rfl, ⟨by rw [fI_sI]; simpa using h.2.2.2.1.1, h.2.2.2.1.2⟩, by rw [fI_sI]; simp, h.2.2.2.2.2⟩
  have h51' : fI (sI σ 0 107 (nI W.length)) 0 51 = nI kd := by rw [fI_sI]; simpa using h51
  revert hX1 hF1 h51'
  generalize sI σ 0 107 (nI W.length) = σ1
  intro hF1 hX1 h51'
  unfold mw_qSums_15
  intro X hX
  have hE : ∀ σ, fI σ 0 5 = nI 0 → cE X (nI B) Q σ → X (nI B) (nI 1) σ := fun σ' h5 hc => hX _ _ _ ⟨fun z => absurd z (by decide), fun _ => ⟨fun z => absurd h5 z, fun _ => hc⟩⟩
  have hbad : ∀ q, pSum (pAtom (alK kd) t e (6 - o)) t e a = .inr q → ∀ σ', FQ σ1 σ' → BdC σ' q → X (nI B) (nI 0) σ' := by
    intro q hp σ' hF hB
    refine hX _ _ _ ⟨fun _ => ?_, fun z => absurd rfl z⟩
    unfold mw_qSums_53 mw_qSums_78
    intro X5 h5
    refine h5 _ _ ⟨fun _ => ?_, fun z => absurd z hB.ne⟩
    simp only [forall_eq]
    exact hx q hp _ (hF1.q.trans (hF.trans (Fm.sI _ _ (by decide)))) ⟨hB.1.fm (Fm.sI (ks := [107]) (as := []) (bs := []) σ' _ (by decide)) (by decide) (by decide), hB.2.elim (fun n hn => ⟨n, hn.1, by rw [fI_sI]; simpa using hn.2⟩)⟩
  refine hE σ1 hX1.1.2.2.2.1 (ml_sum rfl hW hE (ml_atoms h51' hk rfl hW hE (6 - o)) (adv_atom _ _ _ _) σ1 a C [] o (Fm.refl _ _ _ _) hX1 (by omega) (fun x U' he => by cases he) (fun ds b' hp σ2 C2 Vp bb hbb hbe hm hpa hF2 hX2 h14 hC2 => ?_) hbad)
  have hVp : ∀ x ∈ Vp, ¬ isBr x := fun x hx hb => by have := h14 x hx; have h20 : 20 ≤ x := hb.1; omega
  refine cF_end (Vp := Vp) hX2 rfl hVp (by rw [hbb]; exact hm) (by rw [hbb]; exact hpa) (fun σ3 hF3 hX3 => hX _ _ _ ⟨fun _ => ?_, fun z => absurd rfl z⟩)
  refine ml_sums53 Vp C2 σ3 hX3 (fun σ4 hF4 hX4 => ho ds b' hp σ4 (hF1.q.trans (hF2.trans (hF3.trans hF4))) ?_)
  rw [hC2, hbb] at hX4; exact hX4
