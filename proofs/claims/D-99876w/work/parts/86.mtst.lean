/-! THE REFERENCE: tests, from one fact to the next -/
def tK2 (X : Int32 → FS → Prop) (Q : FS → Prop) : Int32 → FS → Prop := fun r8 σ7 => ((r8 = 0 → mw_qTest_105 X σ7 Q) ∧ (¬ r8 = 0 → mw_qTest_106 X (1 : Int32) σ7 Q))
def tK (X : Int32 → FS → Prop) (Q : FS → Prop) : FS → Prop := fun σ6 => ((¬ (fI σ6 0 5) = 0 → mw_qTest_105 X σ6 Q) ∧ ((fI σ6 0 5) = 0 → mw_qGoesOnTest σ6 (tK2 X Q)))
def tF (X : Int32 → FS → Prop) (Q : FS → Prop) (σ : FS) : Prop := mw_qGoesOnTest_0 σ (tK2 X Q)
def tG (X : Int32 → FS → Prop) (Q : FS → Prop) (σ : FS) : Prop := ∀ K' : FS → Prop, (∀ σ', fI σ' 0 5 = nI 0 → tF X Q σ' → K' σ') → mw_qDropsNots_0 σ K'
theorem tK2_0 {X : Int32 → FS → Prop} {Q : FS → Prop} {σ : FS} (h : X (nI 0) σ) : tK2 X Q (nI 0) σ := ⟨fun _ => h, fun z => absurd rfl z⟩
theorem tK2_1 {X : Int32 → FS → Prop} {Q : FS → Prop} {σ : FS} (h : X (nI 1) σ) : tK2 X Q (nI 1) σ := ⟨fun z => absurd z (by decide), fun _ => h⟩
theorem wl_mem {f : Nat → Int32} : ∀ {W : List Nat}, wl f W → (25 ∈ W ↔ ∃ i, i < W.length ∧ f i = nI 25)
  | [], _ => by simp
  | w :: r, h => by
    constructor
    · intro hm
      rcases List.mem_cons.mp hm with z | z
      · exact ⟨r.length, by simp, by rw [z]; exact h.1⟩
      · obtain ⟨i, h1, h2⟩ := (wl_mem h.2.2).mp z
        exact ⟨i, by simp; omega, h2⟩
    · rintro ⟨i, h1, h2⟩
      simp at h1
      by_cases z : i = r.length
      · rw [z, h.1] at h2
        have := h.2.1
        simp (disch := omega) only [nI_eq] at h2
        rw [h2]; simp
      · exact List.mem_cons_of_mem _ ((wl_mem h.2.2).mpr ⟨i, by omega, h2⟩)
theorem ml_hasSq {σ : FS} {W : List Nat} {Q : Int32 → FS → Prop} (h : Wq σ W) (hl : W.length ≤ 1600) (hy : 25 ∈ W → Q (nI 1) σ) (hn : 25 ∉ W → Q (nI 0) σ) : mw_qHasSquare σ Q := by
  unfold mw_qHasSquare mw_qHasSquare_2
  intro X hX
  have key : ∀ n i, i + n = W.length → (∀ j, j < i → ¬ fA σ 104 j = nI 25) → X (nI i) σ := by
    intro n
    induction n with
    | zero =>
      intro i hi hj
      refine hX _ _ ?_
      rw [h.1]
      simp (disch := omega) only [i_0, i_1, i_2, i_3, i_4, i_5, i_6, i_7, i_8, i_9, i_10, i_11, i_12, i_13, i_16, i_19, i_20, i_21, i_22, i_23, i_24, i_25, i_30, i_31, i_32, i_39, i_40, i_41, i_42, i_43, i_44, i_45, i_47, i_48, i_49, i_50, i_51, i_52, i_57, i_59, i_60, i_61, i_62, i_63, i_64, i_71, i_72, i_80, i_91, i_93, i_97, i_99, i_100, i_122, i_227, i_228, i_232, i_251, i_255, i_256, i_463, i_999, i_1000, i_1519, i_1600, i_9999, i_100000000, i_2147483639, i_2147483647, neg_nI1, nI_add, pk_mul, nI_remL, pk_sub, pk_div, nI_clamp, nI_leI, nI_ltI, nI_eq, vpT, nI_m1, m1_nI, nI_lem1, m1_le, m1_lt, nI_ltm1, nI_bit, nI_shl, nI_xor, nI_or, n_rem, forall_eq, true_and, and_true, implies_true, true_implies, false_implies, not_true_eq_false, not_false_eq_true, Nat.zero_add, Nat.add_zero, ite_true, ite_false, if_true, if_false, true_or, or_true, false_or, or_false, and_self, and_false, false_and, Nat.reduceEqDiff, reduceIte]
      refine ⟨fun _ => hn (fun hm => ?_), fun z => by omega⟩
      obtain ⟨k, h1, h2⟩ := (wl_mem h.2).mp hm
      exact hj k (by omega) h2
    | succ n ih =>
      intro i hi hj
      refine hX _ _ ?_
      rw [h.1]
      simp (disch := omega) only [i_0, i_1, i_2, i_3, i_4, i_5, i_6, i_7, i_8, i_9, i_10, i_11, i_12, i_13, i_16, i_19, i_20, i_21, i_22, i_23, i_24, i_25, i_30, i_31, i_32, i_39, i_40, i_41, i_42, i_43, i_44, i_45, i_47, i_48, i_49, i_50, i_51, i_52, i_57, i_59, i_60, i_61, i_62, i_63, i_64, i_71, i_72, i_80, i_91, i_93, i_97, i_99, i_100, i_122, i_227, i_228, i_232, i_251, i_255, i_256, i_463, i_999, i_1000, i_1519, i_1600, i_9999, i_100000000, i_2147483639, i_2147483647, neg_nI1, nI_add, pk_mul, nI_remL, pk_sub, pk_div, nI_clamp, nI_leI, nI_ltI, nI_eq, vpT, nI_m1, m1_nI, nI_lem1, m1_le, m1_lt, nI_ltm1, nI_bit, nI_shl, nI_xor, nI_or, n_rem, forall_eq, true_and, and_true, implies_true, true_implies, false_implies, not_true_eq_false, not_false_eq_true, Nat.zero_add, Nat.add_zero, ite_true, ite_false, if_true, if_false, true_or, or_true, false_or, or_false, and_self, and_false, false_and, Nat.reduceEqDiff, reduceIte]
      refine ⟨fun z => by omega, fun _ => ⟨fun z => ih (i + 1) (by omega) (fun j hj2 => ?_), fun z => hy ((wl_mem h.2).mpr ⟨i, by omega, z⟩)⟩⟩
      by_cases hji : j = i
      · rw [hji]; exact z
      · exact hj j (by omega)
  exact key W.length 0 (by omega) (fun j hj => by omega)
section
variable {t : Nat → Nat} {e : Nat} {B : Nat} {σ0 : FS} {X : Int32 → FS → Prop} {Q : FS → Prop}
theorem tG_F {σ : FS} {a : Nat} {C V : List Nat} {o : Nat} (h : Xs σ t e a C V o B) (hV : ∀ V', V ≠ 12 :: V') (hF : tF X Q σ) : tG X Q σ := by
  intro K' hK
  have hle := h.1.le
  have hl := h.2.2.2.2.2
  unfold mw_qDropsNots_0
  intro X0 h0
  refine h0 σ ⟨fun z => absurd h.1.2.2.2.1 z, fun _ => ml_qIsOn h.2.2.1 (by omega) (by decide) (fun W' hw => absurd hw (hV W')) (fun _ => ⟨fun _ => hK σ h.1.2.2.2.1 hF, fun z => absurd rfl z⟩)⟩
theorem tG_12 {σ : FS} {a : Nat} {C V : List Nat} {o : Nat} (h : Xs σ t e a C (12 :: V) (o + 1) B) (hQ : ∀ σ', FW σ σ' → Xs σ' t e a (C ++ [12]) V o B → tG X Q σ') : tG X Q σ := by
  intro K' hK
  have hle := h.1.le
  have hl := h.2.2.2.2.2
  have ho := h.2.2.2.1
  unfold mw_qDropsNots_0
  intro X0 h0
  refine h0 σ ⟨fun z => absurd h.1.2.2.2.1 z, fun _ => ml_qIsOn h.2.2.1 (by omega) (by decide) (fun W' hw => ⟨fun z => absurd z (by decide), fun _ => ?_⟩) (fun hn => absurd rfl (hn V))⟩
  simp only [forall_eq]
  have e1 : nI (o + 1) - 1 = nI o := nI_pred _
  rw [ho.1, e1]
  have hF1 : FW σ (sI σ 0 106 (nI o)) := Fm.sI σ _ (by decide)
  have hX1 : Xs (sI σ 0 106 (nI o)) t e a C (12 :: V) o B := ⟨h.1.q hF1, h.2.1.eqv (by rw [fI_sI]; simp) rfl, h.2.2.1.eqv (by rw [fI_sI]; simp) rfl, ⟨by rw [fI_sI]; simp, by omega⟩, by rw [fI_sI]; simpa using h.2.2.2.2.1, h.2.2.2.2.2⟩
  exact ml_qDrops hX1 (fun σ' hF hX' => hQ σ' (hF1.trans hF) hX' K' hK X0 h0)
/-- no square that closes -/
theorem tF_76 {σ : FS} {b : Nat} {C V : List Nat} {o : Nat} (h : Xs σ t e b C V o B) (hc : bt t e (lk t e b) ≠ 93 ∨ 25 ∉ V) (hQ : ∀ σ', FT σ σ' → Xs σ' t e (lk t e b) C V o B → mw_qGoesOnTest_76 σ' (tK2 X Q)) : tF X Q σ := by
  have hle := h.1.le
  have hl := h.2.2.2.2.2
  unfold tF mw_qGoesOnTest_0
  intro X0 h0
  refine h0 σ ⟨fun z => absurd h.1.2.2.2.1 z, fun _ => ?_⟩
  have hlk := lk_spec (t := t) h.1.2.2.1
  refine ml_look h.1 (fun hT => ?_)
  have hX1 := h.tok (FT.at σ _) hT hlk.1
  have hg := hQ _ (FT.at σ _) hX1
  refine ⟨fun _ => hg, fun z => ml_hasSq hX1.2.2.1 (by omega) (fun hm => ?_) (fun _ => ⟨fun _ => hg, fun z => absurd rfl z⟩)⟩
  have z2 : byI t e (lk t e b) = nI 93 := z
  rw [byI_eq (h.1.1.2.2.2.1 _) (show 93 < 256 by decide)] at z2
  rcases hc with hc | hc
  · exact absurd z2 hc
  · exact absurd hm hc
/-- a square closes -/
theorem tF_close {σ : FS} {b : Nat} {C Vp V : List Nat} {o : Nat} (h : Xs σ t e b C (Vp ++ 25 :: V) (o + 1) B) (hV : ∀ x ∈ Vp, x = 10 ∨ x = 11) (hc : bt t e (lk t e b) = 93) (hQ : ∀ σ', FQ σ σ' → Xs σ' t e (lk t e b + 1) (C ++ Vp) V o B → tG X Q σ') : tF X Q σ := by
  have hle := h.1.le
  have hl := h.2.2.2.2.2
  have he := h.1.1.2.1
  unfold tF mw_qGoesOnTest_0
  intro X0 h0
  refine h0 σ ⟨fun z => absurd h.1.2.2.2.1 z, fun _ => ?_⟩
  have hlk := lk_spec (t := t) h.1.2.2.1
  refine ml_look h.1 (fun hT => ?_)
  have hX1 := h.tok (FT.at σ _) hT hlk.1
  have hlt : lk t e b < e := by
    rcases Nat.lt_or_ge (lk t e b) e with z | z
    · exact z
    · unfold bt at hc; rw [if_neg (by omega)] at hc; omega
  refine ⟨fun z => absurd ?_ z, fun _ => ml_hasSq hX1.2.2.1 (by omega) (fun hm25 => ⟨fun z => absurd z (by decide), fun _ => ?_⟩) (fun hm => absurd (by simp) hm)⟩
  · show byI t e (lk t e b) = nI 93
    rw [byI_eq (h.1.1.2.2.2.1 _) (show 93 < 256 by decide)]; exact hc
  simp only [forall_eq]
  rw [hT.2.1, show nI (lk t e b) + 1 = nI (lk t e b + 1) from nI_add _ 1]
  have hT2 := hT.sign (c := 93) hlt (by rw [← bt_at (t := t) hlt]; exact hc) (by decide) (by decide)
  have hX2 := hX1.tok (FT.at _ _) hT2 (by omega)
  have hF2 : FQ σ (sI (sI σ 0 2 (nI (lk t e b))) 0 2 (nI (lk t e b + 1))) := FT.q ((FT.at σ _).trans (FT.at _ _))
  revert hT2 hX2 hF2
  generalize sI (sI σ 0 2 (nI (lk t e b))) 0 2 (nI (lk t e b + 1)) = σ2
  intro hT2 hX2 hF2
  unfold mw_qGoesOnTest_33
  intro X3 h3
  clear hX1 h hl hm25
  induction Vp generalizing C σ2 with
  | nil =>
    have hl := hX2.2.2.2.2.2
    refine h3 σ2 (ml_qIsOn hX2.2.2.1 (by omega) (by decide) (fun W' hw => ⟨fun _ => ?_, fun z => absurd z (by decide)⟩) (fun hn => absurd rfl (hn V)))
    have h105 := hX2.2.2.1.1
    have hw := hX2.2.2.1.2
    have ho := hX2.2.2.2.1
    simp only [List.nil_append, List.length_cons] at h105 hw hl
    simp only [forall_eq]
    rw [h105, show nI (V.length + 1) - 1 = nI V.length from nI_pred _]
    rw [fI_sI, if_neg (by decide), ho.1, show nI (o + 1) - 1 = nI o from nI_pred _]
    unfold mw_qDropsNots
    have hF5 : FW σ2 (sI (sI σ2 0 105 (nI V.length)) 0 106 (nI o)) := (Fm.sI σ2 _ (by decide)).trans (Fm.sI _ _ (by decide))
    refine hQ _ (hF2.trans hF5.q) ⟨hX2.1.q hF5, ?_, ⟨by rw [fI_sI, fI_sI]; simp, hw.2.2⟩, ⟨by rw [fI_sI]; simp, by have := ho.2; omega⟩, by rw [fI_sI, fI_sI]; simpa using hX2.2.2.2.2.1, by simp; omega⟩ X0 (fun σ' _ hc => hc X0 h0)
    rw [List.append_nil]
    exact hX2.2.1.eqv (by rw [fI_sI, fI_sI]; simp) rfl
  | cons x Vp ih =>
    have hl := hX2.2.2.2.2.2
    have hle2 := hX2.1.le
    refine h3 σ2 (ml_qIsOn hX2.2.2.1 (by omega) (by decide) (fun W' hw => ?_) (fun hn => ⟨fun z => absurd rfl z, fun _ => ml_qDrops hX2 (fun σ3 hF3 hX3 => ih (C := C ++ [x]) (fun y hy => hV y (List.mem_cons_of_mem _ hy)) (fun σ4 hF4 hX4 => hQ σ4 hF4 (by rw [List.append_assoc] at hX4; exact hX4)) σ3 hX3.1 hX3 (hF2.trans hF3.q))⟩))
    have : x = 25 := by simp at hw; exact hw.1
    have := hV x List.mem_cons_self
    omega
end
