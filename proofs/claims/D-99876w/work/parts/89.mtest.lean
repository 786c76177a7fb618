/-! THE REFERENCE: a test -/
theorem ml_qTest {σ : FS} {t : Nat → Nat} {e a B kd : Nat} {C : List Nat} {Q : FS → Prop} (h : Xs σ t e a C [] 0 B) (h51 : fI σ 0 51 = nI kd) (hk : kd < 3)
    (ho : ∀ cs b, pTest (pFact (alK kd) t e 6) t e a = .inl (cs, b) → ∀ σ', FQ σ σ' → Xs σ' t e b (C ++ cs) [] 0 B → Q σ') (hx : ∀ q, pTest (pFact (alK kd) t e 6) t e a = .inr q → ∀ σ', FQ σ σ' → Bd σ' q → Q σ') : mw_qTest σ Q := by
  unfold mw_qTest mw_qTest_2
  intro X hX
  have facts : ∀ r, FaP t e B σ X Q (pFact (alK kd) t e r) r := by
    intro r
    induction r with
    | zero => exact ml_fact h51 hk hX (fun _ => rfl) (fun r' h => by omega)
    | succ r ih => exact ml_fact h51 hk hX (fun h => by omega) (fun r' h => ⟨pFact (alK kd) t e r, rfl, (show r = r' by omega) ▸ ih, adv_fact _ _ _ _⟩)
  refine ml_test (facts 6) (adv_fact _ _ _ _) σ a C [] 0 (Fm.refl _ _ _ _) h rfl (fun U' => ⟨(fun z => by cases z), (fun z => by cases z), (fun z => by cases z)⟩) (fun x hx => by cases hx) (fun ds b' hp σ2 C2 Vp bb hbb hbe h86 h87 hF2 hX2 h14 hC2 => ?_) hx
  have h25 : 25 ∉ Vp := fun hm => by have := h14 25 hm; omega
  have hlb' : lk t e b' = b' := by rw [← hbb]; exact lk_lk hbe
  rw [List.append_nil] at hX2
  refine tF_76 hX2 (Or.inr h25) (fun σ3 hF3 hX3 => ml_tend hX3 (by rw [hbb, hlb']; exact h86) (by rw [hbb, hlb']; exact h87) (fun _ σ4 hF4 hX4 => tK2_0 (hX _ _ ⟨fun _ => ?_, fun z => absurd rfl z⟩)) (fun hm => absurd hm h25))
  rw [hbb, hlb'] at hX4
  have hF04 : FQ σ σ4 := hF2.trans ((FT.q hF3).trans (FT.q hF4))
  unfold mw_qTest_110
  intro X1 h1
  clear hF3 hF4 hX3 hX2 h14 h25 hF2
  have fin : ∀ (Vp C2 : List Nat) σ4, C2 ++ Vp = C ++ ds → Xs σ4 t e b' C2 Vp 0 B → FQ σ σ4 → X1 σ4 := by
    intro Vp
    induction Vp with
    | nil =>
      intro C2 σ4 hC hX4 hF
      refine h1 σ4 ⟨fun z => absurd hX4.1.2.2.2.1 z, fun _ => ⟨fun _ => ho ds b' hp σ4 hF ?_, fun z => absurd ?_ z⟩⟩
      · rw [← hC, List.append_nil]; exact hX4
      · rw [hX4.2.2.1.1]; exact Int32.le_refl _
    | cons x Vp ih =>
      intro C2 σ4 hC hX4 hF
      have hle := hX4.1.le
      have hl := hX4.2.2.2.2.2
      simp only [List.length_cons] at hl
      refine h1 σ4 ⟨fun z => absurd hX4.1.2.2.2.1 z, fun _ => ⟨fun z => ?_, fun _ => ml_qDrops hX4 (fun σ5 hF5 hX5 => ih (C2 ++ [x]) σ5 (by rw [← hC]; simp) hX5 (hF.trans hF5.q))⟩⟩
      rw [hX4.2.2.1.1] at z
      have z2 : nI (Vp.length + 1) ≤ nI 0 := z
      rw [nI_leI (by omega) (by omega)] at z2
      omega
  exact fin Vp C2 σ4 hC2 hX4 hF04
