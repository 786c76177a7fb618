/-! THE REFERENCE: a fact, a test -/
theorem pFa_sqN {AT : Nat → PR (List Nat)} {t : Nat → Nat} {e a : Nat} (h : bt t e (lk t e a) = 91) : pFactG AT none t e a = .inr (4, lk t e a) := by
  unfold pFactG; rw [if_pos h]
theorem pFa_sqS {AT F : Nat → PR (List Nat)} {t : Nat → Nat} {e a : Nat} (h : bt t e (lk t e a) = 91) : pFactG AT (some F) t e a = pB (pTest F t e (lk t e a + 1)) (fun cs b => pB (pSign 93 t e b) (fun _ b2 => .inl (cs, b2))) := by
  unfold pFactG; rw [if_pos h]
theorem lt_91 {t : Nat → Nat} {e a : Nat} {w : List Nat} (h : hereW t e a w) : ¬ bt t e a = 91 := fun z => by have := h.1; rw [z] at this; exact absurd this (by decide)
theorem pFa_noN {AT : Nat → PR (List Nat)} {t : Nat → Nat} {e a : Nat} (h : hereW t e (lk t e a) (str 85)) : pFactG AT none t e a = .inr (4, lk t e a) := by
  unfold pFactG; rw [if_neg (lt_91 h), if_pos (isW_iff.mpr h)]
theorem pFa_noS {AT F : Nat → PR (List Nat)} {t : Nat → Nat} {e a : Nat} (h : hereW t e (lk t e a) (str 85)) : pFactG AT (some F) t e a = pB (F (wE t e (lk t e a))) (fun cs b => .inl (cs ++ [12], b)) := by
  unfold pFactG; rw [if_neg (lt_91 h), if_pos (isW_iff.mpr h)]
theorem pFa_88 {AT : Nat → PR (List Nat)} {rec : Option (Nat → PR (List Nat))} {t : Nat → Nat} {e a : Nat} (h1 : ¬ hereW t e (lk t e a) (str 85)) (h : hereW t e (lk t e a) (str 88)) : pFactG AT rec t e a = .inl ([13], wE t e (lk t e a)) := by
  unfold pFactG; rw [if_neg (lt_91 h), if_neg (fun z => h1 (isW_iff.mp z)), if_pos (isW_iff.mpr h)]
theorem pFa_sum {AT : Nat → PR (List Nat)} {rec : Option (Nat → PR (List Nat))} {t : Nat → Nat} {e a : Nat} (h0 : ¬ bt t e (lk t e a) = 91) (h1 : ¬ hereW t e (lk t e a) (str 85)) (h : ¬ hereW t e (lk t e a) (str 88)) : pFactG AT rec t e a = pB (pSum AT t e a) (fun cs b => if opC (bt t e (lk t e b)) = 0 then .inr (1, lk t e b) else pB (pSum AT t e (lk t e b + 1)) (fun ds b2 => .inl (cs ++ ds ++ [opC (bt t e (lk t e b))], b2))) := by
  unfold pFactG; rw [if_neg h0, if_neg (fun z => h1 (isW_iff.mp z)), if_neg (fun z => h (isW_iff.mp z))]
theorem opC_lt {t : Nat → Nat} {e a : Nat} (h : ¬ opC (bt t e a) = 0) : a < e := by
  rcases Nat.lt_or_ge a e with z | z
  · exact z
  · unfold bt at h; rw [if_neg (by omega)] at h; exact absurd rfl h
theorem adv_factG {AT : Nat → PR (List Nat)} {rec : Option (Nat → PR (List Nat))} {t : Nat → Nat} {e : Nat} (hA : adv e AT) (hr : ∀ F, rec = some F → adv e F) : adv e (pFactG AT rec t e) := by
  intro a cs b ha h
  have hlk := lk_spec (t := t) ha
  by_cases h91 : bt t e (lk t e a) = 91
  · cases rec with
    | none => rw [pFa_sqN h91] at h; cases h
    | some F =>
      rw [pFa_sqS h91] at h
      obtain ⟨x, b1, h1, h2⟩ := pB_ok h
      obtain ⟨_, b2, h3, h4⟩ := pB_ok h2
      have hlt : lk t e a < e := by
        rcases Nat.lt_or_ge (lk t e a) e with w | w
        · exact w
        · unfold bt at h91; rw [if_neg (by omega)] at h91; omega
      have q1 := adv_test (hr F rfl) _ _ _ (by omega) h1
      have q2 := pSign_ok q1.2 (by decide) h3
      have := lk_spec (t := t) q1.2
      cases h4
      omega
  · by_cases h85 : hereW t e (lk t e a) (str 85)
    · have hws := wE_spec h85.1
      cases rec with
      | none => rw [pFa_noN h85] at h; cases h
      | some F =>
        rw [pFa_noS h85] at h
        obtain ⟨x, b1, h1, h2⟩ := pB_ok h
        have := hr F rfl _ _ _ (by omega) h1
        cases h2
        simp only [List.length_append, List.length_cons, List.length_nil]
        omega
    · by_cases h88 : hereW t e (lk t e a) (str 88)
      · have hws := wE_spec h88.1
        rw [pFa_88 h85 h88] at h
        cases h
        simp only [List.length_cons, List.length_nil]
        omega
      · rw [pFa_sum h91 h85 h88] at h
        obtain ⟨x, b1, h1, h2⟩ := pB_ok h
        have q1 := adv_sum hA _ _ _ ha h1
        have := lk_spec (t := t) q1.2
        split at h2
        · cases h2
        · rename_i hz
          have hlt := opC_lt hz
          obtain ⟨y, b2, h3, h4⟩ := pB_ok h2
          have q2 := adv_sum hA _ _ _ (by omega) h3
          cases h4
          simp only [List.length_append, List.length_cons, List.length_nil]
          omega
theorem adv_fact (al : Nat → Bool) (t : Nat → Nat) (e : Nat) : ∀ r, adv e (pFact al t e r)
  | 0 => adv_factG (adv_atom _ _ _ _) (fun _ h => by cases h)
  | r + 1 => adv_factG (adv_atom _ _ _ _) (fun F h => by cases h; exact adv_fact al t e r)
theorem ml_qCodeX {σ : FS} {t : Nat → Nat} {e a c : Nat} {C W : List Nat} {o B : Nat} {Q : FS → Prop} (h : Xs σ t e a C W o B) (hl : C.length + W.length < a) (hQ : ∀ σ', FQ σ σ' → Xs σ' t e a (C ++ [c]) W o B → Q σ') : mw_qCode (nI c) σ Q := by
  have hle := h.1.le
  refine ml_qCode h.2.1 (by omega) (fun σ3 hF3 hC3 => hQ σ3 (hF3.wide (by decide) (by decide) (by decide)) ?_)
  have hF3' : FW σ σ3 := hF3.wide (by decide) (by decide) (by decide)
  exact ⟨h.1.q hF3', hC3, h.2.2.1.eqv (hF3.1 105 (by decide)) (hF3.2.1 104 (by decide)), ⟨by rw [hF3.1 106 (by decide)]; exact h.2.2.2.1.1, h.2.2.2.1.2⟩, by rw [hF3.1 107 (by decide)]; exact h.2.2.2.2.1, by rw [List.length_append]; simp; omega⟩
theorem pWord_lk {t : Nat → Nat} {e a : Nat} (ha : a ≤ e) : pWord t e (lk t e a) = pWord t e a := by unfold pWord; rw [lk_lk ha]
theorem pNum_lk {t : Nat → Nat} {e a lo hi : Nat} (ha : a ≤ e) : pNum lo hi t e (lk t e a) = pNum lo hi t e a := by unfold pNum; rw [lk_lk ha]
theorem pAtom_lk {al : Nat → Bool} {t : Nat → Nat} {e a r : Nat} (ha : a ≤ e) : pAtom al t e r (lk t e a) = pAtom al t e r a := by
  cases r with
  | zero => unfold pAtom pAtomG; rw [lk_lk ha, pWord_lk ha, pNum_lk ha]
  | succ r => unfold pAtom pAtomG; rw [lk_lk ha, pWord_lk ha, pNum_lk ha]
theorem hd4 {V : List Nat} (h : ∀ x ∈ V, 4 < x) : ∀ x U', V = x :: U' → 4 < x := fun x U' he => h x (by rw [he]; simp)
theorem ml_qFact {σ : FS} {t : Nat → Nat} {e a o B kd : Nat} {C V : List Nat} {rec : Option (Nat → PR (List Nat))} {Q : FS → Prop} (h : Xs σ t e a C V o B) (h51 : fI σ 0 51 = nI kd) (hk : kd < 3) (hV : ∀ x ∈ V, 4 < x) (h91 : ¬ bt t e (lk t e a) = 91) (h85 : ¬ hereW t e (lk t e a) (str 85))
    (ho : ∀ cs b, pFactG (pAtom (alK kd) t e (6 - o)) rec t e a = .inl (cs, b) → ∀ σ', FQ σ σ' → Xs σ' t e b (C ++ cs) V o B → Q σ') (hx : ∀ q, pFactG (pAtom (alK kd) t e (6 - o)) rec t e a = .inr q → ∀ σ', FQ σ σ' → Bd σ' q → Q σ') : mw_qFact σ Q := by
  have hbe := h.1.2.2.1
  have hlk := lk_spec (t := t) hbe
  have hll := lk_lk (t := t) hbe
  have hl0 := h.2.2.2.2.2
  unfold mw_qFact
  refine ml_takes (k := 88) h.1 (by unfold mok; decide) (by decide) (by decide) (fun σ1 hy hF1 hT1 => ⟨fun z => absurd z (by decide), fun _ => ?_⟩) (fun σ1 hn hF1 hT1 => ⟨fun _ => ?_, fun z => absurd rfl z⟩)
  · have hws := wE_spec hy.1
    have hX1 := h.tok hF1 hT1 (by omega)
    exact ml_qCodeX (c := 13) hX1 (by omega) (fun σ2 hF2 hX2 => ho [13] _ (pFa_88 h85 hy) σ2 ((FT.q hF1).trans hF2) hX2)
  · have hX1 := h.tok hF1 hT1 (by omega)
    have hps : ∀ AT : Nat → PR (List Nat), pSum AT t e (lk t e a) = pSum AT t e a → pFactG AT rec t e a = pB (pSum AT t e (lk t e a)) (fun cs b => if opC (bt t e (lk t e b)) = 0 then .inr (1, lk t e b) else pB (pSum AT t e (lk t e b + 1)) (fun ds b2 => .inl (cs ++ ds ++ [opC (bt t e (lk t e b))], b2))) := fun AT hp => by rw [hp]; exact pFa_sum h91 h85 hn
    have hpa := hps (pAtom (alK kd) t e (6 - o)) (by
      unfold pSum pProd
      rw [pAtom_lk hbe])
    refine ml_qSums hX1 (by rw [hF1.1 51 (by decide)]; exact h51) hk (hd4 hV) (fun cs b hp σ2 hF2 hX2 => ⟨fun _ => ?_, fun z => absurd hX2.1.2.2.2.1 z⟩) (fun q hp σ2 hF2 hB2 => ⟨fun z => absurd z hB2.ne, fun _ => hx q (by rw [hpa, hp]; rfl) σ2 ((FT.q hF1).trans hF2) hB2.1⟩)
    rw [hp, pB_inl] at hpa
    simp only at hpa
    have hbe2 := hX2.1.2.2.1
    have hlk2 := lk_spec (t := t) hbe2
    have hle2 := hX2.1.le
    have he := h.1.1.2.1
    refine ml_look hX2.1 (fun hT3 => ?_)
    have hX3 := hX2.tok (FT.at σ2 _) hT3 hlk2.1
    have hF3 : FQ σ (sI σ2 0 2 (nI (lk t e b))) := (FT.q hF1).trans (hF2.trans (FT.q (FT.at _ _)))
    revert hT3 hX3 hF3
    generalize sI σ2 0 2 (nI (lk t e b)) = σ3
    intro hT3 hX3 hF3
    have h51' : fI σ3 0 51 = nI kd := by rw [hF3.1 51 (by decide)]; exact h51
    have hl2 := hX2.2.2.2.2.2
    have main : ∀ c, (c = 60 ∨ c = 61 ∨ c = 62) → bt t e (lk t e b) = c → mw_qFact_63 (nI c) σ3 Q := by
      intro c hcc hbc
      have hz : ¬ opC (bt t e (lk t e b)) = 0 := by rw [hbc]; rcases hcc with rfl | rfl | rfl <;> decide
      have hlt := opC_lt hz
      rw [if_neg hz] at hpa
      have s := sgn_ok c (by rcases hcc with rfl | rfl | rfl <;> decide)
      unfold mw_qFact_63
      simp only [forall_eq]
      rw [hT3.2.1, show nI (lk t e b) + 1 = nI (lk t e b + 1) from nI_add _ 1]
      have hT4 := hT3.sign (c := c) hlt (by rw [← bt_at (t := t) hlt]; exact hbc) s.2.1 s.2.2
      have hX4 := hX3.tok (FT.at _ _) hT4 (by omega)
      have hF4 : FQ σ (sI σ3 0 2 (nI (lk t e b + 1))) := hF3.trans (FT.q (FT.at _ _))
      revert hT4 hX4 hF4
      generalize sI σ3 0 2 (nI (lk t e b + 1)) = σ4
      intro hT4 hX4 hF4
      have hbadc : ∀ σ5 q y, pSum (pAtom (alK kd) t e (6 - o)) t e (lk t e b + 1) = .inr q → FQ σ4 σ5 → BdC σ5 q → mw_qFact_102 y σ5 Q := by
        intro σ5 q y hp5 hF5 hB5
        unfold mw_qFact_102
        obtain ⟨n, hn1, hn2⟩ := hB5.2
        exact ml_qCodeB hn2 (by omega) (fun σ6 hF6 _ => hx q (by rw [hpa, hp5]; rfl) σ6 (hF4.trans (hF5.trans (hF6.wide (by decide) (by decide) (by decide)))) (hB5.1.fm hF6 (by decide) (by decide)))
      refine ml_qSums hX4 (by rw [hF4.1 51 (by decide)]; exact h51) hk (hd4 hV) (fun ds b2 hp5 σ5 hF5 hX5 => ?_) (fun q hp5 σ5 hF5 hB5 => ⟨fun _ => ⟨fun _ => hbadc σ5 q _ hp5 hF5 hB5, fun _ => hbadc σ5 q _ hp5 hF5 hB5⟩, fun _ => hbadc σ5 q _ hp5 hF5 hB5⟩)
      rw [hp5, pB_inl] at hpa
      simp only at hpa
      have hadv := adv_sum (t := t) (adv_atom (alK kd) t e (6 - o)) _ _ _ hT4.2.2.1 hp5
      have fin : mw_qFact_102 (nI (opC (bt t e (lk t e b)))) σ5 Q := by
        unfold mw_qFact_102
        refine ml_qCodeX hX5 ?_ (fun σ6 hF6 hX6 => ho _ b2 hpa σ6 (hF4.trans (hF5.trans hF6)) ?_)
        · rw [List.length_append] at hl2 ⊢; rw [List.length_append]; omega
        · simpa using hX6
      rw [hbc] at fin
      rcases hcc with rfl | rfl | rfl
      · exact ⟨fun z => absurd rfl z, fun _ => fin⟩
      · exact ⟨fun _ => ⟨fun _ => fin, fun z => absurd z (by decide)⟩, fun z => absurd z (by decide)⟩
      · exact ⟨fun _ => ⟨fun z => absurd rfl z, fun _ => fin⟩, fun z => absurd z (by decide)⟩
    have hby : ∀ c, c < 256 → byI t e (lk t e b) = nI c → bt t e (lk t e b) = c := fun c hc z => by rw [byI_eq (h.1.1.2.2.2.1 _) hc] at z; exact z
    refine ⟨fun z => ?_, fun n60 => ⟨fun z => ?_, fun n62 => ⟨fun z => ?_, fun n61 => ?_⟩⟩⟩
    · rw [z]; exact main 60 (Or.inl rfl) (hby 60 (by decide) z)
    · rw [z]; exact main 62 (Or.inr (Or.inr rfl)) (hby 62 (by decide) z)
    · rw [z]; exact main 61 (Or.inr (Or.inl rfl)) (hby 61 (by decide) z)
    · have hz : opC (bt t e (lk t e b)) = 0 := by
        have hq : ∀ c, c < 256 → ¬ byI t e (lk t e b) = nI c → ¬ bt t e (lk t e b) = c := fun c hc z => by rw [byI_eq (h.1.1.2.2.2.1 _) hc] at z; exact z
        unfold opC
        rw [if_neg (hq 60 (by decide) n60), if_neg (hq 62 (by decide) n62), if_neg (hq 61 (by decide) n61)]
      rw [if_pos hz] at hpa
      rw [hT3.2.1]
      refine ml_fail (q := (1, lk t e b)) hT3.2.2.2.1 (by simp) (fun σ5 hF5 hB5 => hx _ hpa σ5 (hF3.trans (hF5.wide (by decide) (by decide) (by decide))) hB5)
section
variable {t : Nat → Nat} {e : Nat} {B : Nat} {σ0 : FS} {X : Int32 → FS → Prop} {Q : FS → Prop}
theorem ml_fact {kd : Nat} {rec : Option (Nat → PR (List Nat))} {r : Nat} (h51 : fI σ0 0 51 = nI kd) (hk : kd < 3)
    (hX : ∀ (x1 : Int32) (σ : FS), ((x1 = 0 → mw_qTest_110 σ Q) ∧ (¬ x1 = 0 → ((¬ (fI σ 0 5) = 0 → mw_qTest_110 σ Q) ∧ ((fI σ 0 5) = 0 → mw_look σ (fun r2 σ1 => ((¬ r2 = (91 : Int32) → mw_isHere 85 σ1 (fun r4 σ3 => ((r4 = 0 → mw_qFact σ3 (fun σ5 => mw_qDropsNots σ5 (fun σ6 => ((¬ (fI σ6 0 5) = 0 → mw_qTest_105 X σ6 Q) ∧ ((fI σ6 0 5) = 0 → mw_qGoesOnTest σ6 (fun r8 σ7 => ((r8 = 0 → mw_qTest_105 X σ7 Q) ∧ (¬ r8 = 0 → mw_qTest_106 X (1 : Int32) σ7 Q)))))))) ∧ (¬ r4 = 0 → mw_qOpens (12 : Int32) (fI σ3 0 2) σ3 (fun σ9 => mw_needs 85 σ9 (fun σ10 => X x1 σ10)))))) ∧ (r2 = (91 : Int32) → mw_qOpens (25 : Int32) (fI σ1 0 2) σ1 (fun σ11 => (∀ σ12, σ12 = sI σ11 0 2 ((fI σ11 0 2) + (1 : Int32)) → X x1 σ12))))))))) → X x1 σ)
    (hr0 : r = 0 → rec = none) (hr1 : ∀ r', r = r' + 1 → ∃ F, rec = some F ∧ FaP t e B σ0 X Q F r' ∧ adv e F) : FaP t e B σ0 X Q (pFactG (pAtom (alK kd) t e r) rec t e) r := by
  intro σ a C V o hF h hor hV hok hbd
  have hbe := h.1.2.2.1
  have hlk := lk_spec (t := t) hbe
  have hll := lk_lk (t := t) hbe
  have hle := h.1.le
  have he := h.1.1.2.1
  have hr6 : r = 6 - o := by omega
  have xb : ∀ (x : Int32) σ' q, Bd σ' q → Q σ' → X x σ' := by
    intro x σ' q hb hq
    have h110 : mw_qTest_110 σ' Q := by
      unfold mw_qTest_110
      exact fun X1 h1 => h1 σ' ⟨fun _ => hq, fun z => absurd z hb.ne⟩
    exact hX x σ' ⟨fun _ => h110, fun _ => ⟨fun _ => h110, fun z => absurd z hb.ne⟩⟩
  have bad : ∀ (x : Int32) σ' q, Bd σ' q → pFactG (pAtom (alK kd) t e r) rec t e a = .inr q → FQ σ0 σ' → X x σ' := by
    intro x σ' q hb hp hf
    exact xb x σ' q hb (hbd q hp σ' hf hb)
  refine hX _ σ ⟨fun z => absurd z (by decide), fun _ => ⟨fun z => absurd h.1.2.2.2.1 z, fun _ => ?_⟩⟩
  refine ml_look h.1 (fun hT => ?_)
  have hFa : FT σ (sI σ 0 2 (nI (lk t e a))) := FT.at σ _
  have hX1 := h.tok hFa hT hlk.1
  revert hT hX1 hFa
  generalize sI σ 0 2 (nI (lk t e a)) = σ1
  intro hT hFa hX1
  have hF1 : FQ σ0 σ1 := hF.trans (FT.q hFa)
  have hlh := hX1.2.2.2.2.2
  have hby : (byI t e (lk t e a) = (91 : Int32)) = (bt t e (lk t e a) = 91) := byI_eq (h.1.1.2.2.2.1 _) (show 91 < 256 by decide)
  rw [hby]
  by_cases c91 : bt t e (lk t e a) = 91
  · refine ⟨fun z => absurd c91 z, fun _ => ?_⟩
    have hlt : lk t e a < e := by
      rcases Nat.lt_or_ge (lk t e a) e with w | w
      · exact w
      · unfold bt at c91; rw [if_neg (by omega)] at c91; omega
    rw [hT.2.1]
    refine ml_qOpens hX1 (by decide) (fun ho6 σ2 hF2 hX2 => ?_) (fun ho6 σ2 hF2 hB2 => ?_)
    · obtain ⟨r', hr'⟩ : ∃ r', r = r' + 1 := ⟨r - 1, by omega⟩
      obtain ⟨F, hrec, hA, hadv⟩ := hr1 r' hr'
      simp only [forall_eq]
      rw [hX2.1.2.1, show nI (lk t e a) + 1 = nI (lk t e a + 1) from nI_add _ 1]
      have hT3 := hX2.1.sign (c := 91) hlt (by rw [← bt_at (t := t) hlt]; exact c91) (by decide) (by decide)
      have hX3 := (hX2.tok (FT.at _ _) hT3).s (by simp; omega)
      have hF3 : FQ σ0 (sI σ2 0 2 (nI (lk t e a + 1))) := hF1.trans (hF2.q.trans (FT.q (FT.at _ _)))
      have hpa := pFa_sqS (AT := pAtom (alK kd) t e r) (F := F) c91
      rw [← hrec] at hpa
      refine ml_test hA hadv _ _ C (25 :: V) (o + 1) hF3 hX3 (by omega) (fun U' => ⟨(fun z => by cases z), (fun z => by cases z), (fun z => by cases z)⟩) (fun x hx => by rcases List.mem_cons.mp hx with z | z; omega; exact hV x z) (fun ds b' hp σ4 C4 Vp bb hbb hbe4 h86 h87 hF4 hX4 h14 hC4 => ?_) (fun q hp σ4 hF4 hB4 => hbd q (by rw [hpa, hp]; rfl) σ4 hF4 hB4)
      have hlb' : lk t e b' = b' := by rw [← hbb]; exact lk_lk hbe4
      have hpb : pFactG (pAtom (alK kd) t e r) rec t e a = pB (pSign 93 t e b') (fun _ b2 => .inl (ds, b2)) := by rw [hpa, hp]; rfl
      by_cases c93 : bt t e b' = 93
      · refine tF_close hX4 h14 (by rw [hbb]; exact c93) (fun σ5 hF5 hX5 => hok ds (b' + 1) ?_ σ5 (hF4.trans hF5) ?_)
        · rw [hpb]; unfold pSign; rw [hlb', if_pos c93]; rfl
        · rw [hC4, hbb] at hX5; exact hX5
      · refine tF_76 hX4 (Or.inl (by rw [hbb]; exact c93)) (fun σ5 hF5 hX5 => ml_tend hX5 (by rw [hbb, hlb']; exact h86) (by rw [hbb, hlb']; exact h87) (fun hn => absurd (by simp) hn) (fun _ σ6 hF6 hB6 => tK2_0 (xb _ σ6 (1, b') ?_ (hbd (1, b') ?_ σ6 (hF4.trans ((FT.q hF5).trans hF6)) ?_))))
        · rw [hbb, hlb'] at hB6; exact hB6
        · rw [hpb]; unfold pSign; rw [hlb', if_neg c93]; rfl
        · rw [hbb, hlb'] at hB6; exact hB6
    · simp only [forall_eq]
      refine bad _ _ (4, lk t e a) (hB2.at _) ?_ (hF1.trans ((FT.q hF2).trans (FT.q (FT.at _ _))))
      rw [hr0 (by omega)]; exact pFa_sqN c91
  · refine ⟨fun _ => ?_, fun z => absurd z c91⟩
    refine ml_is1 (k := 85) hT hll (by unfold mok; decide) (by decide) (by decide) (fun hw => ?_) (fun n85 => ?_)
    · refine ⟨fun z => absurd z (by decide), fun _ => ?_⟩
      have hws := wE_spec hw.1
      rw [hT.2.1]
      refine ml_qOpens hX1 (by decide) (fun ho6 σ2 hF2 hX2 => ?_) (fun ho6 σ2 hF2 hB2 => ml_needsB hB2 (bad _ _ _ hB2 ?_ (hF1.trans (FT.q hF2))))
      · obtain ⟨r', hr'⟩ : ∃ r', r = r' + 1 := ⟨r - 1, by omega⟩
        obtain ⟨F, hrec, hA, hadv⟩ := hr1 r' hr'
        have hpa := pFa_noS (AT := pAtom (alK kd) t e r) (F := F) hw
        rw [← hrec] at hpa
        refine ml_needsHere (k := 85) hX2.1 hll (by unfold mok; decide) (by decide) (by decide) hw (fun σ3 hF3 hT3 => ?_)
        have hX3 := (hX2.tok hF3 hT3).s (by simp; omega)
        have hF03 : FQ σ0 σ3 := hF1.trans (hF2.q.trans (FT.q hF3))
        refine hA σ3 _ C (12 :: V) (o + 1) hF03 hX3 (by omega) (fun x hx => by rcases List.mem_cons.mp hx with z | z; omega; exact hV x z) (fun cs b hat σ4 hF4 hX4 => ?_) (fun q hat σ4 hF4 hB4 => hbd q (by rw [hpa, hat]; rfl) σ4 hF4 hB4)
        refine tG_12 hX4 (fun σ5 hF5 hX5 => hok (cs ++ [12]) b (by rw [hpa, hat]; rfl) σ5 (hF4.trans hF5.q) ?_)
        rw [List.append_assoc] at hX5; exact hX5
      · rw [hr0 (by omega)]; exact pFa_noN hw
    · refine ⟨fun _ => ?_, fun z => absurd rfl z⟩
      have hfl : pFactG (pAtom (alK kd) t e (6 - o)) rec t e (lk t e a) = pFactG (pAtom (alK kd) t e r) rec t e a := by
        rw [hr6]
        unfold pFactG pSum pProd
        rw [hll, pAtom_lk hbe]
      refine ml_qFact (rec := rec) hX1 (by rw [hF1.1 51 (by decide)]; exact h51) hk hV (by rw [hll]; exact c91) (by rw [hll]; exact n85) (fun cs b hp σ2 hF2 hX2 => ?_) (fun q hp σ2 hF2 hB2 => ?_)
      · rw [hfl] at hp
        exact hok cs b hp σ2 (hF1.trans hF2) hX2 _ (fun σ' h5 hc => ⟨fun z => absurd h5 z, fun _ => hc⟩)
      · rw [hfl] at hp
        unfold mw_qDropsNots mw_qDropsNots_0
        intro X0 h0
        refine h0 σ2 ⟨fun _ => ⟨fun _ => xb _ σ2 q hB2 (hbd q hp σ2 (hF1.trans hF2) hB2), fun z => absurd z hB2.ne⟩, fun z => absurd z hB2.ne⟩
end
