/-! THE REFERENCE: and, or, the end of a test -/
section
variable {t : Nat → Nat} {e : Nat} {B : Nat} {σ0 : FS} {X : Int32 → FS → Prop} {Q : FS → Prop}
theorem ml_tand {σ : FS} {b : Nat} {C Mp U : List Nat} {o : Nat} {Q : Int32 → FS → Prop} (h : Xs σ t e b C (Mp ++ U) o B) (hM : ∀ x ∈ Mp, x = 10) (hU : ∀ U', U ≠ 10 :: U') (hw : hereW t e (lk t e b) (str 86)) (hQ : ∀ σ', FQ σ σ' → Xs σ' t e (wE t e (lk t e b)) (C ++ Mp) (10 :: U) o B → Q (nI 1) σ') : mw_qGoesOnTest_76 σ Q := by
  have hlk := lk_spec (t := t) h.1.2.2.1
  have hws := wE_spec hw.1
  have hl0 := h.2.2.2.2.2
  unfold mw_qGoesOnTest_76
  refine ml_takes (k := 86) h.1 (by unfold mok; decide) (by decide) (by decide) (fun σ1 _ hF1 hT1 => ⟨fun z => absurd z (by decide), fun _ => ?_⟩) (fun σ1 hn => absurd hw hn)
  have hX1 := h.tok hF1 hT1 (by omega)
  have hlt : C.length + (Mp ++ U).length < wE t e (lk t e b) := by omega
  have hF1' := FT.q hF1
  unfold mw_qGoesOnTest_87
  intro X8 h8
  clear hT1 hl0 hF1
  clear h
  induction Mp generalizing C σ1 with
  | nil =>
    have hle := hX1.1.le
    simp only [List.nil_append] at hX1 hlt
    refine h8 σ1 (ml_qIsOn hX1.2.2.1 (by omega) (by decide) (fun W' hw => absurd hw (hU W')) (fun _ => ⟨fun _ => ?_, fun z => absurd rfl z⟩))
    rw [hX1.2.2.1.1]
    simp (disch := omega) only [i_0, i_1, i_2, i_3, i_4, i_5, i_6, i_7, i_8, i_9, i_10, i_11, i_12, i_13, i_16, i_19, i_20, i_21, i_22, i_23, i_24, i_25, i_30, i_31, i_32, i_39, i_40, i_41, i_42, i_43, i_44, i_45, i_47, i_48, i_49, i_50, i_51, i_52, i_57, i_59, i_60, i_61, i_62, i_63, i_64, i_71, i_72, i_80, i_91, i_93, i_97, i_99, i_100, i_122, i_227, i_228, i_232, i_251, i_255, i_256, i_463, i_999, i_1000, i_1519, i_1600, i_9999, i_100000000, i_2147483639, i_2147483647, neg_nI1, nI_add, pk_mul, nI_remL, pk_sub, pk_div, nI_clamp, nI_leI, nI_ltI, nI_eq, vpT, nI_m1, m1_nI, nI_lem1, m1_le, m1_lt, nI_ltm1, nI_bit, nI_shl, nI_xor, nI_or, n_rem, forall_eq, true_and, and_true, implies_true, true_implies, false_implies, not_true_eq_false, not_false_eq_true, Nat.zero_add, Nat.add_zero, ite_true, ite_false, if_true, if_false, true_or, or_true, false_or, or_false, and_self, and_false, false_and, Nat.reduceEqDiff, reduceIte, fI_sI, fI_sL, fI_sA, fI_sB, fL_sI, fL_sL, fL_sA, fL_sB, fA_sI, fA_sL, fA_sA, fA_sB, fB_sI, fB_sL, fB_sA, fB_sB]
    rw [hX1.2.2.1.1, nI_add]
    obtain ⟨p1, p2⟩ := Xs.push (w := 10) hX1 (by decide) hlt
    exact hQ _ (hF1'.trans p2.q) (by rw [List.append_nil]; exact p1)
  | cons x Mp ih =>
    have hle := hX1.1.le
    have hx := hM x List.mem_cons_self
    refine h8 σ1 (ml_qIsOn hX1.2.2.1 (by omega) (by decide) (fun W' hw => ⟨fun z => absurd z (by decide), fun _ => ml_qDrops hX1 (fun σ3 hF3 hX3 => ih (C := C ++ [x]) (fun y hy => hM y (List.mem_cons_of_mem _ hy)) (fun σ4 hF4 hX4 => hQ σ4 hF4 (by rw [List.append_assoc] at hX4; exact hX4)) σ3 hX3 (by simp at hlt ⊢; omega) (hF1'.trans hF3.q))⟩) (fun hn => absurd (by rw [hx]; rfl) (hn (Mp ++ U))))
theorem ml_tor {σ : FS} {b : Nat} {C Mp U : List Nat} {o : Nat} {Q : Int32 → FS → Prop} (h : Xs σ t e b C (Mp ++ U) o B) (hM : ∀ x ∈ Mp, x = 10 ∨ x = 11) (hU : ∀ U', U ≠ 10 :: U' ∧ U ≠ 11 :: U') (hn86 : ¬ hereW t e (lk t e b) (str 86)) (hw : hereW t e (lk t e b) (str 87)) (hQ : ∀ σ', FQ σ σ' → Xs σ' t e (wE t e (lk t e b)) (C ++ Mp) (11 :: U) o B → Q (nI 1) σ') : mw_qGoesOnTest_76 σ Q := by
  have hlk := lk_spec (t := t) h.1.2.2.1
  have hll := lk_lk (t := t) h.1.2.2.1
  have hws := wE_spec hw.1
  have hl0 := h.2.2.2.2.2
  unfold mw_qGoesOnTest_76
  refine ml_takes (k := 86) h.1 (by unfold mok; decide) (by decide) (by decide) (fun σ1 hy => absurd hy hn86) (fun σ1 _ hF1 hT1 => ⟨fun _ => ?_, fun z => absurd rfl z⟩)
  refine ml_takes (k := 87) hT1 (by unfold mok; decide) (by decide) (by decide) (fun σ2 _ hF2 hT2 => ⟨fun z => absurd z (by decide), fun _ => ?_⟩) (fun σ2 hn => absurd (by rw [hll]; exact hw) hn)
  rw [hll] at hT2
  have hX1 := h.tok (hF1.trans hF2) hT2 (by omega)
  have hlt : C.length + (Mp ++ U).length < wE t e (lk t e b) := by omega
  have hF1' := FT.q (hF1.trans hF2)
  unfold mw_qGoesOnTest_137
  intro X8 h8
  clear hT1 hl0 hT2 hF2 hF1
  clear h
  induction Mp generalizing C σ2 with
  | nil =>
    have hle := hX1.1.le
    simp only [List.nil_append] at hX1 hlt
    refine h8 σ2 (ml_qIsOn hX1.2.2.1 (by omega) (by decide) (fun W' hw => absurd hw (hU W').1) (fun _ => ⟨fun z => absurd rfl z, fun _ => ml_qIsOn hX1.2.2.1 (by omega) (by decide) (fun W' hw => absurd hw (hU W').2) (fun _ => ⟨fun _ => ?_, fun z => absurd rfl z⟩)⟩))
    rw [hX1.2.2.1.1]
    simp (disch := omega) only [i_0, i_1, i_2, i_3, i_4, i_5, i_6, i_7, i_8, i_9, i_10, i_11, i_12, i_13, i_16, i_19, i_20, i_21, i_22, i_23, i_24, i_25, i_30, i_31, i_32, i_39, i_40, i_41, i_42, i_43, i_44, i_45, i_47, i_48, i_49, i_50, i_51, i_52, i_57, i_59, i_60, i_61, i_62, i_63, i_64, i_71, i_72, i_80, i_91, i_93, i_97, i_99, i_100, i_122, i_227, i_228, i_232, i_251, i_255, i_256, i_463, i_999, i_1000, i_1519, i_1600, i_9999, i_100000000, i_2147483639, i_2147483647, neg_nI1, nI_add, pk_mul, nI_remL, pk_sub, pk_div, nI_clamp, nI_leI, nI_ltI, nI_eq, vpT, nI_m1, m1_nI, nI_lem1, m1_le, m1_lt, nI_ltm1, nI_bit, nI_shl, nI_xor, nI_or, n_rem, forall_eq, true_and, and_true, implies_true, true_implies, false_implies, not_true_eq_false, not_false_eq_true, Nat.zero_add, Nat.add_zero, ite_true, ite_false, if_true, if_false, true_or, or_true, false_or, or_false, and_self, and_false, false_and, Nat.reduceEqDiff, reduceIte, fI_sI, fI_sL, fI_sA, fI_sB, fL_sI, fL_sL, fL_sA, fL_sB, fA_sI, fA_sL, fA_sA, fA_sB, fB_sI, fB_sL, fB_sA, fB_sB]
    rw [hX1.2.2.1.1, nI_add]
    obtain ⟨p1, p2⟩ := Xs.push (w := 11) hX1 (by decide) hlt
    exact hQ _ (hF1'.trans p2.q) (by rw [List.append_nil]; exact p1)
  | cons x Mp ih =>
    have hle := hX1.1.le
    have hx := hM x List.mem_cons_self
    have drop : mw_qGoesOnTest_155 X8 σ2 Q := ml_qDrops hX1 (fun σ3 hF3 hX3 => ih (C := C ++ [x]) (fun y hy => hM y (List.mem_cons_of_mem _ hy)) (fun σ4 hF4 hX4 => hQ σ4 hF4 (by rw [List.append_assoc] at hX4; exact hX4)) σ3 hX3 (by simp at hlt ⊢; omega) (hF1'.trans hF3.q))
    refine h8 σ2 (ml_qIsOn hX1.2.2.1 (by omega) (by decide) (fun W' hw => ⟨fun _ => drop, fun z => absurd z (by decide)⟩) (fun hn => ⟨fun z => absurd rfl z, fun _ => ml_qIsOn hX1.2.2.1 (by omega) (by decide) (fun W' hw => ⟨fun z => absurd z (by decide), fun _ => drop⟩) (fun hn2 => ?_)⟩))
    rcases hx with hx | hx
    · exact absurd (by rw [hx]; rfl) (hn (Mp ++ U))
    · exact absurd (by rw [hx]; rfl) (hn2 (Mp ++ U))
theorem ml_tend {σ : FS} {b : Nat} {C V : List Nat} {o : Nat} {Q : Int32 → FS → Prop} (h : Xs σ t e b C V o B) (h86 : ¬ hereW t e (lk t e b) (str 86)) (h87 : ¬ hereW t e (lk t e b) (str 87)) (hn : 25 ∉ V → ∀ σ', FT σ σ' → Xs σ' t e (lk t e b) C V o B → Q (nI 0) σ') (hy : 25 ∈ V → ∀ σ', FQ σ σ' → Bd σ' (1, lk t e b) → Q (nI 0) σ') : mw_qGoesOnTest_76 σ Q := by
  have hlk := lk_spec (t := t) h.1.2.2.1
  have hll := lk_lk (t := t) h.1.2.2.1
  have hl0 := h.2.2.2.2.2
  have hle := h.1.le
  unfold mw_qGoesOnTest_76
  refine ml_takes (k := 86) h.1 (by unfold mok; decide) (by decide) (by decide) (fun σ1 hy => absurd hy h86) (fun σ1 _ hF1 hT1 => ⟨fun _ => ?_, fun z => absurd rfl z⟩)
  refine ml_takes (k := 87) hT1 (by unfold mok; decide) (by decide) (by decide) (fun σ2 hy _ _ => absurd (by rw [hll] at hy; exact hy) h87) (fun σ2 _ hF2 hT2 => ⟨fun _ => ⟨fun z => absurd hT2.2.2.2.1 z, fun _ => ?_⟩, fun z => absurd rfl z⟩)
  rw [hll] at hT2
  have hF := hF1.trans hF2
  have hX2 := h.tok hF hT2 (by omega)
  refine ml_hasSq hX2.2.2.1 (by omega) (fun hm => ⟨fun z => absurd z (by decide), fun _ => ?_⟩) (fun hm => ⟨fun _ => hn hm σ2 hF hX2, fun z => absurd rfl z⟩)
  rw [hT2.2.1]
  refine ml_fail (q := (1, lk t e b)) hT2.2.2.2.1 (by simp) (fun σ5 hF5 hB5 => hy hm σ5 ?_ ?_)
  · exact (FT.q hF).trans (hF5.wide (by decide) (by decide) (by decide))
  · exact hB5
/-- a fact read: what it comes to -/
def FaP (t : Nat → Nat) (e B : Nat) (σ0 : FS) (X : Int32 → FS → Prop) (Q : FS → Prop) (F : Nat → PR (List Nat)) (r : Nat) : Prop :=
  ∀ (σ : FS) (a : Nat) (C V : List Nat) (o : Nat), FQ σ0 σ → Xs σ t e a C V o B → o + r = 6 → (∀ x ∈ V, 4 < x) →
    (∀ cs b, F a = .inl (cs, b) → ∀ σ', FQ σ0 σ' → Xs σ' t e b (C ++ cs) V o B → tG X Q σ') →
    (∀ q, F a = .inr q → ∀ σ', FQ σ0 σ' → Bd σ' q → Q σ') → X (nI 1) σ
theorem adv_lpL {t : Nat → Nat} {e : Nat} {F : Nat → PR (List Nat)} {w : List Nat} {o : Nat} (hA : adv e F) : ∀ (f : Nat) (cs : List Nat) (a : Nat) (ds : List Nat) (b : Nat), a ≤ e → lpL F w o t e f cs a = .inl (ds, b) → (a ≤ b ∧ ds.length + a ≤ cs.length + b) ∧ b ≤ e
  | 0, cs, a, ds, b, ha, h => by
    have := lk_spec (t := t) ha
    cases h; omega
  | f + 1, cs, a, ds, b, ha, h => by
    have hlk := lk_spec (t := t) ha
    unfold lpL at h
    split at h
    · rename_i hz
      have hws := wE_spec (isW_iff.mp hz).1
      obtain ⟨x, b1, h1, h2⟩ := pB_ok h
      have := hA _ _ _ (by omega) h1
      have := adv_lpL hA f _ _ _ _ this.2 h2
      simp only [List.length_append, List.length_cons, List.length_nil] at this
      omega
    · cases h; omega
theorem lpL_fuel {t : Nat → Nat} {e : Nat} {F : Nat → PR (List Nat)} {w : List Nat} {o : Nat} (hA : adv e F) : ∀ (f g : Nat) (cs : List Nat) (a : Nat), a ≤ e → e + 1 - a ≤ f → e + 1 - a ≤ g → lpL F w o t e f cs a = lpL F w o t e g cs a
  | 0, g, cs, a, ha, h1, h2 => by omega
  | f + 1, 0, cs, a, ha, h1, h2 => by omega
  | f + 1, g + 1, cs, a, ha, h1, h2 => by
    have hlk := lk_spec (t := t) ha
    unfold lpL
    split
    · rename_i hz
      have hws := wE_spec (isW_iff.mp hz).1
      cases hq : F (wE t e (lk t e a)) with
      | inr q => rfl
      | inl q =>
        have := hA _ q.1 q.2 (by omega) hq
        exact lpL_fuel hA f g _ _ (by omega) (by omega) (by omega)
    · rfl
theorem lpL_lk {t : Nat → Nat} {e : Nat} {F : Nat → PR (List Nat)} {w : List Nat} {o f : Nat} {cs : List Nat} {a b : Nat} (h : lk t e a = lk t e b) : lpL F w o t e f cs a = lpL F w o t e f cs b := by
  cases f with
  | zero => unfold lpL; rw [h]
  | succ f => unfold lpL; rw [h]
theorem adv_both {t : Nat → Nat} {e : Nat} {F : Nat → PR (List Nat)} (hA : adv e F) : adv e (pBoth F t e) := by
  intro a cs b ha h
  obtain ⟨x, b1, h1, h2⟩ := pB_ok h
  have q1 := hA _ _ _ ha h1
  have q2 := adv_lpL hA _ _ _ _ _ q1.2 h2
  omega
theorem adv_test {t : Nat → Nat} {e : Nat} {F : Nat → PR (List Nat)} (hA : adv e F) : adv e (pTest F t e) := by
  intro a cs b ha h
  obtain ⟨x, b1, h1, h2⟩ := pB_ok h
  have q1 := adv_both hA _ _ _ ha h1
  have q2 := adv_lpL (adv_both hA) _ _ _ _ _ q1.2 h2
  omega
theorem ml_andL {F : Nat → PR (List Nat)} {r o : Nat} {C0 U : List Nat} (hA : FaP t e B σ0 X Q F r) (hadv : adv e F) (hor : o + r = 6) (hU : ∀ U', U ≠ 10 :: U') (hU4 : ∀ x ∈ U, 4 < x) :
    ∀ (f : Nat) (σ : FS) (b : Nat) (C Mp cs : List Nat), FQ σ0 σ → Xs σ t e b C (Mp ++ U) o B → (∀ x ∈ Mp, x = 10) → C ++ Mp = C0 ++ cs → e + 1 - b ≤ f →
    (∀ ds b', lpL F (str 86) 10 t e f cs b = .inl (ds, b') → ∀ σ' C' Mp' bb, lk t e bb = b' → bb ≤ e → b ≤ bb → ¬ hereW t e b' (str 86) → FQ σ0 σ' → Xs σ' t e bb C' (Mp' ++ U) o B → (∀ x ∈ Mp', x = 10) → C' ++ Mp' = C0 ++ ds → tF X Q σ') →
    (∀ q, lpL F (str 86) 10 t e f cs b = .inr q → ∀ σ', FQ σ0 σ' → Bd σ' q → Q σ') → tF X Q σ
  | 0, σ, b, C, Mp, cs, hF, h, hM, hC, hf, ho, hx => by
    have := h.1.2.2.1
    omega
  | f + 1, σ, b, C, Mp, cs, hF, h, hM, hC, hf, ho, hx => by
    have hbe := h.1.2.2.1
    have hlk := lk_spec (t := t) hbe
    by_cases hz : hereW t e (lk t e b) (str 86)
    · have hws := wE_spec hz.1
      have hch : lpL F (str 86) 10 t e (f + 1) cs b = pB (F (wE t e (lk t e b))) (fun ds b2 => lpL F (str 86) 10 t e f (cs ++ ds ++ [10]) b2) := by
        conv => lhs; unfold lpL
        rw [if_pos (isW_iff.mpr hz)]
      have hll := lk_lk (t := t) hbe
      have h93 : bt t e (lk t e b) ≠ 93 := fun z => by have := hz.1; rw [z] at this; exact absurd this (by decide)
      refine tF_76 h (Or.inl h93) (fun σ1 hF1 hX1 => ml_tand hX1 hM hU (by rw [hll]; exact hz) (fun σ2 hF2 hX2 => ?_))
      rw [hll] at hX2
      have hF02 : FQ σ0 σ2 := hF.trans ((FT.q hF1).trans hF2)
      refine tK2_1 ?_
      refine hA σ2 _ (C ++ Mp) (10 :: U) o hF02 hX2 hor (fun x hx => by rcases List.mem_cons.mp hx with z | z; omega; exact hU4 x z) (fun ds b2 hat σ3 hF3 hX3 => ?_) (fun q hat σ3 hF3 hB3 => hx q (by rw [hch, hat]; rfl) σ3 hF3 hB3)
      have hab := hadv _ _ _ hX2.1.2.2.1 hat
      refine tG_F hX3 (fun V' he => by cases he) ?_
      refine ml_andL hA hadv hor hU hU4 f σ3 b2 (C ++ Mp ++ ds) [10] (cs ++ ds ++ [10]) hF3 hX3 (fun x hx => by simpa using hx) ?_ (by omega) (fun ds' b' hc σ' C' Mp' bb h1 h2 h3 => ho ds' b' ?_ σ' C' Mp' bb h1 h2 (by omega)) (fun q hc => hx q ?_)
      · rw [hC]; simp
      · rw [hch, hat]; exact hc
      · rw [hch, hat]; exact hc
    · refine ho cs (lk t e b) ?_ σ C Mp b rfl hbe (Nat.le_refl _) hz hF h hM hC
      unfold lpL; rw [if_neg (fun z => hz (isW_iff.mp z))]
theorem ml_both {F : Nat → PR (List Nat)} {r o : Nat} (hA : FaP t e B σ0 X Q F r) (hadv : adv e F) (hor : o + r = 6) {σ : FS} {a : Nat} {C U : List Nat} (hU : ∀ U', U ≠ 10 :: U' ∧ U ≠ 12 :: U') (hU4 : ∀ x ∈ U, 4 < x) (hF : FQ σ0 σ) (h : Xs σ t e a C U o B)
    (ho : ∀ ds b', pBoth F t e a = .inl (ds, b') → ∀ σ' C' Mp' bb, lk t e bb = b' → bb ≤ e → a < bb → ¬ hereW t e b' (str 86) → FQ σ0 σ' → Xs σ' t e bb C' (Mp' ++ U) o B → (∀ x ∈ Mp', x = 10) → C' ++ Mp' = C ++ ds → tF X Q σ')
    (hx : ∀ q, pBoth F t e a = .inr q → ∀ σ', FQ σ0 σ' → Bd σ' q → Q σ') : X (nI 1) σ := by
  refine hA σ a C U o hF h hor hU4 (fun cs b hat σ1 hF1 hX1 => ?_) (fun q hat => hx q (by unfold pBoth; rw [hat]; rfl))
  refine tG_F hX1 (fun V' => (hU V').2) ?_
  have hp : pBoth F t e a = lpL F (str 86) 10 t e (e + 1 - b) cs b := by unfold pBoth; rw [hat]; rfl
  have hab := hadv _ _ _ h.1.2.2.1 hat
  exact ml_andL (C0 := C) hA hadv hor (fun U' => (hU U').1) hU4 (e + 1 - b) σ1 b (C ++ cs) [] cs hF1 hX1 (fun x hx => by cases hx) (by simp) (Nat.le_refl _) (fun ds b' hc σ' C' Mp' bb h1 h2 h3 => ho ds b' (by rw [hp]; exact hc) σ' C' Mp' bb h1 h2 (by omega)) (fun q hc => hx q (by rw [hp]; exact hc))
theorem ml_orL {F : Nat → PR (List Nat)} {r o : Nat} {C0 V : List Nat} (hA : FaP t e B σ0 X Q F r) (hadv : adv e F) (hor : o + r = 6) (hV : ∀ U', V ≠ 10 :: U' ∧ V ≠ 11 :: U') (hV4 : ∀ x ∈ V, 4 < x) :
    ∀ (f : Nat) (σ : FS) (b : Nat) (C Vp cs : List Nat), FQ σ0 σ → Xs σ t e b C (Vp ++ V) o B → (∀ x ∈ Vp, x = 10 ∨ x = 11) → C ++ Vp = C0 ++ cs → ¬ hereW t e (lk t e b) (str 86) → e + 1 - b ≤ f →
    (∀ ds b', lpL (pBoth F t e) (str 87) 11 t e f cs b = .inl (ds, b') → ∀ σ' C' Vp' bb, lk t e bb = b' → bb ≤ e → ¬ hereW t e b' (str 86) → ¬ hereW t e b' (str 87) → FQ σ0 σ' → Xs σ' t e bb C' (Vp' ++ V) o B → (∀ x ∈ Vp', x = 10 ∨ x = 11) → C' ++ Vp' = C0 ++ ds → tF X Q σ') →
    (∀ q, lpL (pBoth F t e) (str 87) 11 t e f cs b = .inr q → ∀ σ', FQ σ0 σ' → Bd σ' q → Q σ') → tF X Q σ
  | 0, σ, b, C, Vp, cs, hF, h, hM, hC, hm, hf, ho, hx => by
    have := h.1.2.2.1
    omega
  | f + 1, σ, b, C, Vp, cs, hF, h, hM, hC, hm, hf, ho, hx => by
    have hbe := h.1.2.2.1
    have hlk := lk_spec (t := t) hbe
    by_cases hz : hereW t e (lk t e b) (str 87)
    · have hws := wE_spec hz.1
      have hch : lpL (pBoth F t e) (str 87) 11 t e (f + 1) cs b = pB (pBoth F t e (wE t e (lk t e b))) (fun ds b2 => lpL (pBoth F t e) (str 87) 11 t e f (cs ++ ds ++ [11]) b2) := by
        conv => lhs; unfold lpL
        rw [if_pos (isW_iff.mpr hz)]
      have hll := lk_lk (t := t) hbe
      have h93 : bt t e (lk t e b) ≠ 93 := fun z => by have := hz.1; rw [z] at this; exact absurd this (by decide)
      refine tF_76 h (Or.inl h93) (fun σ1 hF1 hX1 => ml_tor hX1 hM hV (by rw [hll]; exact hm) (by rw [hll]; exact hz) (fun σ2 hF2 hX2 => ?_))
      rw [hll] at hX2
      have hF02 : FQ σ0 σ2 := hF.trans ((FT.q hF1).trans hF2)
      refine tK2_1 ?_
      refine ml_both (U := 11 :: V) hA hadv hor (fun U' => ⟨(fun he => by cases he), (fun he => by cases he)⟩) (fun x hx => by rcases List.mem_cons.mp hx with z | z; omega; exact hV4 x z) hF02 hX2 (fun ds b2 hat σ3 C3 Mp3 bb hbb hbe3 habb hm3 hF3 hX3 hM3 hC3 => ?_) (fun q hat σ3 hF3 hB3 => hx q (by rw [hch, hat]; rfl) σ3 hF3 hB3)
      have hlb := lk_spec (t := t) hbe3
      have hbl : lpL (pBoth F t e) (str 87) 11 t e f (cs ++ ds ++ [11]) b2 = lpL (pBoth F t e) (str 87) 11 t e f (cs ++ ds ++ [11]) bb := lpL_lk (by rw [← hbb]; exact lk_lk hbe3)
      refine ml_orL hA hadv hor hV hV4 f σ3 bb C3 (Mp3 ++ [11]) (cs ++ ds ++ [11]) hF3 (by simpa using hX3) (fun x hx => by
            rcases List.mem_append.mp hx with hx | hx
            · exact Or.inl (hM3 x hx)
            · simp at hx; exact Or.inr hx) ?_ (by rw [hbb]; exact hm3) (by omega) (fun ds' b' hc => ho ds' b' ?_) (fun q hc => hx q ?_)
      · rw [← List.append_assoc, hC3, hC]; simp
      · rw [hch, hat, pB_inl]; show lpL _ _ _ _ _ _ _ b2 = _; rw [hbl]; exact hc
      · rw [hch, hat, pB_inl]; show lpL _ _ _ _ _ _ _ b2 = _; rw [hbl]; exact hc
    · refine ho cs (lk t e b) ?_ σ C Vp b rfl hbe hm hz hF h hM hC
      unfold lpL; rw [if_neg (fun z => hz (isW_iff.mp z))]
def TeP (t : Nat → Nat) (e B : Nat) (σ0 : FS) (X : Int32 → FS → Prop) (Q : FS → Prop) (F : Nat → PR (List Nat)) (r : Nat) : Prop :=
  ∀ (σ : FS) (a : Nat) (C V : List Nat) (o : Nat), FQ σ0 σ → Xs σ t e a C V o B → o + r = 6 → (∀ U', V ≠ 10 :: U' ∧ V ≠ 11 :: U' ∧ V ≠ 12 :: U') → (∀ x ∈ V, 4 < x) →
    (∀ ds b', pTest F t e a = .inl (ds, b') → ∀ σ' C' Vp' bb, lk t e bb = b' → bb ≤ e → ¬ hereW t e b' (str 86) → ¬ hereW t e b' (str 87) → FQ σ0 σ' → Xs σ' t e bb C' (Vp' ++ V) o B → (∀ x ∈ Vp', x = 10 ∨ x = 11) → C' ++ Vp' = C ++ ds → tF X Q σ') →
    (∀ q, pTest F t e a = .inr q → ∀ σ', FQ σ0 σ' → Bd σ' q → Q σ') → X (nI 1) σ
theorem ml_test {F : Nat → PR (List Nat)} {r : Nat} (hA : FaP t e B σ0 X Q F r) (hadv : adv e F) : TeP t e B σ0 X Q F r := by
  intro σ a C V o hF h hor hV hV4 ho hx
  refine ml_both (U := V) hA hadv hor (fun U' => ⟨(hV U').1, (hV U').2.2⟩) hV4 hF h (fun ds b2 hat σ3 C3 Mp3 bb hbb hbe3 habb hm3 hF3 hX3 hM3 hC3 => ?_) (fun q hat => hx q (by unfold pTest; rw [hat]; rfl))
  have e1 : lk t e b2 = lk t e bb := by rw [← hbb]; exact lk_lk hbe3
  have hlb := lk_spec (t := t) hbe3
  have hbl : ∀ cs, lpL (pBoth F t e) (str 87) 11 t e (e + 1 - b2) cs b2 = lpL (pBoth F t e) (str 87) 11 t e (e + 1 - bb) cs bb := by
    intro cs
    rw [lpL_fuel (adv_both hadv) (e + 1 - b2) (e + 1 - bb) cs b2 (by omega) (by omega) (by omega)]
    exact lpL_lk e1
  have hp : pTest F t e a = lpL (pBoth F t e) (str 87) 11 t e (e + 1 - bb) ds bb := by unfold pTest; rw [hat, pB_inl]; exact hbl ds
  exact ml_orL (C0 := C) (V := V) hA hadv hor (fun U' => ⟨(hV U').1, (hV U').2.1⟩) hV4 (e + 1 - bb) σ3 bb C3 Mp3 ds hF3 hX3 (fun x hx => Or.inl (hM3 x hx)) hC3 (by rw [hbb]; exact hm3) (Nat.le_refl _) (fun ds b' hc => ho ds b' (by rw [hp]; exact hc)) (fun q hc => hx q (by rw [hp]; exact hc))
end
