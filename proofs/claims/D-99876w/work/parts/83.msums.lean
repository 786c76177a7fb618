/-! THE REFERENCE: products, sums, parts -/
theorem pB_inl {α β : Type} {q : α × Nat} {f : α → Nat → PR β} : pB (.inl q) f = f q.1 q.2 := rfl
theorem pB_inr {α β : Type} {q : Nat × Nat} {f : α → Nat → PR β} : pB (.inr q : PR α) f = .inr q := rfl
/-- it goes on, within the tape -/
def adv (e : Nat) (AT : Nat → PR (List Nat)) : Prop := ∀ a cs b, a ≤ e → AT a = .inl (cs, b) → (a < b ∧ a + cs.length ≤ b) ∧ b ≤ e
theorem pB_ok {α β : Type} {r : PR α} {f : α → Nat → PR β} {q : β × Nat} (h : pB r f = .inl q) : ∃ x b, r = .inl (x, b) ∧ f x b = .inl q := by
  cases r with
  | inl p => exact ⟨p.1, p.2, rfl, h⟩
  | inr p => cases h
theorem adv_chL {t : Nat → Nat} {e : Nat} {AT : Nat → PR (List Nat)} {ops : Nat → Nat} (h9 : ops 999 = 0) (hA : adv e AT) : ∀ (f : Nat) (cs : List Nat) (a : Nat) (ds : List Nat) (b : Nat), a ≤ e → chL AT ops t e f cs a = .inl (ds, b) → (a ≤ b ∧ ds.length + a ≤ cs.length + b) ∧ b ≤ e
  | 0, cs, a, ds, b, ha, h => by
    have := lk_spec (t := t) ha
    cases h; omega
  | f + 1, cs, a, ds, b, ha, h => by
    have hlk := lk_spec (t := t) ha
    unfold chL at h
    split at h
    · cases h; omega
    · rename_i hz
      have hlt : lk t e a < e := by
        rcases Nat.lt_or_ge (lk t e a) e with z | z
        · exact z
        · unfold bt at hz; rw [if_neg (by omega)] at hz; exact absurd h9 hz
      obtain ⟨x, b1, h1, h2⟩ := pB_ok h
      have := hA _ _ _ (by omega) h1
      have := adv_chL h9 hA f _ _ _ _ this.2 h2
      simp only [List.length_append, List.length_cons, List.length_nil] at this
      omega
theorem chL_fuel {t : Nat → Nat} {e : Nat} {AT : Nat → PR (List Nat)} {ops : Nat → Nat} (h9 : ops 999 = 0) (hA : adv e AT) : ∀ (f g : Nat) (cs : List Nat) (a : Nat), a ≤ e → e + 1 - a ≤ f → e + 1 - a ≤ g → chL AT ops t e f cs a = chL AT ops t e g cs a
  | 0, g, cs, a, ha, h1, h2 => by omega
  | f + 1, 0, cs, a, ha, h1, h2 => by omega
  | f + 1, g + 1, cs, a, ha, h1, h2 => by
    have hlk := lk_spec (t := t) ha
    unfold chL
    split
    · rfl
    · rename_i hz
      have hlt : lk t e a < e := by
        rcases Nat.lt_or_ge (lk t e a) e with z | z
        · exact z
        · unfold bt at hz; rw [if_neg (by omega)] at hz; exact absurd h9 hz
      cases hq : AT (lk t e a + 1) with
      | inr q => rfl
      | inl q =>
        have := hA _ q.1 q.2 (by omega) hq
        exact chL_fuel h9 hA f g _ _ (by omega) (by omega) (by omega)
theorem chL_lk {t : Nat → Nat} {e : Nat} {AT : Nat → PR (List Nat)} {ops : Nat → Nat} {f : Nat} {cs : List Nat} {a b : Nat} (h : lk t e a = lk t e b) : chL AT ops t e f cs a = chL AT ops t e f cs b := by
  cases f with
  | zero => unfold chL; rw [h]
  | succ f => unfold chL; rw [h]
theorem adv_prod {t : Nat → Nat} {e : Nat} {AT : Nat → PR (List Nat)} (hA : adv e AT) : adv e (pProd AT t e) := by
  intro a cs b ha h
  obtain ⟨x, b1, h1, h2⟩ := pB_ok h
  have q1 := hA _ _ _ ha h1
  have q2 := adv_chL (by decide) hA _ _ _ _ _ q1.2 h2
  omega
theorem adv_sum {t : Nat → Nat} {e : Nat} {AT : Nat → PR (List Nat)} (hA : adv e AT) : adv e (pSum AT t e) := by
  intro a cs b ha h
  obtain ⟨x, b1, h1, h2⟩ := pB_ok h
  have q1 := adv_prod hA _ _ _ ha h1
  have q2 := adv_chL (by decide) (adv_prod hA) _ _ _ _ _ q1.2 h2
  omega
theorem pSign_ok {c : Nat} {t : Nat → Nat} {e a b : Nat} (ha : a ≤ e) (hc : c < 999) (h : pSign c t e a = .inl ((), b)) : b = lk t e a + 1 ∧ lk t e a < e ∧ bt t e (lk t e a) = c := by
  unfold pSign at h
  split at h
  · rename_i z
    cases h
    refine ⟨rfl, ?_, z⟩
    rcases Nat.lt_or_ge (lk t e a) e with w | w
    · exact w
    · unfold bt at z; rw [if_neg (by omega)] at z; omega
  · cases h
theorem pWord_ok {t : Nat → Nat} {e a b : Nat} {q : List Nat × Nat} (ha : a ≤ e) (h : pWord t e a = .inl (q, b)) : hereW t e (lk t e a) q.1 ∧ q.2 = lk t e a ∧ b = wE t e (lk t e a) ∧ a < b ∧ b ≤ e := by
  have hlk := lk_spec (t := t) ha
  unfold pWord at h
  split at h
  · rename_i z
    have hw := wE_spec z.1
    cases h
    exact ⟨⟨z.1, z.2, rfl⟩, rfl, rfl, by omega, by omega⟩
  · cases h
theorem pNum_ok {t : Nat → Nat} {e a lo hi b : Nat} {q : Nat × Nat} (ha : a ≤ e) (h : pNum lo hi t e a = .inl (q, b)) : q.2 = lk t e a ∧ a < b ∧ b ≤ e ∧ lo ≤ q.1 ∧ q.1 ≤ hi := by
  have hlk := lk_spec (t := t) ha
  unfold pNum at h
  split at h
  · rename_i z
    split at h
    · cases h
    · split at h
      · rename_i z3
        have hlt : lk t e a < e := by
          rcases Nat.lt_or_ge (lk t e a) e with w | w
          · exact w
          · have := z.1; unfold bt at this; rw [if_neg (by omega)] at this; exact absurd this (by decide)
        have hd := dE_spec (t := t) hlk.2.1
        have hgt : lk t e a < dE t e (lk t e a) := by
          unfold dE
          rw [run_go (p := isDg) (t := t) hlt (by rw [← bt_at (t := t) hlt]; exact z.1)]
          have := (run_spec isDg t e _ (lk t e a + 1) rfl (by omega)).1
          omega
        cases h
        exact ⟨rfl, by omega, hd.2.1, z3.1, z3.2⟩
      · cases h
  · cases h
theorem adv_atomG {al : Nat → Bool} {t : Nat → Nat} {e : Nat} {rec : Option (Nat → PR (List Nat))} (hr : ∀ AT, rec = some AT → adv e AT) : adv e (pAtomG al rec t e) := by
  intro a cs b ha h
  have hlk := lk_spec (t := t) ha
  unfold pAtomG at h
  split at h
  · rename_i z
    cases rec with
    | none => cases h
    | some AT =>
      obtain ⟨x, b1, h1, h2⟩ := pB_ok h
      obtain ⟨_, b2, h3, h4⟩ := pB_ok h2
      have hlt : lk t e a < e := by
        rcases Nat.lt_or_ge (lk t e a) e with w | w
        · exact w
        · unfold bt at z; rw [if_neg (by omega)] at z; omega
      have q1 := adv_sum (hr AT rfl) _ _ _ (by omega) h1
      have q2 := pSign_ok q1.2 (by decide) h3
      have := lk_spec (t := t) q1.2
      cases h4
      omega
  · split at h
    · obtain ⟨x, b1, h1, h2⟩ := pB_ok h
      have := pNum_ok ha h1
      cases h2
      simp only [List.length_cons, List.length_nil]
      omega
    · obtain ⟨x, b1, h1, h2⟩ := pB_ok h
      have q1 := pWord_ok ha h1
      split at h2
      · cases h2; simp only [List.length_cons, List.length_nil]; omega
      · split at h2
        · cases rec with
          | none => cases h2
          | some AT =>
            obtain ⟨y, b2, h3, h4⟩ := pB_ok h2
            have := hr AT rfl _ _ _ q1.2.2.2.2 h3
            cases h4
            simp only [List.length_append, List.length_cons, List.length_nil]
            omega
        · split at h2
          · split at h2
            · rename_i z
              cases rec with
              | none => cases h2
              | some AT =>
                have hlk1 := lk_spec (t := t) q1.2.2.2.2
                have hlt : lk t e b1 < e := by
                  rcases Nat.lt_or_ge (lk t e b1) e with w | w
                  · exact w
                  · unfold bt at z; rw [if_neg (by omega)] at z; omega
                obtain ⟨y, b2, h3, h4⟩ := pB_ok h2
                obtain ⟨_, b3, h5, h6⟩ := pB_ok h4
                obtain ⟨y3, b4, h7, h8⟩ := pB_ok h6
                obtain ⟨_, b5, h9, h10⟩ := pB_ok h8
                have r1 := adv_sum (hr AT rfl) _ _ _ (by omega) h3
                have r2 := pSign_ok r1.2 (by decide) h5
                have r3 := lk_spec (t := t) r1.2
                have r4 := adv_sum (hr AT rfl) _ _ _ (by omega) h7
                have r5 := pSign_ok r4.2 (by decide) h9
                have r6 := lk_spec (t := t) r4.2
                cases h10
                simp only [List.length_append, List.length_cons, List.length_nil]
                omega
            · cases h2
          · cases h2
theorem adv_atom (al : Nat → Bool) (t : Nat → Nat) (e : Nat) : ∀ r, adv e (pAtom al t e r)
  | 0 => adv_atomG (fun _ h => by cases h)
  | r + 1 => adv_atomG (fun AT h => by cases h; exact adv_atom al t e r)
section
variable {t : Nat → Nat} {e : Nat} {W0 : List Nat} {B : Nat} {σ0 : FS} {X : Int32 → Int32 → FS → Prop} {x1 : Int32} {Q : FS → Prop}
/-- reading a part: what it comes to -/
def AtP (t : Nat → Nat) (e : Nat) (W0 : List Nat) (B : Nat) (σ0 : FS) (X : Int32 → Int32 → FS → Prop) (x1 : Int32) (Q : FS → Prop) (AT : Nat → PR (List Nat)) (r : Nat) : Prop :=
  ∀ (σ : FS) (a : Nat) (C V : List Nat) (o : Nat), FQ σ0 σ → Xs σ t e a C (V ++ W0) o B → o + r = 6 →
    (∀ cs b, AT a = .inl (cs, b) → ∀ σ', FQ σ0 σ' → Xs σ' t e b (C ++ cs) (V ++ W0) o B → cG X x1 Q σ') →
    (∀ q, AT a = .inr q → ∀ σ', FQ σ0 σ' → BdC σ' q → X x1 (nI 0) σ') → cE X x1 Q σ
def is34 (M : List Nat) : Prop := ∀ x ∈ M, x = 3 ∨ x = 4
def is14 (M : List Nat) : Prop := ∀ x ∈ M, 1 ≤ x ∧ x ≤ 4
theorem ml_mulL {AT : Nat → PR (List Nat)} {r o : Nat} {C0 U : List Nat} (hB : B = W0.length) (hW0 : ∀ x U', W0 = x :: U' → 4 < x) (hE : ∀ σ, fI σ 0 5 = nI 0 → cE X x1 Q σ → X x1 (nI 1) σ) (hA : AtP t e W0 B σ0 X x1 Q AT r) (hadv : adv e AT) (hor : o + r = 6) (hU : ∀ x U', U = x :: U' → x ≠ 3 ∧ x ≠ 4) :
    ∀ (f : Nat) (σ : FS) (b : Nat) (C Mp cs : List Nat), FQ σ0 σ → Xs σ t e b C (Mp ++ (U ++ W0)) o B → is34 Mp → C ++ Mp = C0 ++ cs → e + 1 - b ≤ f →
    (∀ ds b', chL AT opM t e f cs b = .inl (ds, b') → ∀ σ' C' Mp' bb, lk t e bb = b' → bb ≤ e → b ≤ bb → opM (bt t e b') = 0 → FQ σ0 σ' → Xs σ' t e bb C' (Mp' ++ (U ++ W0)) o B → is34 Mp' → C' ++ Mp' = C0 ++ ds → cF X x1 Q σ') →
    (∀ q, chL AT opM t e f cs b = .inr q → ∀ σ', FQ σ0 σ' → BdC σ' q → X x1 (nI 0) σ') → cF X x1 Q σ
  | 0, σ, b, C, Mp, cs, hF, h, hM, hC, hf, ho, hx => by
    have := h.1.2.2.1
    omega
  | f + 1, σ, b, C, Mp, cs, hF, h, hM, hC, hf, ho, hx => by
    have hbe := h.1.2.2.1
    have hlk := lk_spec (t := t) hbe
    by_cases hz : opM (bt t e (lk t e b)) = 0
    · refine ho cs (lk t e b) ?_ σ C Mp b rfl hbe (Nat.le_refl _) hz hF h hM hC
      unfold chL; rw [if_pos hz]
    · have h41 : bt t e (lk t e b) ≠ 41 := fun z => hz (by rw [z]; rfl)
      have hch : chL AT opM t e (f + 1) cs b = pB (AT (lk t e b + 1)) (fun ds b2 => chL AT opM t e f (cs ++ ds ++ [opM (bt t e (lk t e b))]) b2) := by
        conv => lhs; unfold chL
        rw [if_neg hz]
      have hop : opM (bt t e (lk t e b)) = 3 ∨ opM (bt t e (lk t e b)) = 4 := by
        unfold opM at hz ⊢
        split
        · exact Or.inl rfl
        · split
          · exact Or.inr rfl
          · rename_i z1 z2; rw [if_neg z1, if_neg z2] at hz; exact absurd rfl hz
      have hll := lk_lk (t := t) hbe
      have hUW : ∀ x U', U ++ W0 = x :: U' → x ≠ 3 ∧ x ≠ 4 := by
        intro x U' he
        cases U with
        | nil => have := hW0 x U' he; omega
        | cons y U => simp at he; rw [← he.1]; exact hU y U rfl
      refine cF_122 h h41 (fun σ1 hF1 hX1 => ml_gmul (U := U ++ W0) hX1 hM hUW (by rw [hll]; exact hz) (fun σ2 hF2 hX2 => ?_))
      rw [hll] at hX2
      have hF02 : FQ σ0 σ2 := hF.trans ((FT.q hF1).trans hF2)
      refine qK2_1 (hE σ2 hX2.1.2.2.2.1 ?_)
      refine hA σ2 _ (C ++ Mp) (opM (bt t e (lk t e b)) :: U) o hF02 hX2 hor (fun ds b2 hat σ3 hF3 hX3 => ?_) (fun q hat σ3 hF3 hB3 => ?_)
      · have hab := hadv _ _ _ hX2.1.2.2.1 hat
        refine cG_F (V := opM (bt t e (lk t e b)) :: U) hX3 hB (fun x V' he => by cases he; omega) ?_
        refine ml_mulL hB hW0 hE hA hadv hor hU f σ3 b2 (C ++ Mp ++ ds) [opM (bt t e (lk t e b))] (cs ++ ds ++ [opM (bt t e (lk t e b))]) hF3 hX3 (fun x hx => by simp at hx; rw [hx]; exact hop) ?_ (by omega) (fun ds' b' hc σ' C' Mp' bb h1 h2 h3 => ho ds' b' ?_ σ' C' Mp' bb h1 h2 (by omega)) (fun q hc => hx q ?_)
        · rw [hC]; simp
        · rw [hch, hat]; exact hc
        · rw [hch, hat]; exact hc
      · refine hx q ?_ σ3 hF3 hB3
        rw [hch, hat]; rfl
theorem ml_prod {AT : Nat → PR (List Nat)} {r o : Nat} (hB : B = W0.length) (hW0 : ∀ x U', W0 = x :: U' → 4 < x) (hE : ∀ σ, fI σ 0 5 = nI 0 → cE X x1 Q σ → X x1 (nI 1) σ) (hA : AtP t e W0 B σ0 X x1 Q AT r) (hadv : adv e AT) (hor : o + r = 6) {σ : FS} {a : Nat} {C U : List Nat} (hU : ∀ x U', U = x :: U' → x ≠ 3 ∧ x ≠ 4 ∧ x < 60) (hF : FQ σ0 σ) (h : Xs σ t e a C (U ++ W0) o B)
    (ho : ∀ ds b', pProd AT t e a = .inl (ds, b') → ∀ σ' C' Mp' bb, lk t e bb = b' → bb ≤ e → a < bb → opM (bt t e b') = 0 → FQ σ0 σ' → Xs σ' t e bb C' (Mp' ++ (U ++ W0)) o B → is34 Mp' → C' ++ Mp' = C ++ ds → cF X x1 Q σ')
    (hx : ∀ q, pProd AT t e a = .inr q → ∀ σ', FQ σ0 σ' → BdC σ' q → X x1 (nI 0) σ') : cE X x1 Q σ := by
  refine hA σ a C U o hF h hor (fun cs b hat σ1 hF1 hX1 => ?_) (fun q hat => hx q (by unfold pProd; rw [hat]; rfl))
  refine cG_F hX1 hB (fun x V' he => (hU x V' he).2.2) ?_
  have hp : pProd AT t e a = chL AT opM t e (e + 1 - b) cs b := by unfold pProd; rw [hat]; rfl
  have hab := hadv _ _ _ h.1.2.2.1 hat
  exact ml_mulL (C0 := C) hB hW0 hE hA hadv hor (fun x U' he => ⟨(hU x U' he).1, (hU x U' he).2.1⟩) (e + 1 - b) σ1 b (C ++ cs) [] cs hF1 hX1 (fun x hx => by cases hx) (by simp) (Nat.le_refl _) (fun ds b' hc σ' C' Mp' bb h1 h2 h3 => ho ds b' (by rw [hp]; exact hc) σ' C' Mp' bb h1 h2 (by omega)) (fun q hc => hx q (by rw [hp]; exact hc))
theorem ml_addL {AT : Nat → PR (List Nat)} {r o : Nat} {C0 V : List Nat} (hB : B = W0.length) (hW0 : ∀ x U', W0 = x :: U' → 4 < x) (hE : ∀ σ, fI σ 0 5 = nI 0 → cE X x1 Q σ → X x1 (nI 1) σ) (hA : AtP t e W0 B σ0 X x1 Q AT r) (hadv : adv e AT) (hor : o + r = 6) (hV : ∀ x U', V = x :: U' → 4 < x) :
    ∀ (f : Nat) (σ : FS) (b : Nat) (C Vp cs : List Nat), FQ σ0 σ → Xs σ t e b C (Vp ++ (V ++ W0)) o B → is14 Vp → C ++ Vp = C0 ++ cs → opM (bt t e (lk t e b)) = 0 → e + 1 - b ≤ f →
    (∀ ds b', chL (pProd AT t e) opA t e f cs b = .inl (ds, b') → ∀ σ' C' Vp' bb, lk t e bb = b' → bb ≤ e → opM (bt t e b') = 0 → opA (bt t e b') = 0 → FQ σ0 σ' → Xs σ' t e bb C' (Vp' ++ (V ++ W0)) o B → is14 Vp' → C' ++ Vp' = C0 ++ ds → cF X x1 Q σ') →
    (∀ q, chL (pProd AT t e) opA t e f cs b = .inr q → ∀ σ', FQ σ0 σ' → BdC σ' q → X x1 (nI 0) σ') → cF X x1 Q σ
  | 0, σ, b, C, Vp, cs, hF, h, hM, hC, hm, hf, ho, hx => by
    have := h.1.2.2.1
    omega
  | f + 1, σ, b, C, Vp, cs, hF, h, hM, hC, hm, hf, ho, hx => by
    have hbe := h.1.2.2.1
    have hlk := lk_spec (t := t) hbe
    by_cases hz : opA (bt t e (lk t e b)) = 0
    · refine ho cs (lk t e b) ?_ σ C Vp b rfl hbe hm hz hF h hM hC
      unfold chL; rw [if_pos hz]
    · have h41 : bt t e (lk t e b) ≠ 41 := fun z => hz (by rw [z]; rfl)
      have hch : chL (pProd AT t e) opA t e (f + 1) cs b = pB (pProd AT t e (lk t e b + 1)) (fun ds b2 => chL (pProd AT t e) opA t e f (cs ++ ds ++ [opA (bt t e (lk t e b))]) b2) := by
        conv => lhs; unfold chL
        rw [if_neg hz]
      have hop : opA (bt t e (lk t e b)) = 1 ∨ opA (bt t e (lk t e b)) = 2 := by
        unfold opA at hz ⊢
        split
        · exact Or.inl rfl
        · split
          · exact Or.inr rfl
          · rename_i z1 z2; rw [if_neg z1, if_neg z2] at hz; exact absurd rfl hz
      have hll := lk_lk (t := t) hbe
      have hUW : ∀ x U', V ++ W0 = x :: U' → 4 < x := by
        intro x U' he
        cases V with
        | nil => exact hW0 x U' he
        | cons y U => simp at he; rw [← he.1]; exact hV y U rfl
      refine cF_122 h h41 (fun σ1 hF1 hX1 => ml_gadd (U := V ++ W0) hX1 hM hUW (by rw [hll]; exact hz) (fun σ2 hF2 hX2 => ?_))
      rw [hll] at hX2
      have hF02 : FQ σ0 σ2 := hF.trans ((FT.q hF1).trans hF2)
      refine qK2_1 (hE σ2 hX2.1.2.2.2.1 ?_)
      refine ml_prod (U := opA (bt t e (lk t e b)) :: V) hB hW0 hE hA hadv hor (fun x U' he => by cases he; omega) hF02 hX2 (fun ds b2 hat σ3 C3 Mp3 bb hbb hbe3 habb hm3 hF3 hX3 hM3 hC3 => ?_) (fun q hat σ3 hF3 hB3 => ?_)
      · have hab := adv_prod hadv _ _ _ hX2.1.2.2.1 hat
        have hlb := lk_spec (t := t) hbe3
        have hbl : chL (pProd AT t e) opA t e f (cs ++ ds ++ [opA (bt t e (lk t e b))]) b2 = chL (pProd AT t e) opA t e f (cs ++ ds ++ [opA (bt t e (lk t e b))]) bb := by
          have e1 : lk t e b2 = lk t e bb := by rw [← hbb]; exact lk_lk hbe3
          cases f with
          | zero => unfold chL; rw [e1]
          | succ f => unfold chL; rw [e1]
        have hbf : e + 1 - bb ≤ f := by omega
        · refine ml_addL hB hW0 hE hA hadv hor hV f σ3 bb C3 (Mp3 ++ [opA (bt t e (lk t e b))]) (cs ++ ds ++ [opA (bt t e (lk t e b))]) hF3 (by simpa using hX3) (fun x hx => by
            rcases List.mem_append.mp hx with hx | hx
            · have := hM3 x hx; omega
            · simp at hx; omega) ?_ (by rw [hbb]; exact hm3) hbf (fun ds' b' hc => ho ds' b' ?_) (fun q hc => hx q ?_)
          · rw [← List.append_assoc, hC3, hC]; simp
          · rw [hch, hat, pB_inl]; show chL _ _ _ _ _ _ b2 = _; rw [hbl]; exact hc
          · rw [hch, hat, pB_inl]; show chL _ _ _ _ _ _ b2 = _; rw [hbl]; exact hc
      · refine hx q ?_ σ3 hF3 hB3
        rw [hch, hat]; rfl
def SuP (t : Nat → Nat) (e : Nat) (W0 : List Nat) (B : Nat) (σ0 : FS) (X : Int32 → Int32 → FS → Prop) (x1 : Int32) (Q : FS → Prop) (AT : Nat → PR (List Nat)) (r : Nat) : Prop :=
  ∀ (σ : FS) (a : Nat) (C V : List Nat) (o : Nat), FQ σ0 σ → Xs σ t e a C (V ++ W0) o B → o + r = 6 → (∀ x U', V = x :: U' → isBr x) →
    (∀ ds b', pSum AT t e a = .inl (ds, b') → ∀ σ' C' Vp' bb, lk t e bb = b' → bb ≤ e → opM (bt t e b') = 0 → opA (bt t e b') = 0 → FQ σ0 σ' → Xs σ' t e bb C' (Vp' ++ (V ++ W0)) o B → is14 Vp' → C' ++ Vp' = C ++ ds → cF X x1 Q σ') →
    (∀ q, pSum AT t e a = .inr q → ∀ σ', FQ σ0 σ' → BdC σ' q → X x1 (nI 0) σ') → cE X x1 Q σ
theorem ml_sum {AT : Nat → PR (List Nat)} {r : Nat} (hB : B = W0.length) (hW0 : ∀ x U', W0 = x :: U' → 4 < x) (hE : ∀ σ, fI σ 0 5 = nI 0 → cE X x1 Q σ → X x1 (nI 1) σ) (hA : AtP t e W0 B σ0 X x1 Q AT r) (hadv : adv e AT) : SuP t e W0 B σ0 X x1 Q AT r := by
  intro σ a C V o hF h hor hV ho hx
  have hV2 : ∀ x U', V = x :: U' → 20 ≤ x ∧ x ≤ 24 := hV
  refine ml_prod (U := V) hB hW0 hE hA hadv hor (fun x U' he => by have := hV2 x U' he; omega) hF h (fun ds b2 hat σ3 C3 Mp3 bb hbb hbe3 habb hm3 hF3 hX3 hM3 hC3 => ?_) (fun q hat => hx q (by unfold pSum; rw [hat]; rfl))
  have e1 : lk t e b2 = lk t e bb := by rw [← hbb]; exact lk_lk hbe3
  have hlb := lk_spec (t := t) hbe3
  have hbl : ∀ cs, chL (pProd AT t e) opA t e (e + 1 - b2) cs b2 = chL (pProd AT t e) opA t e (e + 1 - bb) cs bb := by
    intro cs
    rw [chL_fuel (by decide) (adv_prod hadv) (e + 1 - b2) (e + 1 - bb) cs b2 (by omega) (by omega) (by omega)]
    exact chL_lk e1
  have hp : pSum AT t e a = chL (pProd AT t e) opA t e (e + 1 - bb) ds bb := by unfold pSum; rw [hat, pB_inl]; exact hbl ds
  exact ml_addL (C0 := C) (V := V) hB hW0 hE hA hadv hor (fun x U' he => by have := hV2 x U' he; omega) (e + 1 - bb) σ3 bb C3 Mp3 ds hF3 hX3 (fun x hx => by have := hM3 x hx; omega) hC3 (by rw [hbb]; exact hm3) (Nat.le_refl _) (fun ds b' hc => ho ds b' (by rw [hp]; exact hc)) (fun q hc => hx q (by rw [hp]; exact hc))
end
