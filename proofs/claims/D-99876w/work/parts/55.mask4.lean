/-! THE REFERENCE: a shrug -/
theorem hiS_some {h : Nat → Nat} {own : Nat} : ∀ (l : List Nat) (b : Option Nat), (∀ d, b = some d → ¬ exl own d) → ∀ f, l.foldl (hiS h own) b = some f → (b = some f ∨ f ∈ l) ∧ ¬ exl own f
  | [], b, hb, f, hf => ⟨Or.inl hf, hb f hf⟩
  | c :: l, b, hb, f, hf => by
    rw [List.foldl_cons] at hf
    have hb2 : ∀ d, hiS h own b c = some d → ¬ exl own d ∧ (b = some d ∨ d = c) := by
      intro d hd
      unfold hiS at hd
      split at hd
      · exact ⟨hb d hd, Or.inl hd⟩
      · rename_i hx
        split at hd
        · cases hd; exact ⟨hx, Or.inr rfl⟩
        · split at hd
          · cases hd; exact ⟨hx, Or.inr rfl⟩
          · cases hd; exact ⟨hb _ rfl, Or.inl rfl⟩
    obtain ⟨h1, h2⟩ := hiS_some l (hiS h own b c) (fun d hd => (hb2 d hd).1) f hf
    refine ⟨?_, h2⟩
    rcases h1 with h1 | h1
    · rcases (hb2 f h1).2 with h3 | h3
      · exact Or.inl h3
      · exact Or.inr (by rw [h3]; exact List.mem_cons_self)
    · exact Or.inr (List.mem_cons_of_mem _ h1)
theorem hiS_keeps {h : Nat → Nat} {own : Nat} : ∀ (l : List Nat) (b : Option Nat), b ≠ none → l.foldl (hiS h own) b ≠ none
  | [], b, hb => hb
  | c :: l, b, hb => by
    rw [List.foldl_cons]
    refine hiS_keeps l _ ?_
    unfold hiS
    split
    · exact hb
    · split
      · simp
      · split <;> simp
theorem hiS_ex {h : Nat → Nat} {own : Nat} : ∀ (l : List Nat) (b : Option Nat) (d : Nat), d ∈ l → ¬ exl own d → l.foldl (hiS h own) b ≠ none
  | c :: l, b, d, hm, hd => by
    rw [List.foldl_cons]
    rcases List.mem_cons.mp hm with rfl | hm
    · refine hiS_keeps l _ ?_
      cases b with
      | none => rw [hiS_none hd]; simp
      | some b =>
        by_cases hz : h b < h d
        · rw [hiS_take hd hz]; simp
        · rw [hiS_keep hd hz]; simp
    · exact hiS_ex l _ d hm hd
theorem zHi_ok {P : Pl} (hP : plOK P) (h : Nat → Nat) (own : Nat) : ∃ f, zHi P h own = some f ∧ isC P f ∧ ¬ exl own f := by
  have hr := hP.2.1.1; have hc := hP.1.1
  have hex : ∃ d, isC P d ∧ ¬ exl own d := by
    by_cases z : own / 8 = 0
    · exact ⟨8, ⟨by omega, by omega⟩, fun e => by have := e.1; omega⟩
    · exact ⟨0, ⟨by omega, by omega⟩, fun e => by have := e.1; omega⟩
  obtain ⟨d, hd, hx⟩ := hex
  unfold zHi
  cases hf : (cls P).foldl (hiS h own) none with
  | none => exact absurd hf (hiS_ex (cls P) none d ((mem_cls hP).mpr hd) hx)
  | some f =>
    obtain ⟨h1, h2⟩ := hiS_some (cls P) none (fun d hd => by cases hd) f hf
    refine ⟨f, rfl, ?_, h2⟩
    rcases h1 with h1 | h1
    · cases h1
    · exact (mem_cls hP).mp h1
theorem ml_cut {σ : FS} {v : Int} {Q : Int32 → FS → Prop} (h1 : -1000000000000 ≤ v) (h2 : v ≤ 1000000000000) (hQ : Q (nI (cut9 v)) σ) : mw_cut (lI v) σ Q := by
  unfold mw_cut
  unfold cut9 at hQ
  simp (disch := omega) only [i_0, i_1, i_2, i_3, i_4, i_5, i_6, i_7, i_8, i_9, i_10, i_11, i_12, i_13, i_16, i_19, i_20, i_21, i_22, i_23, i_24, i_25, i_30, i_31, i_32, i_39, i_40, i_41, i_42, i_43, i_44, i_45, i_47, i_48, i_49, i_50, i_51, i_52, i_57, i_59, i_60, i_61, i_62, i_63, i_64, i_71, i_72, i_80, i_91, i_93, i_97, i_99, i_100, i_122, i_227, i_228, i_232, i_251, i_255, i_256, i_463, i_999, i_1000, i_1519, i_1600, i_9999, i_100000000, i_2147483639, i_2147483647, neg_nI1, nI_add, pk_mul, nI_remL, pk_sub, pk_div, nI_clamp, nI_leI, nI_ltI, nI_eq, vpT, nI_m1, m1_nI, nI_lem1, m1_le, m1_lt, nI_ltm1, nI_bit, nI_shl, nI_xor, nI_or, n_rem, l_0, l_1, l_9, l_27, l_64, l_12345, l_1000000, l_1103515245, l_2147483648, l_1000000000000000, lI_neg, lI_add, lI_sub, lI_mul, lgc_le, lgc_ge, lgc_eq, lgc_lt, lgc_gt, nI_toL, lI_toI, lI_le, lI_lt, lI_eq]
  refine ⟨fun c => ⟨fun c2 => ?_, fun c2 => ?_⟩, fun c => ?_⟩
  · rw [if_neg (by omega), if_neg (by omega)] at hQ; rw [lI_toI (by omega) (by omega)]; exact hQ
  · rw [if_neg (by omega), if_pos (by omega)] at hQ; exact hQ
  · rw [if_pos (by omega)] at hQ; exact hQ
theorem cut9_le (v : Int) : cut9 v ≤ 9 := by unfold cut9; (repeat' split) <;> omega
theorem evV_in {P : Pl} {s : St} {p t sd : Nat} {al : Nat → Bool} {cs : List Nat} (hP : plOK P) (hN : stOK P s) (hp : p < nP P) (ht : t < 1000) (hsd : sd < 1000) (hty : tyL al cs [] = some [false]) : -1000000 ≤ evV (zPt s p t sd) lk0 cs ∧ evV (zPt s p t sd) lk0 cs ≤ 1000000 := by
  have hfit := evL_fit (lk := lk0) (fun i hi _ => zPt_in hP hN hp ht hsd i hi) hty (l := []) trivial
  obtain ⟨v, hv, hv2⟩ := fitV_one hfit
  simp only [Bool.false_eq_true, if_false] at hv2
  unfold evV
  rw [hv]
  exact hv2
theorem ml_liftedBy {σ : FS} {P : Pl} {s : St} {p t c : Nat} {Q : Int32 → FS → Prop} (hP : mP σ P) (hN : mN σ P s) (hp : p < nP P) (ht : t < nT P) (h54 : fI σ 0 54 = nI p) (h55 : fI σ 0 55 = nI t) (hS : mSd σ) (hc : isC P c) (hQ : ∀ σ', Fm [51, 56, 109] [] [108] σ σ' → mSd σ' → Q (nI (zTm P s p t (zH s c))) σ') : mw_liftedBy (nI (c7 c)) σ Q := by
  have h5 := hP.1.2.2.2.1
  have hh := hN.1.2.1 _ hc
  have hcd := hP.2.2.2.2.2.1.1
  have hok := hP.1.2.2.2.2.2.2.2.1
  unfold mw_liftedBy
  simp (disch := omega) only [i_0, i_1, i_2, i_3, i_4, i_5, i_6, i_7, i_8, i_9, i_10, i_11, i_12, i_13, i_16, i_19, i_20, i_21, i_22, i_23, i_24, i_25, i_30, i_31, i_32, i_39, i_40, i_41, i_42, i_43, i_44, i_45, i_47, i_48, i_49, i_50, i_51, i_52, i_57, i_59, i_60, i_61, i_62, i_63, i_64, i_71, i_72, i_80, i_91, i_93, i_97, i_99, i_100, i_122, i_227, i_228, i_232, i_251, i_255, i_256, i_463, i_999, i_1000, i_1519, i_1600, i_9999, i_100000000, i_2147483639, i_2147483647, neg_nI1, nI_add, pk_mul, nI_remL, pk_sub, pk_div, nI_clamp, nI_leI, nI_ltI, nI_eq, vpT, nI_m1, m1_nI, nI_lem1, m1_le, m1_lt, nI_ltm1, nI_bit, nI_shl, nI_xor, nI_or, n_rem, forall_eq, true_and, and_true, implies_true, true_implies, false_implies, not_true_eq_false, not_false_eq_true, Nat.zero_add, Nat.add_zero, ite_true, ite_false, if_true, if_false, true_or, or_true, false_or, or_false, and_self, and_false, false_and, Nat.reduceEqDiff, reduceIte, fI_sI, fI_sL, fI_sA, fI_sB, fL_sI, fL_sL, fL_sA, fL_sB, fA_sI, fA_sL, fA_sA, fA_sB, fB_sI, fB_sL, fB_sA, fB_sB]
  unfold zTm at hQ
  cases hf : plF P with
  | none =>
    rw [hf] at hcd hQ
    simp only [mCd] at hcd
    rw [hcd]
    exact ⟨fun z => absurd rfl z, fun _ => hQ σ (Fm.refl _ _ _ _) hS⟩
  | some cs =>
    rw [hf] at hcd
    simp only [hf] at hQ
    obtain ⟨hty, hlen⟩ := hok cs hf
    have hcd0 := hcd
    obtain ⟨f, c1, c2, c3, c4⟩ := hcd
    rw [c1]
    refine ⟨fun _ => ?_, fun z => ?_⟩
    · refine ml_heightOf hP hN hc ?_
      have hF1 : Fm [51, 56, 109] [] [108] σ (sI σ 0 56 (nI (zH s c))) := Fm.sI σ _ (by decide)
      have hA1 : mAk (sI σ 0 56 (nI (zH s c))) p t (zH s c) := by
        refine ⟨?_, ?_, ?_⟩
        · rw [fI_sI]; simpa using h54
        · rw [fI_sI]; simpa using h55
        · rw [fI_sI]; simp
      refine ml_tell (w := 0) (al := al1) (hP.fm hF1 (by decide) (by decide) (by decide)) (hN.eqv rfl) hA1 hp (by omega) (by omega) (by decide) (hcd0.eqv rfl rfl rfl) (fun i hi => by simp [al1] at hi; omega) hty (fun σ' hF2 => ?_)
      have hv := evV_in hP.1 hN.1 hp (show t < 1000 by omega) (show zH s c < 1000 by omega) hty
      refine ml_cut (by omega) (by omega) (hQ σ' (hF1.trans (hF2.wide (by decide) (by decide) (by decide))) ⟨zH s c, by omega, (hF2.1 56 (by decide)).trans hA1.2.2⟩)
    · rw [nI_m1 (by omega)] at z; exact z.elim
theorem stOK.setH {P : Pl} {s : St} {h : Nat → Nat} (hs : stOK P s) (hh : ∀ c, isC P c → h c ≤ 99) : stOK P (setH s h) := ⟨hs.1, hh, hs.2.2.1, hs.2.2.2⟩
theorem ml_lifts {σ : FS} {P : Pl} {s : St} {p t c own m0 : Nat} {x3 : Int32} {Q : FS → Prop} (hP : mP σ P) (hN : mN σ P s) (hp : p < nP P) (ht : t < nT P) (h54 : fI σ 0 54 = nI p) (h55 : fI σ 0 55 = nI t) (hS : mSd σ) (hc : isC P c) (hec : exl own c) (hx : ∀ d, isC P d → ((nI (c7 d) = nI (c7 c) ∨ nI (c7 d) = nI (c7 own) ∨ nI (c7 d) = x3) ↔ exl own d)) (h59 : fI σ 0 59 = nI m0)
    (hQ : ∀ σ', Fm [51, 56, 59, 109] [52] [108] σ σ' → mN σ' P (setH s (zLf P own c (zTm P s p t (zH s c)) (zH s)).2) → fI σ' 0 59 = nI (m0 + (zLf P own c (zTm P s p t (zH s c)) (zH s)).1) → mSd σ' → (∀ k, 50 ≤ k → fA σ' 52 k = fA σ 52 k) → Q σ') : mw_lifts (nI (c7 c)) (nI (c7 own)) x3 σ Q := by
  unfold mw_lifts
  refine ml_liftedBy hP hN hp ht h54 h55 hS hc (fun σ1 hF1 hS1 => ?_)
  have hn9 : zTm P s p t (zH s c) ≤ 9 := by unfold zTm; split <;> first | omega | exact cut9_le _
  generalize zTm P s p t (zH s c) = n at hQ hn9 ⊢
  unfold mw_lifts_10
  intro X hX
  have hc7 := c7_lt hP.1 hc
  have hcl := isC_lt hP.1 hc
  have key : ∀ j k m (h : Nat → Nat) (σ2 : FS), n - k = j → k ≤ n → (∀ d, isC P d → h d ≤ 99) → Fm [51, 56, 59, 109] [52] [108] σ σ2 → mN σ2 P (setH s h) → fI σ2 0 59 = nI (m0 + m) → mSd σ2 → (∀ k, 50 ≤ k → fA σ2 52 k = fA σ 52 k) → m + (zLf P own c j h).1 = (zLf P own c n (zH s)).1 → (zLf P own c j h).2 = (zLf P own c n (zH s)).2 → X (nI (c7 c)) (nI (c7 own)) x3 (nI n) (nI k) σ2 := by
    intro j
    induction j with
    | zero =>
      intro k m h σ2 hj hk hh hF hN2 h592 hS2 ho e1 e2
      refine hX _ _ _ _ _ _ ⟨fun _ => ?_, fun z => absurd ((nI_leI (by omega) (by omega)).mpr (by omega)) z⟩
      simp only [zLf] at e1 e2
      refine hQ σ2 hF (by rw [← e2]; exact hN2) (by rw [← e1]; exact h592) hS2 ho
    | succ j ih =>
      intro k m h σ2 hj hk hh hF hN2 h592 hS2 ho e1 e2
      have hP2 : mP σ2 P := hP.fm hF (by decide) (by decide) (by decide)
      obtain ⟨f, hf, hfc, hfx⟩ := zHi_ok hP.1 h own
      have hf7 := c7_lt hP.1 hfc
      have hfl := isC_lt hP.1 hfc
      have hfne : f ≠ c := fun z => hfx (z ▸ hec)
      have hne7 : c7 f ≠ c7 c := fun z => hfne (c7_inj hfl.1 hcl.1 z)
      refine hX _ _ _ _ _ _ ⟨fun z => absurd ((nI_leI (by omega) (by omega)).mp z) (by omega), fun _ => ?_⟩
      refine ml_highestBut (s := setH s h) (own := own) hP2 hN2 hx ?_
      rw [show zHi P (zH (setH s h)) own = some f from hf, show oI (some f) = nI (c7 f) from rfl]
      refine ml_heightOf hP2 hN2 hfc ?_
      have g1 : h f ≤ 99 := hh f hfc
      have g2 : h c ≤ 99 := hh c hc
      show (nI (h f) = 0 → Q σ2) ∧ _
      simp only [zLf, hf] at e1 e2
      refine ⟨fun z => ?_, fun z1 => ?_⟩
      · rw [i_0, nI_eq (by omega) (by omega)] at z
        rw [if_pos (Or.inl z)] at e1 e2
        refine hQ σ2 hF (by rw [← e2]; exact hN2) (by rw [← e1]; exact h592) hS2 ho
      · have z1 : ¬ h f = 0 := fun q => z1 (by show nI (h f) = 0; rw [q]; rfl)
        refine ml_heightOf hP2 hN2 hc ?_
        show (¬ nI (h c) = (99 : Int32) → _) ∧ (nI (h c) = (99 : Int32) → _)
        rw [i_99, nI_eq (by omega) (by omega)]
        refine ⟨fun z2 => ?_, fun z2 => ?_⟩
        · rw [if_neg (by omega)] at e1 e2
          have r1 : fA σ2 52 (1 + c7 f) = nI (h f) := hN2.2.2.1 f hfc
          have r2 : fA σ2 52 (1 + c7 c) = nI (h c) := hN2.2.2.1 c hc
          show vp_in ((1 : Int32) + nI (c7 f)) 232 ∧ _
          simp (disch := omega) only [i_0, i_1, i_2, i_3, i_4, i_5, i_6, i_7, i_8, i_9, i_10, i_11, i_12, i_13, i_16, i_19, i_20, i_21, i_22, i_23, i_24, i_25, i_30, i_31, i_32, i_39, i_40, i_41, i_42, i_43, i_44, i_45, i_47, i_48, i_49, i_50, i_51, i_52, i_57, i_59, i_60, i_61, i_62, i_63, i_64, i_71, i_72, i_80, i_91, i_93, i_97, i_99, i_100, i_122, i_227, i_228, i_232, i_251, i_255, i_256, i_463, i_999, i_1000, i_1519, i_1600, i_9999, i_100000000, i_2147483639, i_2147483647, neg_nI1, nI_add, pk_mul, nI_remL, pk_sub, pk_div, nI_clamp, nI_leI, nI_ltI, nI_eq, vpT, nI_m1, m1_nI, nI_lem1, m1_le, m1_lt, nI_ltm1, nI_bit, nI_shl, nI_xor, nI_or, n_rem, forall_eq, true_and, and_true, implies_true, true_implies, false_implies, not_true_eq_false, not_false_eq_true, Nat.zero_add, Nat.add_zero, ite_true, ite_false, if_true, if_false, true_or, or_true, false_or, or_false, and_self, and_false, false_and, Nat.reduceEqDiff, reduceIte, fI_sI, fI_sL, fI_sA, fI_sB, fL_sI, fL_sL, fL_sA, fL_sB, fA_sI, fA_sL, fA_sA, fA_sB, fB_sI, fB_sL, fB_sA, fB_sB, r1, r2, h592]
          rw [if_neg (by omega), nI_add]
          have hF2 : Fm [51, 56, 59, 109] [52] [108] σ2 (sI (sA (sA σ2 52 (1 + c7 f) (nI (h f - 1))) 52 (1 + c7 c) (nI (h c + 1))) 0 59 (nI (m0 + m + 1))) := (Fm.sA σ2 _ _ (by decide)).trans ((Fm.sA _ _ _ (by decide)).trans (Fm.sI _ _ (by decide)))
          refine ih (k + 1) (m + 1) (up (up h f (h f - 1)) c (h c + 1)) _ (by omega) (by omega) ?_ (hF.trans hF2) ?_ ?_ ?_ ?_ (by rw [← e1]; omega) e2
          · intro d hd
            have := hh d hd
            unfold up
            split
            · omega
            · split <;> omega
          · refine ⟨hN.1.setH ?_, ?_, ?_, ?_⟩
            · intro d hd
              have := hh d hd
              unfold up
              split
              · omega
              · split <;> omega
            · rw [fA_sI, fA_sA, if_neg (by omega), fA_sA, if_neg (by omega)]; exact hN2.2.1
            · intro d hd
              have hdl := isC_lt hP.1 hd
              show fA (sA (sA σ2 52 (1 + c7 f) (nI (h f - 1))) 52 (1 + c7 c) (nI (h c + 1))) 52 (1 + c7 d) = nI (up (up h f (h f - 1)) c (h c + 1) d)
              rw [fA_sA, fA_sA]
              by_cases q1 : d = c
              · subst q1; simp [up]
              · have : c7 d ≠ c7 c := fun z => q1 (c7_inj hdl.1 hcl.1 z)
                rw [if_neg (by omega)]
                by_cases q2 : d = f
                · subst q2; simp [up, q1]
                · have : c7 d ≠ c7 f := fun z => q2 (c7_inj hdl.1 hfl.1 z)
                  rw [if_neg (by omega)]
                  simp only [up, q1, q2, if_false]
                  exact hN2.2.2.1 d hd
            · intro q hq
              obtain ⟨w1, w2, w3⟩ := hN2.2.2.2 q hq
              refine ⟨?_, ?_, ?_⟩ <;> show fA (sA (sA σ2 52 (1 + c7 f) (nI (h f - 1))) 52 (1 + c7 c) (nI (h c + 1))) 52 _ = _ <;> rw [fA_sA, if_neg (by omega), fA_sA, if_neg (by omega)]
              · exact w1
              · exact w2
              · exact w3
          · rw [fI_sI, if_pos ⟨rfl, rfl⟩]; rfl
          · obtain ⟨sd, q1, q2⟩ := hS2
            exact ⟨sd, q1, by rw [fI_sI, fI_sA, fI_sA]; simpa using q2⟩
          · intro q hq
            show fA (sA (sA σ2 52 (1 + c7 f) (nI (h f - 1))) 52 (1 + c7 c) (nI (h c + 1))) 52 q = _
            rw [fA_sA, if_neg (by omega), fA_sA, if_neg (by omega)]
            exact ho q hq
        · rw [if_pos (Or.inr z2)] at e1 e2
          refine hQ σ2 hF (by rw [← e2]; exact hN2) (by rw [← e1]; exact h592) hS2 ho
  have hF1' : Fm [51, 56, 59, 109] [52] [108] σ σ1 := hF1.wide (by decide) (by decide) (by decide)
  have e52 : fA σ1 52 = fA σ 52 := hF1.2.1 52 (by decide)
  refine key n 0 0 (zH s) σ1 rfl (by omega) hN.1.2.1 hF1' (hN.eqv e52) ((hF1.1 59 (by decide)).trans h59) hS1 (fun k _ => by rw [e52]) (by rw [Nat.zero_add]) rfl
