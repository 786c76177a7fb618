/-! THE SYSTEM: what a tree tells -/
theorem xl_held {ν : XN} {v : Int} {Q : Int64 → XN → Prop} (h1 : -2000000000000 ≤ v) (h2 : v ≤ 2000000000000) (hQ : Q (lI (clp v)) ν) : xw_X0_held (lI v) ν Q := by
  unfold xw_X0_held xw_J12_min_2 xw_J12_max_2
  unfold clp at hQ
  simp (disch := omega) only [i_0, i_1, i_2, i_3, i_4, i_5, i_6, i_7, i_8, i_9, i_10, i_11, i_12, i_13, i_16, i_19, i_20, i_21, i_22, i_23, i_24, i_25, i_30, i_31, i_32, i_39, i_40, i_41, i_42, i_43, i_44, i_45, i_47, i_48, i_49, i_50, i_51, i_52, i_57, i_59, i_60, i_61, i_62, i_63, i_64, i_71, i_72, i_80, i_91, i_93, i_97, i_99, i_100, i_122, i_227, i_228, i_232, i_251, i_255, i_256, i_463, i_999, i_1000, i_1519, i_1600, i_9999, i_100000000, i_2147483639, i_2147483647, neg_nI1, nI_add, pk_mul, nI_remL, pk_sub, pk_div, nI_clamp, nI_leI, nI_ltI, nI_eq, vpT, nI_m1, m1_nI, nI_lem1, m1_le, m1_lt, nI_ltm1, nI_bit, nI_shl, nI_xor, nI_or, n_rem, l_0, l_1, l_9, l_27, l_64, l_12345, l_1000000, l_1103515245, l_2147483648, l_1000000000000000, lI_neg, lI_add, lI_sub, lI_mul, lgc_le, lgc_ge, lgc_eq, lgc_lt, lgc_gt, nI_toL, lI_toI, lI_le, lI_lt, lI_eq]
  refine ⟨fun c => ⟨fun c2 => ?_, fun c2 => ?_⟩, fun c => ⟨fun c2 => ?_, fun c2 => absurd (show (-1000000 : Int) < 1000000 by omega) c2⟩⟩
  · rw [if_neg (by omega), if_neg (by omega)] at hQ; exact hQ
  · have hv : v ≤ -1000000 := by omega
    rcases Int.lt_or_eq_of_le hv with z | z
    · rw [if_neg (by omega), if_pos z] at hQ; exact hQ
    · rw [if_neg (by omega), if_neg (by omega), z] at hQ; exact hQ
  · rcases Int.lt_or_eq_of_le (show 1000000 ≤ v by omega) with z | z
    · rw [if_pos z] at hQ; exact hQ
    · rw [if_neg (by omega), if_neg (by omega), ← z] at hQ; exact hQ
theorem xor_neg {a b : Int} (ha : -1000000 ≤ a ∧ a ≤ 1000000) (hb : -1000000 ≤ b ∧ b ≤ 1000000) : (lI 0 ≤ lI a ^^^ lI b) = ((0 ≤ a) = (0 ≤ b)) := by
  have e : ∀ z : Int, -1000000 ≤ z → z ≤ 1000000 → (lI z).toBitVec.msb = decide (z < 0) := by
    intro z z1 z2
    rw [BitVec.msb_eq_toInt]
    have : (lI z).toBitVec.toInt = z := lI_toInt (by omega) (by omega)
    rw [this]
  have e2 : (lI a ^^^ lI b).toBitVec.msb = (decide (a < 0) ^^ decide (b < 0)) := by
    rw [Int64.toBitVec_xor, BitVec.msb_xor, e a ha.1 ha.2, e b hb.1 hb.2]
  rw [BitVec.msb_eq_toInt] at e2
  rw [Int64.le_iff_toInt_le, show (lI 0).toInt = 0 from rfl]
  have e3 : (lI a ^^^ lI b).toBitVec.toInt = (lI a ^^^ lI b).toInt := rfl
  rw [e3] at e2
  generalize (lI a ^^^ lI b).toInt = x at *
  by_cases z1 : a < 0 <;> by_cases z2 : b < 0 <;> simp [z1, z2] at e2 ⊢ <;> omega
theorem xl_floor {ν : XN} {a b : Int} {Q : Int64 → XN → Prop} (ha : -1000000 ≤ a ∧ a ≤ 1000000) (hb : -1000000 ≤ b ∧ b ≤ 1000000) (h0 : b ≠ 0) (hQ : Q (lI (a.fdiv b)) ν) : xw_J12_floorDiv (lI a) (lI b) ν Q := by
  have hm : -1000000 ≤ a.tmod b ∧ a.tmod b ≤ 1000000 := by
    have h1 := Int.natAbs_tmod a b
    have h2 : a.natAbs % b.natAbs ≤ a.natAbs := Nat.mod_le _ _
    omega
  have hr := tdiv_rem a b
  have hd : (b ∣ a) ↔ a.tmod b = 0 := ⟨fun z => Int.tmod_eq_zero_of_dvd z, fun z => Int.dvd_of_tmod_eq_zero z⟩
  unfold xw_J12_floorDiv
  rw [lI_div (by omega) (by omega) (by omega) (by omega)]
  simp (disch := omega) only [i_0, i_1, i_2, i_3, i_4, i_5, i_6, i_7, i_8, i_9, i_10, i_11, i_12, i_13, i_16, i_19, i_20, i_21, i_22, i_23, i_24, i_25, i_30, i_31, i_32, i_39, i_40, i_41, i_42, i_43, i_44, i_45, i_47, i_48, i_49, i_50, i_51, i_52, i_57, i_59, i_60, i_61, i_62, i_63, i_64, i_71, i_72, i_80, i_91, i_93, i_97, i_99, i_100, i_122, i_227, i_228, i_232, i_251, i_255, i_256, i_463, i_999, i_1000, i_1519, i_1600, i_9999, i_100000000, i_2147483639, i_2147483647, neg_nI1, nI_add, pk_mul, nI_remL, pk_sub, pk_div, nI_clamp, nI_leI, nI_ltI, nI_eq, vpT, nI_m1, m1_nI, nI_lem1, m1_le, m1_lt, nI_ltm1, nI_bit, nI_shl, nI_xor, nI_or, n_rem, l_0, l_1, l_9, l_27, l_64, l_12345, l_1000000, l_1103515245, l_2147483648, l_1000000000000000, lI_neg, lI_add, lI_sub, lI_mul, lgc_le, lgc_ge, lgc_eq, lgc_lt, lgc_gt, nI_toL, lI_toI, lI_eq, xor_neg ha hb]
  rw [Int.fdiv_eq_tdiv] at hQ
  refine ⟨h0, fun c => ?_, fun c => ⟨fun c2 => ?_, fun c2 => ?_⟩⟩
  · by_cases hx : b ∣ a
    · rw [if_pos hx, Int.sub_zero] at hQ; exact hQ
    · rw [if_neg hx] at hQ
      by_cases z1 : 0 ≤ a
      · have z2 : 0 ≤ b := c ▸ z1
        rw [if_pos z1, if_pos z2, Int.sub_zero] at hQ; exact hQ
      · have z2 : ¬ 0 ≤ b := fun w => z1 (c ▸ w)
        rw [if_neg z1, if_neg z2, Int.sign_eq_neg_one_of_neg (by omega), show (1 : Int) + -1 = 0 from rfl, Int.sub_zero] at hQ; exact hQ
  · rw [if_pos (hd.mpr (by omega)), Int.sub_zero] at hQ; exact hQ
  · rw [if_neg (fun w => c2 (by have := hd.mp w; omega))] at hQ
    by_cases z1 : 0 ≤ a
    · have z2 : ¬ 0 ≤ b := fun w => c (by simp [z1, w])
      rw [if_pos z1, if_neg z2] at hQ; exact hQ
    · have z2 : 0 ≤ b := Decidable.byContradiction fun w => c (by simp [z1, w])
      rw [if_neg z1, if_pos z2, Int.sign_eq_one_of_pos (by omega)] at hQ; exact hQ
theorem xl_two {ν : XN} {x : Nat} {a b : Int} {Q : Int64 → XN → Prop} (hx : sgO x ≠ 0) (hx2 : x < 128) (ha : -1000000 ≤ a ∧ a ≤ 1000000) (hb : -1000000 ≤ b ∧ b ≤ 1000000) (hQ : Q (lI (opv (sgO x) a b)) ν) : xw_X11_two (nI x) (lI a) (lI b) ν (fun r ν1 => xw_X0_held r ν1 Q) := by
  have hm := mul_in ha hb
  unfold xw_X11_two xw_X11_two_44
  have hc : x = 43 ∨ x = 45 ∨ x = 42 ∨ x = 47 := by
    unfold sgO at hx
    split at hx
    · omega
    · split at hx
      · omega
      · split at hx
        · omega
        · split at hx <;> omega
  rcases hc with rfl | rfl | rfl | rfl
  · simp (disch := omega) only [i_0, i_1, i_2, i_3, i_4, i_5, i_6, i_7, i_8, i_9, i_10, i_11, i_12, i_13, i_16, i_19, i_20, i_21, i_22, i_23, i_24, i_25, i_30, i_31, i_32, i_39, i_40, i_41, i_42, i_43, i_44, i_45, i_47, i_48, i_49, i_50, i_51, i_52, i_57, i_59, i_60, i_61, i_62, i_63, i_64, i_71, i_72, i_80, i_91, i_93, i_97, i_99, i_100, i_122, i_227, i_228, i_232, i_251, i_255, i_256, i_463, i_999, i_1000, i_1519, i_1600, i_9999, i_100000000, i_2147483639, i_2147483647, neg_nI1, nI_add, pk_mul, nI_remL, pk_sub, pk_div, nI_clamp, nI_leI, nI_ltI, nI_eq, vpT, nI_m1, m1_nI, nI_lem1, m1_le, m1_lt, nI_ltm1, nI_bit, nI_shl, nI_xor, nI_or, n_rem, l_0, l_1, l_9, l_27, l_64, l_12345, l_1000000, l_1103515245, l_2147483648, l_1000000000000000, lI_neg, lI_add, lI_sub, lI_mul, lgc_le, lgc_ge, lgc_eq, lgc_lt, lgc_gt, nI_toL, lI_toI, forall_eq, true_and, and_true, implies_true, true_implies, false_implies, not_true_eq_false, not_false_eq_true, Nat.zero_add, Nat.add_zero, ite_true, ite_false, if_true, if_false, true_or, or_true, false_or, or_false, and_self, and_false, false_and, Nat.reduceEqDiff, reduceIte, lI_eq]
    rw [show opv (sgO 43) a b = clp (a + b) from opv_1 a b] at hQ
    exact xl_held (by omega) (by omega) hQ
  · simp (disch := omega) only [i_0, i_1, i_2, i_3, i_4, i_5, i_6, i_7, i_8, i_9, i_10, i_11, i_12, i_13, i_16, i_19, i_20, i_21, i_22, i_23, i_24, i_25, i_30, i_31, i_32, i_39, i_40, i_41, i_42, i_43, i_44, i_45, i_47, i_48, i_49, i_50, i_51, i_52, i_57, i_59, i_60, i_61, i_62, i_63, i_64, i_71, i_72, i_80, i_91, i_93, i_97, i_99, i_100, i_122, i_227, i_228, i_232, i_251, i_255, i_256, i_463, i_999, i_1000, i_1519, i_1600, i_9999, i_100000000, i_2147483639, i_2147483647, neg_nI1, nI_add, pk_mul, nI_remL, pk_sub, pk_div, nI_clamp, nI_leI, nI_ltI, nI_eq, vpT, nI_m1, m1_nI, nI_lem1, m1_le, m1_lt, nI_ltm1, nI_bit, nI_shl, nI_xor, nI_or, n_rem, l_0, l_1, l_9, l_27, l_64, l_12345, l_1000000, l_1103515245, l_2147483648, l_1000000000000000, lI_neg, lI_add, lI_sub, lI_mul, lgc_le, lgc_ge, lgc_eq, lgc_lt, lgc_gt, nI_toL, lI_toI, forall_eq, true_and, and_true, implies_true, true_implies, false_implies, not_true_eq_false, not_false_eq_true, Nat.zero_add, Nat.add_zero, ite_true, ite_false, if_true, if_false, true_or, or_true, false_or, or_false, and_self, and_false, false_and, Nat.reduceEqDiff, reduceIte, lI_eq]
    rw [show opv (sgO 45) a b = clp (a - b) from opv_2 a b] at hQ
    exact xl_held (by omega) (by omega) hQ
  · simp (disch := omega) only [i_0, i_1, i_2, i_3, i_4, i_5, i_6, i_7, i_8, i_9, i_10, i_11, i_12, i_13, i_16, i_19, i_20, i_21, i_22, i_23, i_24, i_25, i_30, i_31, i_32, i_39, i_40, i_41, i_42, i_43, i_44, i_45, i_47, i_48, i_49, i_50, i_51, i_52, i_57, i_59, i_60, i_61, i_62, i_63, i_64, i_71, i_72, i_80, i_91, i_93, i_97, i_99, i_100, i_122, i_227, i_228, i_232, i_251, i_255, i_256, i_463, i_999, i_1000, i_1519, i_1600, i_9999, i_100000000, i_2147483639, i_2147483647, neg_nI1, nI_add, pk_mul, nI_remL, pk_sub, pk_div, nI_clamp, nI_leI, nI_ltI, nI_eq, vpT, nI_m1, m1_nI, nI_lem1, m1_le, m1_lt, nI_ltm1, nI_bit, nI_shl, nI_xor, nI_or, n_rem, l_0, l_1, l_9, l_27, l_64, l_12345, l_1000000, l_1103515245, l_2147483648, l_1000000000000000, lI_neg, lI_add, lI_sub, lI_mul, lgc_le, lgc_ge, lgc_eq, lgc_lt, lgc_gt, nI_toL, lI_toI, forall_eq, true_and, and_true, implies_true, true_implies, false_implies, not_true_eq_false, not_false_eq_true, Nat.zero_add, Nat.add_zero, ite_true, ite_false, if_true, if_false, true_or, or_true, false_or, or_false, and_self, and_false, false_and, Nat.reduceEqDiff, reduceIte, lI_eq]
    rw [show opv (sgO 42) a b = clp (a * b) from opv_3 a b] at hQ
    exact xl_held (by omega) (by omega) hQ
  · simp (disch := omega) only [i_0, i_1, i_2, i_3, i_4, i_5, i_6, i_7, i_8, i_9, i_10, i_11, i_12, i_13, i_16, i_19, i_20, i_21, i_22, i_23, i_24, i_25, i_30, i_31, i_32, i_39, i_40, i_41, i_42, i_43, i_44, i_45, i_47, i_48, i_49, i_50, i_51, i_52, i_57, i_59, i_60, i_61, i_62, i_63, i_64, i_71, i_72, i_80, i_91, i_93, i_97, i_99, i_100, i_122, i_227, i_228, i_232, i_251, i_255, i_256, i_463, i_999, i_1000, i_1519, i_1600, i_9999, i_100000000, i_2147483639, i_2147483647, neg_nI1, nI_add, pk_mul, nI_remL, pk_sub, pk_div, nI_clamp, nI_leI, nI_ltI, nI_eq, vpT, nI_m1, m1_nI, nI_lem1, m1_le, m1_lt, nI_ltm1, nI_bit, nI_shl, nI_xor, nI_or, n_rem, l_0, l_1, l_9, l_27, l_64, l_12345, l_1000000, l_1103515245, l_2147483648, l_1000000000000000, lI_neg, lI_add, lI_sub, lI_mul, lgc_le, lgc_ge, lgc_eq, lgc_lt, lgc_gt, nI_toL, lI_toI, forall_eq, true_and, and_true, implies_true, true_implies, false_implies, not_true_eq_false, not_false_eq_true, Nat.zero_add, Nat.add_zero, ite_true, ite_false, if_true, if_false, true_or, or_true, false_or, or_false, and_self, and_false, false_and, Nat.reduceEqDiff, reduceIte, lI_eq]
    rw [show opv (sgO 47) a b = (if b = 0 then 0 else a.fdiv b) from opv_4 a b] at hQ
    refine ⟨fun z => ?_, fun z => ?_⟩
    · rw [if_neg z] at hQ
      have hf := fdiv_in ha z
      refine xl_floor ha hb z (xl_held (by omega) (by omega) ?_)
      rw [clp_id hf]; exact hQ
    · rw [if_pos z] at hQ
      exact xl_held (by omega) (by omega) hQ
/-- codes that leave one number -/
def Sg (pt : Nat → Int) (lk : Nat → Int → Int) (cs : List Nat) : Prop := ∀ k, evL pt lk cs k = evV pt lk cs :: k
theorem Sg.op {pt : Nat → Int} {lk : Nat → Int → Int} {cs ds : List Nat} {o : Nat} (h : Sg pt lk cs) (g : Sg pt lk ds) (ho : o < 12) : Sg pt lk (cs ++ ds ++ [o]) ∧ evV pt lk (cs ++ ds ++ [o]) = opv o (evV pt lk cs) (evV pt lk ds) := by
  have e : ∀ k, evL pt lk (cs ++ ds ++ [o]) k = opv o (evV pt lk cs) (evV pt lk ds) :: k := by
    intro k
    rw [evL_app, evL_app, h k, g _]
    show evS pt lk o _ = _
    rw [evS_op ho]
  have e2 : evV pt lk (cs ++ ds ++ [o]) = opv o (evV pt lk cs) (evV pt lk ds) := by unfold evV; rw [e []]; rfl
  exact ⟨fun k => by rw [e k, e2], e2⟩
def inR (v : Int) : Prop := -1000000 ≤ v ∧ v ≤ 1000000
theorem sgO_lt (x : Nat) : sgO x < 7 := by unfold sgO; (repeat' split) <;> omega
theorem opv_sg {o : Nat} {x : Int} (h : o = 10 ∨ o = 11) (hx : x = 0 ∨ x = 1) : opv o (11 - (o : Int)) x = x ∧ opv o (1 - (11 - (o : Int))) x = 1 - (11 - (o : Int)) := by
  rcases h with rfl | rfl <;> rcases hx with rfl | rfl <;> decide
theorem ev_law {al : Nat → Bool} {m b0 D : Nat} {pt : Nat → Int} {lk : Nat → Int → Int} {ρ : RS} {inv : XN → Prop}
    (hi : ∀ ν, inv ν → ν.2 = ρ ∧ ((al 9 = true ∨ al 10 = true) → fR ν.1 901 5 = .ref b0) ∧ ∀ i, i < 9 → al i = true → fB ν.1 (xft m 0) i = lI (pt i))
    (hpt : ∀ i, i < 9 → al i = true → inR (pt i))
    (hm : xoc m = 4 ∧ xok 4 (xft m 0) ∧ xlen (xft m 0) = 9)
    (hlk : ∀ d, D ≤ d → ∀ (k : Nat) (v : Int) (ν : XN) (Q : Int64 → XN → Prop), k < 2 → al (9 + k) = true → inR v → inv ν → (∀ ν', inv ν' → Q (lI (lk k v)) ν') → xw_X0_looked (VTA d).1 (VTA d).2 (nI k) (lI v) ν Q)
    (hlb : ∀ k v, -1000000000000 ≤ lk k v ∧ lk k v ≤ 1000000000000) :
    ∀ d a cs, ((VT al b0 ρ d).1 a cs → Sg pt lk cs ∧ inR (evV pt lk cs) ∧ ∀ (ν : XN) (Q : Int64 → XN → Prop), inv ν → (∀ ν', inv ν' → Q (lI (evV pt lk cs)) ν') → (VTA (D + d)).1 a m ν Q) ∧ ((VT al b0 ρ d).2 a cs → Sg pt lk cs ∧ (evV pt lk cs = 0 ∨ evV pt lk cs = 1) ∧ ∀ (ν : XN) (Q : Int32 → XN → Prop), inv ν → (∀ ν', inv ν' → Q (nI (if evV pt lk cs = 1 then 1 else 0)) ν') → (VTA (D + d)).2 a m ν Q) := by
  intro d
  induction d with
  | zero => intro a cs; exact ⟨fun h => h.elim, fun h => h.elim⟩
  | succ d ih =>
    intro a cs
    constructor
    · rintro (⟨h, n, h1, h2, h3⟩ | ⟨h, i, h1, h2, h3, h4⟩ | ⟨h, k, b, c, h1, h2, h3, h4, h5, h6, h7⟩ | ⟨h, k, b1, b2, c1, c2, h1, h2, h3, h4, h5, h6, h7⟩ | ⟨h, la, lb, b, as, sg, s, c, h1, h2, h3, h4, h5, h6, h7⟩)
      · subst h2
        have e : evV pt lk [1000 + n] = (n : Int) := by
          show (evL pt lk [] (evS pt lk (1000 + n) [])).headD 0 = _
          rw [evS_num (by omega)]
          show ((1000 + n - 1000 : Nat) : Int) = n
          rw [Nat.add_sub_cancel_left]
        refine ⟨fun k => ?_, ?_, fun ν Q hν hQ => ?_⟩
        · rw [e]
          show evL pt lk [] (evS pt lk (1000 + n) k) = _
          rw [evS_num (by omega), Nat.add_sub_cancel_left]; rfl
        · rw [e]; unfold inR; omega
        · rw [e] at hQ
          have e2 := (hi ν hν).1
          refine Or.inr (Or.inr (Or.inl ⟨by rw [e2]; exact h, ?_⟩))
          unfold xw_X13_at
          rw [e2, h3]
          exact ⟨h, hQ ν hν⟩
      · subst h3
        have e : evV pt lk [40 + i] = pt i := by
          show (evL pt lk [] (evS pt lk (40 + i) [])).headD 0 = _
          rw [evS_pt (by omega) (by omega), Nat.add_sub_cancel_left]; rfl
        refine ⟨fun k => ?_, ?_, fun ν Q hν hQ => ?_⟩
        · rw [e]
          show evL pt lk [] (evS pt lk (40 + i) k) = _
          rw [evS_pt (by omega) (by omega), Nat.add_sub_cancel_left]; rfl
        · rw [e]; exact hpt i h1 h2
        · rw [e] at hQ
          obtain ⟨e2, e3, e4⟩ := hi ν hν
          have e5 := e4 i h1 h2
          have e6 := hpt i h1 h2
          refine Or.inr (Or.inr (Or.inr (Or.inl ⟨by rw [e2]; exact h, ?_⟩)))
          unfold xw_X14_at
          rw [e2, h4, nI_clamp (by omega), e5, hm.2.2]
          refine ⟨hm.1, h, hm.2.1, vp_in_nI h1 (by decide), ?_⟩
          unfold inR at e6
          refine xl_held (by omega) (by omega) ?_
          rw [clp_id e6]; exact hQ ν hν
      · subst h3
        obtain ⟨g1, g2, g3⟩ := (ih b c).1 h7
        have hb := hlb k (evV pt lk c)
        have ee : ∀ r, evL pt lk (c ++ [60 + k]) r = clp (lk k (evV pt lk c)) :: r := by
          intro r
          rw [evL_app, g1 r]
          show evS pt lk (60 + k) _ = _
          rw [evS_of (by omega) (by omega), Nat.add_sub_cancel_left]
        have e : evV pt lk (c ++ [60 + k]) = clp (lk k (evV pt lk c)) := by unfold evV; rw [ee []]; rfl
        refine ⟨fun r => by rw [ee r, e], by rw [e]; exact clp_in _, fun ν Q hν hQ => ?_⟩
        rw [e] at hQ
        obtain ⟨e2, e3, e4⟩ := hi ν hν
        refine Or.inr (Or.inr (Or.inr (Or.inr ⟨by rw [e2]; exact h, ?_⟩)))
        unfold xw_X15_at
        rw [e2, h4]
        refine ⟨h, ⟨b0, e3 (by rcases (show k = 0 ∨ k = 1 by omega) with rfl | rfl; exact Or.inl h2; exact Or.inr h2), h6⟩, h, h, b, h5, ?_⟩
        refine g3 ν _ hν (fun ν1 hν1 => ?_)
        refine hlk (D + d) (by omega) k _ ν1 _ h1 h2 g2 hν1 (fun ν2 hν2 => ?_)
        exact xl_held (by omega) (by omega) (hQ ν2 hν2)
      · subst h2
        obtain ⟨g1, g2, g3⟩ := (ih b1 c1).1 h6
        obtain ⟨f1, f2, f3⟩ := (ih b2 c2).1 h7
        obtain ⟨e1, e2⟩ := Sg.op g1 f1 (show 5 + k < 12 by omega)
        have hin : inR (opv (5 + k) (evV pt lk c1) (evV pt lk c2)) := opv_V ⟨by omega, by omega⟩ g2 f2
        refine ⟨e1, by rw [e2]; exact hin, fun ν Q hν hQ => ?_⟩
        rw [e2] at hQ
        have q2 := (hi ν hν).1
        refine Or.inr (Or.inl ⟨by rw [q2]; exact h, ?_⟩)
        unfold xw_X12_at
        rw [q2]
        refine ⟨h, b1, h4, g3 ν _ hν (fun ν1 hν1 => ?_)⟩
        have q3 := (hi ν1 hν1).1
        rw [q3]
        refine ⟨h, b2, h5, f3 ν1 _ hν1 (fun ν2 hν2 => ?_)⟩
        have q4 := (hi ν2 hν2).1
        rw [q4, h3]
        have h9 := hQ ν2 hν2
        generalize evV pt lk c1 = u at *
        generalize evV pt lk c2 = v at *
        unfold inR at g2 f2
        unfold xw_X12_at_35
        rcases (show k = 0 ∨ k = 1 by omega) with rfl | rfl
        · have eo : opv (5 + 0) u v = if u < v then u else v := rfl
          rw [eo] at h9
          simp (disch := omega) only [i_0, i_1, i_2, i_3, i_4, i_5, i_6, i_7, i_8, i_9, i_10, i_11, i_12, i_13, i_16, i_19, i_20, i_21, i_22, i_23, i_24, i_25, i_30, i_31, i_32, i_39, i_40, i_41, i_42, i_43, i_44, i_45, i_47, i_48, i_49, i_50, i_51, i_52, i_57, i_59, i_60, i_61, i_62, i_63, i_64, i_71, i_72, i_80, i_91, i_93, i_97, i_99, i_100, i_122, i_227, i_228, i_232, i_251, i_255, i_256, i_463, i_999, i_1000, i_1519, i_1600, i_9999, i_100000000, i_2147483639, i_2147483647, neg_nI1, nI_add, pk_mul, nI_remL, pk_sub, pk_div, nI_clamp, nI_leI, nI_ltI, nI_eq, vpT, nI_m1, m1_nI, nI_lem1, m1_le, m1_lt, nI_ltm1, nI_bit, nI_shl, nI_xor, nI_or, n_rem, l_0, l_1, l_9, l_27, l_64, l_12345, l_1000000, l_1103515245, l_2147483648, l_1000000000000000, lI_neg, lI_add, lI_sub, lI_mul, lgc_le, lgc_ge, lgc_eq, lgc_lt, lgc_gt, nI_toL, lI_toI, forall_eq, true_and, and_true, implies_true, true_implies, false_implies, not_true_eq_false, not_false_eq_true, Nat.zero_add, Nat.add_zero, ite_true, ite_false, if_true, if_false, true_or, or_true, false_or, or_false, and_self, and_false, false_and, Nat.reduceEqDiff, reduceIte, lI_le, lI_lt, lI_eq]
          refine ⟨h, fun c => ?_, fun c => ?_⟩
          · rcases Int.lt_or_eq_of_le c with z | z
            · rw [if_pos z] at h9; exact h9
            · rw [if_neg (by omega), ← z] at h9; exact h9
          · rw [if_neg (by omega)] at h9; exact h9
        · have eo : opv (5 + 1) u v = if v < u then u else v := rfl
          rw [eo] at h9
          simp (disch := omega) only [i_0, i_1, i_2, i_3, i_4, i_5, i_6, i_7, i_8, i_9, i_10, i_11, i_12, i_13, i_16, i_19, i_20, i_21, i_22, i_23, i_24, i_25, i_30, i_31, i_32, i_39, i_40, i_41, i_42, i_43, i_44, i_45, i_47, i_48, i_49, i_50, i_51, i_52, i_57, i_59, i_60, i_61, i_62, i_63, i_64, i_71, i_72, i_80, i_91, i_93, i_97, i_99, i_100, i_122, i_227, i_228, i_232, i_251, i_255, i_256, i_463, i_999, i_1000, i_1519, i_1600, i_9999, i_100000000, i_2147483639, i_2147483647, neg_nI1, nI_add, pk_mul, nI_remL, pk_sub, pk_div, nI_clamp, nI_leI, nI_ltI, nI_eq, vpT, nI_m1, m1_nI, nI_lem1, m1_le, m1_lt, nI_ltm1, nI_bit, nI_shl, nI_xor, nI_or, n_rem, l_0, l_1, l_9, l_27, l_64, l_12345, l_1000000, l_1103515245, l_2147483648, l_1000000000000000, lI_neg, lI_add, lI_sub, lI_mul, lgc_le, lgc_ge, lgc_eq, lgc_lt, lgc_gt, nI_toL, lI_toI, forall_eq, true_and, and_true, implies_true, true_implies, false_implies, not_true_eq_false, not_false_eq_true, Nat.zero_add, Nat.add_zero, ite_true, ite_false, if_true, if_false, true_or, or_true, false_or, or_false, and_self, and_false, false_and, Nat.reduceEqDiff, reduceIte, lI_le, lI_lt, lI_eq]
          refine ⟨h, fun c => ?_, fun c => ?_⟩
          · rw [if_neg (by omega)] at h9; exact h9
          · rw [if_pos (by omega)] at h9; exact h9
      · obtain ⟨g1, g2, g3⟩ := (ih b c).1 h5
        -- the pure side
        have pure : ∀ (as os cs0 ds : List Nat), jn (VT al b0 ρ d).1 as os cs0 ds → (∀ o ∈ os, o < 7) → Sg pt lk cs0 → inR (evV pt lk cs0) → Sg pt lk ds ∧ inR (evV pt lk ds) := by
          intro as
          induction as with
          | nil =>
            intro os cs0 ds hj ho q1 q2
            cases os with
            | nil => rw [show ds = cs0 from hj]; exact ⟨q1, q2⟩
            | cons _ _ => exact hj.elim
          | cons a0 as iha =>
            intro os cs0 ds hj ho q1 q2
            cases os with
            | nil => exact hj.elim
            | cons o os =>
              obtain ⟨c', w1, w2, w3, w4⟩ := hj
              obtain ⟨f1, f2, f3⟩ := (ih a0 c').1 w1
              obtain ⟨e1, e2⟩ := Sg.op q1 f1 w3
              exact iha os _ ds w4 (fun o' ho' => ho o' (List.mem_cons_of_mem _ ho')) e1 (by rw [e2]; exact opv_V ⟨w2, ho o List.mem_cons_self⟩ q2 f2)
        have hos : ∀ o ∈ sg.map sgO, o < 7 := fun o ho => by
          obtain ⟨x, -, rfl⟩ := List.mem_map.mp ho
          exact sgO_lt x
        obtain ⟨p1, p2⟩ := pure _ _ _ _ h7 hos g1 g2
        refine ⟨p1, p2, fun ν Q hν hQ => ?_⟩
        have q2 := (hi ν hν).1
        refine Or.inl ⟨by rw [q2]; exact h, ?_⟩
        unfold xw_X11_at
        rw [q2]
        have hL : ∀ ν', inv ν' → LRep ν'.2 la (b :: as) := fun ν' hν' => by rw [(hi ν' hν').1]; exact h2
        have hBu : ∀ ν', inv ν' → BRep ν'.2 lb (s :: sg) := fun ν' hν' => by rw [(hi ν' hν').1]; exact h4
        have hll : (b :: as).length < 2 ^ 31 := by
          obtain ⟨-, -, ea, -, -, l5, l6, -⟩ := h2
          omega
        simp only [List.length_cons] at hll
        refine ⟨h, la, h1, h2.1, ?_⟩
        refine xl_get (k := 0) (hL ν hν) rfl ⟨b, rfl, by rw [q2]; exact VT.isV h5, ?_⟩
        refine g3 ν _ hν (fun ν1 hν1 => ?_)
        unfold xw_X11_at_21
        intro X hX
        have key : ∀ (as' sg' : List Nat) (j : Nat) (cs0 : List Nat) (ν2 : XN), as.drop j = as' → sg.drop j = sg' → j ≤ as.length → jn (VT al b0 ρ d).1 as' (sg'.map sgO) cs0 cs → Sg pt lk cs0 → inR (evV pt lk cs0) → inv ν2 → X a m (lI (evV pt lk cs0)) (nI (j + 1)) ν2 := by
          intro as'
          induction as' with
          | nil =>
            intro sg' j cs0 ν2 d1 d2 hj hjn s1 s2 hν2
            have hjl : as.length ≤ j := List.drop_eq_nil_iff.mp d1
            have hsg : sg' = [] := by
              cases sg' with
              | nil => rfl
              | cons _ _ => exact hjn.elim
            subst hsg
            have hcs : cs = cs0 := hjn
            refine hX _ _ _ _ _ ?_
            have q3 := (hi ν2 hν2).1
            rw [q3]
            refine ⟨h, la, h1, h2.1, xl_size (hL ν2 hν2) ⟨fun _ => ?_, fun z => absurd ?_ z⟩⟩
            · rw [← hcs]; exact hQ ν2 hν2
            · rw [nI_leI (by simp only [List.length_cons]; omega) (by omega)]
              simp only [List.length_cons]; omega
          | cons a' as' iha =>
            intro sg' j cs0 ν2 d1 d2 hj hjn s1 s2 hν2
            cases sg' with
            | nil => exact hjn.elim
            | cons x sg' =>
              obtain ⟨c', w1, w2, w3, w4⟩ := hjn
              obtain ⟨f1, f2, f3⟩ := (ih a' c').1 w1
              obtain ⟨e1, e2⟩ := Sg.op s1 f1 w3
              obtain ⟨x1, x2, x3⟩ := drop_cons d1
              obtain ⟨y1, y2, y3⟩ := drop_cons d2
              have hxm : x ∈ sg := List.mem_of_getElem? y1
              have hx128 : x < 128 := h4.2.2.2.2 x (List.mem_cons_of_mem _ hxm)
              refine hX _ _ _ _ _ ?_
              have q3 := (hi ν2 hν2).1
              rw [q3]
              refine ⟨h, la, h1, h2.1, xl_size (hL ν2 hν2) ⟨fun z => ?_, fun _ => ?_⟩⟩
              · rw [nI_leI (by simp only [List.length_cons]; omega) (by omega)] at z
                simp only [List.length_cons] at z; omega
              · refine ⟨by rw [q3]; exact h, lb, by rw [q3]; exact h3, by rw [q3]; exact h4.1, ?_⟩
                refine xl_sbAt (c := x) (hBu ν2 hν2) (by rw [List.getElem?_cons_succ]; exact y1) ?_
                refine ⟨by rw [q3]; exact h, la, by rw [q3]; exact h1, by rw [q3]; exact h2.1, ?_⟩
                refine xl_get (x := a') (hL ν2 hν2) (by rw [List.getElem?_cons_succ]; exact x1) ⟨a', rfl, by rw [q3]; exact VT.isV w1, ?_⟩
                refine f3 ν2 _ hν2 (fun ν3 hν3 => ?_)
                refine xl_two (h6 x hxm) hx128 s2 f2 ?_
                rw [nI_1]
                rw [← e2]
                exact iha sg' (j + 1) _ ν3 x2 y2 (by omega) w4 e1 (by rw [e2]; exact opv_V ⟨w2, sgO_lt x⟩ s2 f2) hν3
        exact key as sg 0 c ν1 rfl rfl (by omega) h7 g1 g2 hν1
    · rintro (⟨h, h1⟩ | ⟨h, b, c, h1, h2, h3⟩ | ⟨h, k, b1, b2, c1, c2, h1, h2, h3, h4, h5, h6, h7⟩ | ⟨h, la, b, as, c, o', h1, h2, h3, h4, h5, h6⟩)
      · subst h1
        have e : evV pt lk [13] = 1 := rfl
        refine ⟨fun k => rfl, Or.inr rfl, fun ν Q hν hQ => ?_⟩
        rw [e, if_pos rfl] at hQ
        have q2 := (hi ν hν).1
        refine Or.inr (Or.inr (Or.inl ⟨by rw [q2]; exact h, ?_⟩))
        unfold xw_X19_holds
        exact hQ ν hν
      · subst h1
        obtain ⟨g1, g2, g3⟩ := (ih b c).2 h3
        have ee : ∀ r, evL pt lk (c ++ [12]) r = (1 - evV pt lk c) :: r := by
          intro r
          rw [evL_app, g1 r]
          rfl
        have e : evV pt lk (c ++ [12]) = 1 - evV pt lk c := by unfold evV; rw [ee []]; rfl
        refine ⟨fun r => by rw [ee r, e], by rw [e]; omega, fun ν Q hν hQ => ?_⟩
        rw [e] at hQ
        have q2 := (hi ν hν).1
        refine Or.inr (Or.inl ⟨by rw [q2]; exact h, ?_⟩)
        unfold xw_X18_holds
        rw [q2]
        refine ⟨h, b, h2, g3 ν _ hν (fun ν1 hν1 => ?_)⟩
        have h9 := hQ ν1 hν1
        rcases g2 with z | z
        · rw [z] at h9 ⊢
          exact ⟨fun q => absurd rfl q, fun _ => h9⟩
        · rw [z] at h9 ⊢
          exact ⟨fun _ => h9, fun q => absurd q (by decide)⟩
      · subst h2
        obtain ⟨g1, g2, g3⟩ := (ih b1 c1).1 h6
        obtain ⟨f1, f2, f3⟩ := (ih b2 c2).1 h7
        have ho : 7 ≤ opC k ∧ opC k < 10 := by rcases h1 with rfl | rfl | rfl <;> decide
        obtain ⟨e1, e2⟩ := Sg.op g1 f1 (show opC k < 12 by omega)
        refine ⟨e1, by rw [e2]; exact opv_T ho, fun ν Q hν hQ => ?_⟩
        rw [e2] at hQ
        have q2 := (hi ν hν).1
        refine Or.inr (Or.inr (Or.inr ⟨by rw [q2]; exact h, ?_⟩))
        unfold xw_X20_holds
        rw [q2]
        refine ⟨h, b1, h4, g3 ν _ hν (fun ν1 hν1 => ?_)⟩
        have q3 := (hi ν1 hν1).1
        rw [q3]
        refine ⟨h, b2, h5, f3 ν1 _ hν1 (fun ν2 hν2 => ?_)⟩
        have q4 := (hi ν2 hν2).1
        rw [q4, h3]
        have h9 := hQ ν2 hν2
        generalize evV pt lk c1 = u at *
        generalize evV pt lk c2 = v at *
        unfold inR at g2 f2
        rcases h1 with rfl | rfl | rfl
        · have eo : opv (opC 60) u v = if u < v then 1 else 0 := rfl
          rw [eo] at h9
          simp (disch := omega) only [i_0, i_1, i_2, i_3, i_4, i_5, i_6, i_7, i_8, i_9, i_10, i_11, i_12, i_13, i_16, i_19, i_20, i_21, i_22, i_23, i_24, i_25, i_30, i_31, i_32, i_39, i_40, i_41, i_42, i_43, i_44, i_45, i_47, i_48, i_49, i_50, i_51, i_52, i_57, i_59, i_60, i_61, i_62, i_63, i_64, i_71, i_72, i_80, i_91, i_93, i_97, i_99, i_100, i_122, i_227, i_228, i_232, i_251, i_255, i_256, i_463, i_999, i_1000, i_1519, i_1600, i_9999, i_100000000, i_2147483639, i_2147483647, neg_nI1, nI_add, pk_mul, nI_remL, pk_sub, pk_div, nI_clamp, nI_leI, nI_ltI, nI_eq, vpT, nI_m1, m1_nI, nI_lem1, m1_le, m1_lt, nI_ltm1, nI_bit, nI_shl, nI_xor, nI_or, n_rem, l_0, l_1, l_9, l_27, l_64, l_12345, l_1000000, l_1103515245, l_2147483648, l_1000000000000000, lI_neg, lI_add, lI_sub, lI_mul, lgc_le, lgc_ge, lgc_eq, lgc_lt, lgc_gt, nI_toL, lI_toI, forall_eq, true_and, and_true, implies_true, true_implies, false_implies, not_true_eq_false, not_false_eq_true, Nat.zero_add, Nat.add_zero, ite_true, ite_false, if_true, if_false, true_or, or_true, false_or, or_false, and_self, and_false, false_and, Nat.reduceEqDiff, reduceIte, lI_le, lI_lt, lI_eq]
          refine ⟨h, fun c => ?_, fun c => ?_⟩
          · rw [if_neg (by omega)] at h9; exact h9
          · rw [if_pos (by omega)] at h9; exact h9
        · have eo : opv (opC 61) u v = if u = v then 1 else 0 := rfl
          rw [eo] at h9
          simp (disch := omega) only [i_0, i_1, i_2, i_3, i_4, i_5, i_6, i_7, i_8, i_9, i_10, i_11, i_12, i_13, i_16, i_19, i_20, i_21, i_22, i_23, i_24, i_25, i_30, i_31, i_32, i_39, i_40, i_41, i_42, i_43, i_44, i_45, i_47, i_48, i_49, i_50, i_51, i_52, i_57, i_59, i_60, i_61, i_62, i_63, i_64, i_71, i_72, i_80, i_91, i_93, i_97, i_99, i_100, i_122, i_227, i_228, i_232, i_251, i_255, i_256, i_463, i_999, i_1000, i_1519, i_1600, i_9999, i_100000000, i_2147483639, i_2147483647, neg_nI1, nI_add, pk_mul, nI_remL, pk_sub, pk_div, nI_clamp, nI_leI, nI_ltI, nI_eq, vpT, nI_m1, m1_nI, nI_lem1, m1_le, m1_lt, nI_ltm1, nI_bit, nI_shl, nI_xor, nI_or, n_rem, l_0, l_1, l_9, l_27, l_64, l_12345, l_1000000, l_1103515245, l_2147483648, l_1000000000000000, lI_neg, lI_add, lI_sub, lI_mul, lgc_le, lgc_ge, lgc_eq, lgc_lt, lgc_gt, nI_toL, lI_toI, forall_eq, true_and, and_true, implies_true, true_implies, false_implies, not_true_eq_false, not_false_eq_true, Nat.zero_add, Nat.add_zero, ite_true, ite_false, if_true, if_false, true_or, or_true, false_or, or_false, and_self, and_false, false_and, Nat.reduceEqDiff, reduceIte, lI_le, lI_lt, lI_eq]
          refine ⟨h, h, fun c => ?_, fun c => ?_⟩
          · rw [if_neg c] at h9; exact h9
          · rw [if_pos c] at h9; exact h9
        · have eo : opv (opC 62) u v = if v < u then 1 else 0 := rfl
          rw [eo] at h9
          simp (disch := omega) only [i_0, i_1, i_2, i_3, i_4, i_5, i_6, i_7, i_8, i_9, i_10, i_11, i_12, i_13, i_16, i_19, i_20, i_21, i_22, i_23, i_24, i_25, i_30, i_31, i_32, i_39, i_40, i_41, i_42, i_43, i_44, i_45, i_47, i_48, i_49, i_50, i_51, i_52, i_57, i_59, i_60, i_61, i_62, i_63, i_64, i_71, i_72, i_80, i_91, i_93, i_97, i_99, i_100, i_122, i_227, i_228, i_232, i_251, i_255, i_256, i_463, i_999, i_1000, i_1519, i_1600, i_9999, i_100000000, i_2147483639, i_2147483647, neg_nI1, nI_add, pk_mul, nI_remL, pk_sub, pk_div, nI_clamp, nI_leI, nI_ltI, nI_eq, vpT, nI_m1, m1_nI, nI_lem1, m1_le, m1_lt, nI_ltm1, nI_bit, nI_shl, nI_xor, nI_or, n_rem, l_0, l_1, l_9, l_27, l_64, l_12345, l_1000000, l_1103515245, l_2147483648, l_1000000000000000, lI_neg, lI_add, lI_sub, lI_mul, lgc_le, lgc_ge, lgc_eq, lgc_lt, lgc_gt, nI_toL, lI_toI, forall_eq, true_and, and_true, implies_true, true_implies, false_implies, not_true_eq_false, not_false_eq_true, Nat.zero_add, Nat.add_zero, ite_true, ite_false, if_true, if_false, true_or, or_true, false_or, or_false, and_self, and_false, false_and, Nat.reduceEqDiff, reduceIte, lI_le, lI_lt, lI_eq]
          refine ⟨h, h, fun c => ?_, fun c => ?_⟩
          · rw [if_neg (by omega)] at h9; exact h9
          · rw [if_pos (by omega)] at h9; exact h9
      · obtain ⟨g1, g2, g3⟩ := (ih b c).2 h5
        -- the pure side
        have pure : ∀ (as cs0 ds : List Nat), jn (VT al b0 ρ d).2 as (as.map (fun _ => o')) cs0 ds → Sg pt lk cs0 → (evV pt lk cs0 = 0 ∨ evV pt lk cs0 = 1) → Sg pt lk ds ∧ (evV pt lk ds = 0 ∨ evV pt lk ds = 1) ∧ (evV pt lk cs0 = 1 - (11 - (o' : Int)) → evV pt lk ds = 1 - (11 - (o' : Int))) := by
          intro as
          induction as with
          | nil =>
            intro cs0 ds hj q1 q2
            rw [show ds = cs0 from hj]; exact ⟨q1, q2, fun z => z⟩
          | cons a0 as iha =>
            intro cs0 ds hj q1 q2
            obtain ⟨c', w1, w2, w3, w4⟩ := hj
            obtain ⟨f1, f2, f3⟩ := (ih a0 c').2 w1
            obtain ⟨e1, e2⟩ := Sg.op (o := o') q1 f1 w3
            have w4 : jn (VT al b0 ρ d).2 as (as.map (fun _ => o')) (cs0 ++ c' ++ [o']) ds := w4
            obtain ⟨z1, z2, z3⟩ := iha _ ds w4 e1 (by rw [e2]; exact opv_TT ⟨by omega, by omega⟩ q2 f2)
            refine ⟨z1, z2, fun q => z3 ?_⟩
            rw [e2, q]
            exact (opv_sg h1 f2).2
        obtain ⟨p1, p2, -⟩ := pure _ _ _ h6 g1 g2
        refine ⟨p1, p2, fun ν Q hν hQ => ?_⟩
        have q2 := (hi ν hν).1
        refine Or.inl ⟨by rw [q2]; exact h, ?_⟩
        unfold xw_X17_holds xw_X17_holds_2
        intro X hX
        have hL : ∀ ν', inv ν' → LRep ν'.2 la (b :: as) := fun ν' hν' => by rw [(hi ν' hν').1]; exact h4
        have hll : (b :: as).length < 2 ^ 31 := by
          obtain ⟨-, -, ea, -, -, l5, l6, -⟩ := h4
          omega
        have key : ∀ (rest : List Nat) (j : Nat) (ν2 : XN), (b :: as).drop j = rest → j ≤ (b :: as).length → (∀ a' rest', rest = a' :: rest' → ∃ c', (VT al b0 ρ d).2 a' c' ∧ ∃ cs1, Sg pt lk cs1 ∧ evV pt lk cs1 = evV pt lk c' ∧ jn (VT al b0 ρ d).2 rest' (rest'.map (fun _ => o')) cs1 cs) → (rest = [] → evV pt lk cs = 11 - (o' : Int)) → inv ν2 → X a m (nI j) ν2 := by
          intro rest
          induction rest with
          | nil =>
            intro j ν2 d1 hj hc he hν2
            have hjl : (b :: as).length ≤ j := List.drop_eq_nil_iff.mp d1
            refine hX _ _ _ _ ?_
            have q3 := (hi ν2 hν2).1
            rw [q3]
            refine ⟨h, la, h3, h4.1, xl_size (hL ν2 hν2) ⟨fun _ => ?_, fun z => absurd ?_ z⟩⟩
            · have h9 := hQ ν2 hν2
              rw [he rfl] at h9
              rw [q3, h2]
              refine ⟨h, ?_⟩
              rcases h1 with rfl | rfl
              · exact ⟨nb_1, h9⟩
              · exact ⟨nb_0, h9⟩
            · rw [nI_leI (by omega) (by omega)]; omega
          | cons a' rest' ihr =>
            intro j ν2 d1 hj hc he hν2
            obtain ⟨x1, x2, x3⟩ := drop_cons d1
            obtain ⟨c', w1, cs1, w2, w3, w4⟩ := hc a' rest' rfl
            obtain ⟨f1, f2, f3⟩ := (ih a' c').2 w1
            refine hX _ _ _ _ ?_
            have q3 := (hi ν2 hν2).1
            rw [q3]
            refine ⟨h, la, h3, h4.1, xl_size (hL ν2 hν2) ⟨fun z => ?_, fun _ => ?_⟩⟩
            · rw [nI_leI (by omega) (by omega)] at z; omega
            · refine ⟨by rw [q3]; exact h, la, by rw [q3]; exact h3, by rw [q3]; exact h4.1, ?_⟩
              refine xl_get (x := a') (hL ν2 hν2) x1 ⟨a', rfl, by rw [q3]; exact VT.isT w1, ?_⟩
              refine f3 ν2 _ hν2 (fun ν3 hν3 => ?_)
              have q4 := (hi ν3 hν3).1
              rw [q4, h2]
              have ho : o' < 12 := by omega
              have hx : (nI (if evV pt lk c' = 1 then 1 else 0) = nI (11 - o')) = (evV pt lk c' = 11 - (o' : Int)) := by
                rcases h1 with rfl | rfl <;> rcases f2 with z | z <;> rw [z] <;> decide
              rw [hx]
              refine ⟨h, fun z => ?_, fun z => ⟨h, ?_⟩⟩
              · rw [nI_1]
                refine ihr (j + 1) ν3 x2 (by omega) (fun a2 rest2 e2 => ?_) (fun e2 => ?_) hν3
                · subst e2
                  obtain ⟨c2, y1, y2, y3, y4⟩ := w4
                  obtain ⟨k1, k2, k3⟩ := (ih a2 c2).2 y1
                  obtain ⟨e1, e2⟩ := Sg.op w2 k1 y3
                  refine ⟨c2, y1, _, e1, ?_, y4⟩
                  rw [e2, w3, z]
                  exact (opv_sg h1 k2).1
                · subst e2
                  rw [show cs = cs1 from w4, w3, z]
              · have hne : evV pt lk c' = 1 - (11 - (o' : Int)) := by omega
                obtain ⟨-, -, y3⟩ := pure _ _ _ w4 w2 (by rw [w3]; exact f2)
                have h9 := hQ ν3 hν3
                rw [y3 (by rw [w3]; exact hne)] at h9
                rcases h1 with rfl | rfl
                · exact ⟨fun _ => h9, fun q => absurd q (by decide)⟩
                · exact ⟨fun q => absurd rfl q, fun _ => h9⟩
        refine key (b :: as) 0 ν rfl (by omega) (fun a' rest' e => ?_) (fun e => by cases e) hν
        injection e with e1 e2
        subst e1 e2
        exact ⟨c, h5, c, g1, rfl, h6⟩
