/-! THE SPECIFICATION of sums and tests: codes, behind one another as they are reckoned -/
def isW (w : List Nat) (t : Nat → Nat) (e a : Nat) : Bool := isLt (bt t e a) && !(prt t a) && decide (wd t a (wE t e a) = w)
theorem isW_iff {w : List Nat} {t : Nat → Nat} {e a : Nat} : isW w t e a = true ↔ hereW t e a w := by
  unfold isW hereW
  rw [Bool.and_eq_true, Bool.and_eq_true, decide_eq_true_iff, Bool.not_eq_true', and_assoc]
def opM (c : Nat) : Nat := if c = 42 then 3 else if c = 47 then 4 else 0
def opA (c : Nat) : Nat := if c = 43 then 1 else if c = 45 then 2 else 0
def opC (c : Nat) : Nat := if c = 60 then 7 else if c = 62 then 8 else if c = 61 then 9 else 0
/-- as long as a sign stands there -/
def chL (AT : Nat → PR (List Nat)) (ops : Nat → Nat) (t : Nat → Nat) (e : Nat) : Nat → List Nat → Nat → PR (List Nat)
  | 0, cs, a => .inl (cs, lk t e a)
  | f + 1, cs, a => if ops (bt t e (lk t e a)) = 0 then .inl (cs, lk t e a) else pB (AT (lk t e a + 1)) (fun ds b => chL AT ops t e f (cs ++ ds ++ [ops (bt t e (lk t e a))]) b)
def pProd (AT : Nat → PR (List Nat)) (t : Nat → Nat) (e a : Nat) : PR (List Nat) := pB (AT a) (fun cs b => chL AT opM t e (e + 1 - b) cs b)
def pSum (AT : Nat → PR (List Nat)) (t : Nat → Nat) (e a : Nat) : PR (List Nat) := pB (pProd AT t e a) (fun cs b => chL (pProd AT t e) opA t e (e + 1 - b) cs b)
/-- which word it is: parts 0 .. 8, then knows, lifts; 11 none of these -/
def wIx (w : List Nat) : Nat := (List.range 11).foldr (fun i r => if str (91 + i) = w then i else r) 11
/-- what is opened: nothing more may be, or what may follow -/
def pAtomG (al : Nat → Bool) (rec : Option (Nat → PR (List Nat))) (t : Nat → Nat) (e a : Nat) : PR (List Nat) :=
  if bt t e (lk t e a) = 40 then (match rec with
    | none => .inr (4, lk t e a)
    | some AT => pB (pSum AT t e (lk t e a + 1)) (fun cs b => pB (pSign 41 t e b) (fun _ b2 => .inl (cs, b2))))
  else if isDg (bt t e (lk t e a)) = true then pB (pNum 0 9999 t e a) (fun v b => .inl ([1000 + v.1], b))
  else pB (pWord t e a) (fun q b =>
    if wIx q.1 < 9 ∧ al (wIx q.1) = true then .inl ([40 + wIx q.1], b)
    else if 9 ≤ wIx q.1 ∧ wIx q.1 < 11 ∧ al (wIx q.1) = true then (match rec with
      | none => .inr (4, q.2)
      | some AT => pB (AT b) (fun cs b2 => .inl (cs ++ [51 + wIx q.1], b2)))
    else if q.1 = str 89 ∨ q.1 = str 90 then (if bt t e (lk t e b) = 40 then (match rec with
        | none => .inr (4, lk t e b)
        | some AT => pB (pSum AT t e (lk t e b + 1)) (fun cs b1 => pB (pSign 44 t e b1) (fun _ b2 => pB (pSum AT t e b2) (fun ds b3 => pB (pSign 41 t e b3) (fun _ b4 => .inl (cs ++ ds ++ [if q.1 = str 89 then 5 else 6], b4))))))
      else .inr (1, lk t e b))
    else .inr (1, q.2))
def pAtom (al : Nat → Bool) (t : Nat → Nat) (e : Nat) : Nat → Nat → PR (List Nat)
  | 0 => pAtomG al none t e
  | r + 1 => pAtomG al (some (pAtom al t e r)) t e
def lpL (F : Nat → PR (List Nat)) (w : List Nat) (o : Nat) (t : Nat → Nat) (e : Nat) : Nat → List Nat → Nat → PR (List Nat)
  | 0, cs, a => .inl (cs, lk t e a)
  | f + 1, cs, a => if isW w t e (lk t e a) = true then pB (F (wE t e (lk t e a))) (fun ds b => lpL F w o t e f (cs ++ ds ++ [o]) b) else .inl (cs, lk t e a)
def pBoth (F : Nat → PR (List Nat)) (t : Nat → Nat) (e a : Nat) : PR (List Nat) := pB (F a) (fun cs b => lpL F (str 86) 10 t e (e + 1 - b) cs b)
def pTest (F : Nat → PR (List Nat)) (t : Nat → Nat) (e a : Nat) : PR (List Nat) := pB (pBoth F t e a) (fun cs b => lpL (pBoth F t e) (str 87) 11 t e (e + 1 - b) cs b)
def pFactG (AT : Nat → PR (List Nat)) (rec : Option (Nat → PR (List Nat))) (t : Nat → Nat) (e a : Nat) : PR (List Nat) :=
  if bt t e (lk t e a) = 91 then (match rec with
    | none => .inr (4, lk t e a)
    | some F => pB (pTest F t e (lk t e a + 1)) (fun cs b => pB (pSign 93 t e b) (fun _ b2 => .inl (cs, b2))))
  else if isW (str 85) t e (lk t e a) = true then (match rec with
    | none => .inr (4, lk t e a)
    | some F => pB (F (wE t e (lk t e a))) (fun cs b => .inl (cs ++ [12], b)))
  else if isW (str 88) t e (lk t e a) = true then .inl ([13], wE t e (lk t e a))
  else pB (pSum AT t e a) (fun cs b => if opC (bt t e (lk t e b)) = 0 then .inr (1, lk t e b) else pB (pSum AT t e (lk t e b + 1)) (fun ds b2 => .inl (cs ++ ds ++ [opC (bt t e (lk t e b))], b2)))
def pFact (al : Nat → Bool) (t : Nat → Nat) (e : Nat) : Nat → Nat → PR (List Nat)
  | 0 => pFactG (pAtom al t e 0) none t e
  | r + 1 => pFactG (pAtom al t e (r + 1)) (some (pFact al t e r)) t e
/-! THE REFERENCE: codes and what waits -/
def wl (f : Nat → Int32) : List Nat → Prop
  | [] => True
  | w :: r => f r.length = nI w ∧ w < 100 ∧ wl f r
theorem wl_eq {f g : Nat → Int32} : ∀ {W : List Nat}, wl f W → (∀ i, i < W.length → g i = f i) → wl g W
  | [], _, _ => trivial
  | w :: r, h, e => ⟨(e _ (by simp)).trans h.1, h.2.1, wl_eq h.2.2 (fun i hi => e i (by simp; omega))⟩
def Cq (σ : FS) (C : List Nat) : Prop := fI σ 0 103 = nI C.length ∧ ∀ (i : Nat) c, C[i]? = some c → fA σ 102 i = nI c
def Wq (σ : FS) (W : List Nat) : Prop := fI σ 0 105 = nI W.length ∧ wl (fA σ 104) W
/-- reading of a sum: place, codes so far, what waits, how many are open, where the sum begins in what waits -/
def Xs (σ : FS) (t : Nat → Nat) (e a : Nat) (C W : List Nat) (o B : Nat) : Prop := Tok σ t e a ∧ Cq σ C ∧ Wq σ W ∧ (fI σ 0 106 = nI o ∧ o ≤ 6) ∧ fI σ 0 107 = nI B ∧ C.length + W.length ≤ a
abbrev kQ : List Nat := [2, 4, 5, 6, 10, 38, 103, 105, 106, 107]
abbrev FQ (σ σ' : FS) : Prop := Fm kQ [102, 104] [] σ σ'
theorem FT.q {σ σ' : FS} (h : FT σ σ') : FQ σ σ' := h.wide (by decide) (by decide) (by decide)
theorem Cq.eqv {σ σ' : FS} {C : List Nat} (h : Cq σ C) (e1 : fI σ' 0 103 = fI σ 0 103) (e2 : fA σ' 102 = fA σ 102) : Cq σ' C := ⟨by rw [e1]; exact h.1, by rw [e2]; exact h.2⟩
theorem Wq.eqv {σ σ' : FS} {W : List Nat} (h : Wq σ W) (e1 : fI σ' 0 105 = fI σ 0 105) (e2 : fA σ' 104 = fA σ 104) : Wq σ' W := ⟨by rw [e1]; exact h.1, by rw [e2]; exact h.2⟩
/-- only the place moved on -/
theorem Xs.tok {σ σ' : FS} {t : Nat → Nat} {e a b : Nat} {C W : List Nat} {o B : Nat} (h : Xs σ t e a C W o B) (f : FT σ σ') (hT : Tok σ' t e b) (hab : a ≤ b) : Xs σ' t e b C W o B :=
  ⟨hT, h.2.1.eqv (f.1 103 (by decide)) (f.2.1 102 (by decide)), h.2.2.1.eqv (f.1 105 (by decide)) (f.2.1 104 (by decide)), ⟨by rw [f.1 106 (by decide)]; exact h.2.2.2.1.1, h.2.2.2.1.2⟩, by rw [f.1 107 (by decide)]; exact h.2.2.2.2.1, by have := h.2.2.2.2.2; omega⟩
theorem Tok.q {σ σ' : FS} {t : Nat → Nat} {e a : Nat} (h : Tok σ t e a) (f : Fm [103, 105, 106, 107] [102, 104] [] σ σ') : Tok σ' t e a :=
  ⟨h.1.fm f (by decide) (by decide), by rw [f.1 2 (by decide)]; exact h.2.1, h.2.2.1, by rw [f.1 5 (by decide)]; exact h.2.2.2.1, h.2.2.2.2.eqv (f.1 4 (by decide)) (f.1 6 (by decide))⟩
/-- what codes and waits alone change -/
abbrev FW (σ σ' : FS) : Prop := Fm [103, 105, 106, 107] [102, 104] [] σ σ'
theorem ml_qCode {σ : FS} {C : List Nat} {c : Nat} {Q : FS → Prop} (h : Cq σ C) (hl : C.length < 1700) (hQ : ∀ σ', Fm [103] [102] [] σ σ' → Cq σ' (C ++ [c]) → Q σ') : mw_qCode (nI c) σ Q := by
  unfold mw_qCode
  rw [h.1]
  simp (disch := omega) only [i_0, i_1, i_2, i_3, i_4, i_5, i_6, i_7, i_8, i_9, i_10, i_11, i_12, i_13, i_16, i_19, i_20, i_21, i_22, i_23, i_24, i_25, i_30, i_31, i_32, i_39, i_40, i_41, i_42, i_43, i_44, i_45, i_47, i_48, i_49, i_50, i_51, i_52, i_57, i_59, i_60, i_61, i_62, i_63, i_64, i_71, i_72, i_80, i_91, i_93, i_97, i_99, i_100, i_122, i_227, i_228, i_232, i_251, i_255, i_256, i_463, i_999, i_1000, i_1519, i_1600, i_9999, i_100000000, i_2147483639, i_2147483647, neg_nI1, nI_add, pk_mul, nI_remL, pk_sub, pk_div, nI_clamp, nI_leI, nI_ltI, nI_eq, vpT, nI_m1, m1_nI, nI_lem1, m1_le, m1_lt, nI_ltm1, nI_bit, nI_shl, nI_xor, nI_or, n_rem, forall_eq, true_and, and_true, implies_true, true_implies, false_implies, not_true_eq_false, not_false_eq_true, Nat.zero_add, Nat.add_zero, ite_true, ite_false, if_true, if_false, true_or, or_true, false_or, or_false, and_self, and_false, false_and, Nat.reduceEqDiff, reduceIte, fI_sI, fI_sL, fI_sA, fI_sB, fL_sI, fL_sL, fL_sA, fL_sB, fA_sI, fA_sL, fA_sA, fA_sB, fB_sI, fB_sL, fB_sA, fB_sB]
  rw [h.1, nI_add]
  refine hQ _ ((Fm.sA σ _ _ (by decide)).trans (Fm.sI _ _ (by decide))) ⟨by rw [fI_sI]; simp, fun i c' hi => ?_⟩
  rw [fA_sI, fA_sA]
  rcases Nat.lt_or_ge i C.length with w | w
  · rw [List.getElem?_append_left w] at hi
    rw [if_neg (by omega)]; exact h.2 i c' hi
  · rw [List.getElem?_append_right w] at hi
    have hz : i = C.length := by
      have := (List.getElem?_eq_some_iff.mp hi).1
      simp at this; omega
    subst hz
    simp at hi
    subst hi
    rw [if_pos ⟨rfl, rfl⟩]
theorem ml_qDrops {σ : FS} {t : Nat → Nat} {e a : Nat} {C W : List Nat} {w o B : Nat} {Q : FS → Prop} (h : Xs σ t e a C (w :: W) o B) (hQ : ∀ σ', FW σ σ' → Xs σ' t e a (C ++ [w]) W o B → Q σ') : mw_qDrops σ Q := by
  have hle := h.1.le
  obtain ⟨hT, hC, hW, ho, hB, hl⟩ := h
  simp only [List.length_cons] at hl
  have h105 : fI σ 0 105 = nI (W.length + 1) := hW.1
  unfold mw_qDrops
  rw [h105]
  simp (disch := omega) only [i_0, i_1, i_2, i_3, i_4, i_5, i_6, i_7, i_8, i_9, i_10, i_11, i_12, i_13, i_16, i_19, i_20, i_21, i_22, i_23, i_24, i_25, i_30, i_31, i_32, i_39, i_40, i_41, i_42, i_43, i_44, i_45, i_47, i_48, i_49, i_50, i_51, i_52, i_57, i_59, i_60, i_61, i_62, i_63, i_64, i_71, i_72, i_80, i_91, i_93, i_97, i_99, i_100, i_122, i_227, i_228, i_232, i_251, i_255, i_256, i_463, i_999, i_1000, i_1519, i_1600, i_9999, i_100000000, i_2147483639, i_2147483647, neg_nI1, nI_add, pk_mul, nI_remL, pk_sub, pk_div, nI_clamp, nI_leI, nI_ltI, nI_eq, vpT, nI_m1, m1_nI, nI_lem1, m1_le, m1_lt, nI_ltm1, nI_bit, nI_shl, nI_xor, nI_or, n_rem, forall_eq, true_and, and_true, implies_true, true_implies, false_implies, not_true_eq_false, not_false_eq_true, Nat.zero_add, Nat.add_zero, ite_true, ite_false, if_true, if_false, true_or, or_true, false_or, or_false, and_self, and_false, false_and, Nat.reduceEqDiff, reduceIte, fI_sI, fI_sL, fI_sA, fI_sB, fL_sI, fL_sL, fL_sA, fL_sB, fA_sI, fA_sL, fA_sA, fA_sB, fB_sI, fB_sL, fB_sA, fB_sB]
  have e1 : W.length + 1 - 1 = W.length := rfl
  rw [e1, hW.2.1]
  have hF1 : Fm [105] [] [] σ (sI σ 0 105 (nI W.length)) := Fm.sI σ _ (by decide)
  refine ml_qCode (C := C) (hC.eqv (by rw [fI_sI]; simp) rfl) (by omega) (fun σ' hF hC' => ?_)
  have hF2 : FW σ σ' := (hF1.wide (by decide) (by decide) (by decide)).trans (hF.wide (by decide) (by decide) (by decide))
  refine hQ σ' hF2 ⟨hT.q hF2, hC', ⟨by rw [hF.1 105 (by decide), fI_sI]; simp, wl_eq hW.2.2.2 (fun i _ => by rw [hF.2.1 104 (by decide)]; rfl)⟩, ⟨by rw [hF.1 106 (by decide), fI_sI]; simpa using ho.1, ho.2⟩, by rw [hF.1 107 (by decide), fI_sI]; simpa using hB, by rw [List.length_append]; simp; omega⟩
/-- something more waits -/
theorem Xs.push {σ : FS} {t : Nat → Nat} {e a : Nat} {C W : List Nat} {w o B : Nat} (h : Xs σ t e a C W o B) (hw : w < 100) (hl : C.length + W.length < a) : Xs (sI (sA σ 104 W.length (nI w)) 0 105 (nI (W.length + 1))) t e a C (w :: W) o B ∧ FW σ (sI (sA σ 104 W.length (nI w)) 0 105 (nI (W.length + 1))) := by
  obtain ⟨hT, hC, hW, ho, hB, -⟩ := h
  have hF : FW σ (sI (sA σ 104 W.length (nI w)) 0 105 (nI (W.length + 1))) := (Fm.sA σ _ _ (by decide)).trans (Fm.sI _ _ (by decide))
  refine ⟨⟨hT.q hF, hC.eqv (by rw [fI_sI, fI_sA]; simp) (by funext i; rw [fA_sI, fA_sA, if_neg (by omega)]), ⟨by rw [fI_sI]; simp, ?_, hw, wl_eq hW.2 (fun i hi => by rw [fA_sI, fA_sA, if_neg (by omega)])⟩, ⟨by rw [fI_sI, fI_sA]; simpa using ho.1, ho.2⟩, by rw [fI_sI, fI_sA]; simpa using hB, by simp only [List.length_cons]; omega⟩, hF⟩
  rw [fA_sI, fA_sA, if_pos ⟨rfl, rfl⟩]
theorem ml_qIsOn {σ : FS} {W : List Nat} {w : Nat} {Q : Int32 → FS → Prop} (h : Wq σ W) (hl : W.length ≤ 1600) (hw : w < 100) (hy : ∀ W', W = w :: W' → Q (nI 1) σ) (hn : (∀ W', W ≠ w :: W') → Q (nI 0) σ) : mw_qIsOn (nI w) σ Q := by
  unfold mw_qIsOn
  rw [h.1]
  cases W with
  | nil =>
    simp (disch := omega) only [i_0, i_1, i_2, i_3, i_4, i_5, i_6, i_7, i_8, i_9, i_10, i_11, i_12, i_13, i_16, i_19, i_20, i_21, i_22, i_23, i_24, i_25, i_30, i_31, i_32, i_39, i_40, i_41, i_42, i_43, i_44, i_45, i_47, i_48, i_49, i_50, i_51, i_52, i_57, i_59, i_60, i_61, i_62, i_63, i_64, i_71, i_72, i_80, i_91, i_93, i_97, i_99, i_100, i_122, i_227, i_228, i_232, i_251, i_255, i_256, i_463, i_999, i_1000, i_1519, i_1600, i_9999, i_100000000, i_2147483639, i_2147483647, neg_nI1, nI_add, pk_mul, nI_remL, pk_sub, pk_div, nI_clamp, nI_leI, nI_ltI, nI_eq, vpT, nI_m1, m1_nI, nI_lem1, m1_le, m1_lt, nI_ltm1, nI_bit, nI_shl, nI_xor, nI_or, n_rem, forall_eq, true_and, and_true, implies_true, true_implies, false_implies, not_true_eq_false, not_false_eq_true, Nat.zero_add, Nat.add_zero, ite_true, ite_false, if_true, if_false, true_or, or_true, false_or, or_false, and_self, and_false, false_and, Nat.reduceEqDiff, reduceIte, List.length_nil]
    exact ⟨fun _ => hn (fun W' e => by cases e), fun z => absurd (Nat.le_refl 0) z⟩
  | cons x W =>
    obtain ⟨h1, h2, h3⟩ := h.2
    simp only [List.length_cons] at hl ⊢
    simp (disch := omega) only [i_0, i_1, i_2, i_3, i_4, i_5, i_6, i_7, i_8, i_9, i_10, i_11, i_12, i_13, i_16, i_19, i_20, i_21, i_22, i_23, i_24, i_25, i_30, i_31, i_32, i_39, i_40, i_41, i_42, i_43, i_44, i_45, i_47, i_48, i_49, i_50, i_51, i_52, i_57, i_59, i_60, i_61, i_62, i_63, i_64, i_71, i_72, i_80, i_91, i_93, i_97, i_99, i_100, i_122, i_227, i_228, i_232, i_251, i_255, i_256, i_463, i_999, i_1000, i_1519, i_1600, i_9999, i_100000000, i_2147483639, i_2147483647, neg_nI1, nI_add, pk_mul, nI_remL, pk_sub, pk_div, nI_clamp, nI_leI, nI_ltI, nI_eq, vpT, nI_m1, m1_nI, nI_lem1, m1_le, m1_lt, nI_ltm1, nI_bit, nI_shl, nI_xor, nI_or, n_rem, forall_eq, true_and, and_true, implies_true, true_implies, false_implies, not_true_eq_false, not_false_eq_true, Nat.zero_add, Nat.add_zero, ite_true, ite_false, if_true, if_false, true_or, or_true, false_or, or_false, and_self, and_false, false_and, Nat.reduceEqDiff, reduceIte]
    have e1 : W.length + 1 - 1 = W.length := rfl
    rw [e1, h1]
    simp (disch := omega) only [i_0, i_1, i_2, i_3, i_4, i_5, i_6, i_7, i_8, i_9, i_10, i_11, i_12, i_13, i_16, i_19, i_20, i_21, i_22, i_23, i_24, i_25, i_30, i_31, i_32, i_39, i_40, i_41, i_42, i_43, i_44, i_45, i_47, i_48, i_49, i_50, i_51, i_52, i_57, i_59, i_60, i_61, i_62, i_63, i_64, i_71, i_72, i_80, i_91, i_93, i_97, i_99, i_100, i_122, i_227, i_228, i_232, i_251, i_255, i_256, i_463, i_999, i_1000, i_1519, i_1600, i_9999, i_100000000, i_2147483639, i_2147483647, neg_nI1, nI_add, pk_mul, nI_remL, pk_sub, pk_div, nI_clamp, nI_leI, nI_ltI, nI_eq, vpT, nI_m1, m1_nI, nI_lem1, m1_le, m1_lt, nI_ltm1, nI_bit, nI_shl, nI_xor, nI_or, n_rem, forall_eq, true_and, and_true, implies_true, true_implies, false_implies, not_true_eq_false, not_false_eq_true, Nat.zero_add, Nat.add_zero, ite_true, ite_false, if_true, if_false, true_or, or_true, false_or, or_false, and_self, and_false, false_and, Nat.reduceEqDiff, reduceIte]
    refine ⟨fun z => by omega, fun _ => ⟨fun z => hn (fun W' e => by cases e; exact z rfl), fun z => hy W (by rw [z])⟩⟩
theorem ml_qIsBracket {σ : FS} {w : Nat} {Q : Int32 → FS → Prop} (hw : w < 100) (hQ : Q (nI (if 20 ≤ w ∧ w ≤ 24 then 1 else 0)) σ) : mw_qIsBracket (nI w) σ Q := by
  unfold mw_qIsBracket
  simp (disch := omega) only [i_0, i_1, i_2, i_3, i_4, i_5, i_6, i_7, i_8, i_9, i_10, i_11, i_12, i_13, i_16, i_19, i_20, i_21, i_22, i_23, i_24, i_25, i_30, i_31, i_32, i_39, i_40, i_41, i_42, i_43, i_44, i_45, i_47, i_48, i_49, i_50, i_51, i_52, i_57, i_59, i_60, i_61, i_62, i_63, i_64, i_71, i_72, i_80, i_91, i_93, i_97, i_99, i_100, i_122, i_227, i_228, i_232, i_251, i_255, i_256, i_463, i_999, i_1000, i_1519, i_1600, i_9999, i_100000000, i_2147483639, i_2147483647, neg_nI1, nI_add, pk_mul, nI_remL, pk_sub, pk_div, nI_clamp, nI_leI, nI_ltI, nI_eq, vpT, nI_m1, m1_nI, nI_lem1, m1_le, m1_lt, nI_ltm1, nI_bit, nI_shl, nI_xor, nI_or, n_rem, forall_eq, true_and, and_true, implies_true, true_implies, false_implies, not_true_eq_false, not_false_eq_true, Nat.zero_add, Nat.add_zero, ite_true, ite_false, if_true, if_false, true_or, or_true, false_or, or_false, and_self, and_false, false_and, Nat.reduceEqDiff, reduceIte]
  refine ⟨fun z => ?_, fun z => ⟨fun z2 => ?_, fun z2 => ?_⟩⟩
  · rw [if_neg (by omega)] at hQ; exact hQ
  · rw [if_neg (by omega)] at hQ; exact hQ
  · rw [if_pos (by omega)] at hQ; exact hQ
def isBr (w : Nat) : Prop := 20 ≤ w ∧ w ≤ 24
/-- the bracket that is open last in the sum: above the part of the waits that is W0 -/
theorem ml_qBracket {σ : FS} {V W0 : List Nat} {B : Nat} {Q : Int32 → FS → Prop} (h : Wq σ (V ++ W0)) (hl : (V ++ W0).length ≤ 1600) (hB : fI σ 0 107 = nI B) (hB2 : B = W0.length) (hQ : ∀ Vp, (∀ x ∈ Vp, ¬ isBr x) → ((V = Vp → Q M1 σ) ∧ ∀ b Vr, V = Vp ++ b :: Vr → isBr b → Q (nI b) σ)) : mw_qBracket σ Q := by
  unfold mw_qBracket mw_qBracket_7
  intro X hX
  rw [h.1]
  have key : ∀ (V1 V2 : List Nat), V = V1 ++ V2 → (∀ x ∈ V1, ¬ isBr x) → X (nI (V2 ++ W0).length - 1) σ := by
    intro V1 V2
    induction V2 generalizing V1 with
    | nil =>
      intro hV hV1
      refine hX _ _ ?_
      unfold mw_qBracket_33
      rw [hB, hB2]
      have hq := (hQ V1 hV1).1 (by rw [hV, List.append_nil])
      simp only [List.nil_append] at *
      cases hW : W0.length with
      | zero =>
        have e1 : nI 0 - 1 = M1 := by decide
        rw [e1]
        simp (disch := omega) only [i_0, i_1, i_2, i_3, i_4, i_5, i_6, i_7, i_8, i_9, i_10, i_11, i_12, i_13, i_16, i_19, i_20, i_21, i_22, i_23, i_24, i_25, i_30, i_31, i_32, i_39, i_40, i_41, i_42, i_43, i_44, i_45, i_47, i_48, i_49, i_50, i_51, i_52, i_57, i_59, i_60, i_61, i_62, i_63, i_64, i_71, i_72, i_80, i_91, i_93, i_97, i_99, i_100, i_122, i_227, i_228, i_232, i_251, i_255, i_256, i_463, i_999, i_1000, i_1519, i_1600, i_9999, i_100000000, i_2147483639, i_2147483647, neg_nI1, nI_add, pk_mul, nI_remL, pk_sub, pk_div, nI_clamp, nI_leI, nI_ltI, nI_eq, vpT, nI_m1, m1_nI, nI_lem1, m1_le, m1_lt, nI_ltm1, nI_bit, nI_shl, nI_xor, nI_or, n_rem, forall_eq, true_and, and_true, implies_true, true_implies, false_implies, not_true_eq_false, not_false_eq_true, Nat.zero_add, Nat.add_zero, ite_true, ite_false, if_true, if_false, true_or, or_true, false_or, or_false, and_self, and_false, false_and, Nat.reduceEqDiff, reduceIte]
        exact hq
      | succ n =>
        have : W0.length ≤ 1600 := by rw [List.length_append] at hl; omega
        simp (disch := omega) only [i_0, i_1, i_2, i_3, i_4, i_5, i_6, i_7, i_8, i_9, i_10, i_11, i_12, i_13, i_16, i_19, i_20, i_21, i_22, i_23, i_24, i_25, i_30, i_31, i_32, i_39, i_40, i_41, i_42, i_43, i_44, i_45, i_47, i_48, i_49, i_50, i_51, i_52, i_57, i_59, i_60, i_61, i_62, i_63, i_64, i_71, i_72, i_80, i_91, i_93, i_97, i_99, i_100, i_122, i_227, i_228, i_232, i_251, i_255, i_256, i_463, i_999, i_1000, i_1519, i_1600, i_9999, i_100000000, i_2147483639, i_2147483647, neg_nI1, nI_add, pk_mul, nI_remL, pk_sub, pk_div, nI_clamp, nI_leI, nI_ltI, nI_eq, vpT, nI_m1, m1_nI, nI_lem1, m1_le, m1_lt, nI_ltm1, nI_bit, nI_shl, nI_xor, nI_or, n_rem, forall_eq, true_and, and_true, implies_true, true_implies, false_implies, not_true_eq_false, not_false_eq_true, Nat.zero_add, Nat.add_zero, ite_true, ite_false, if_true, if_false, true_or, or_true, false_or, or_false, and_self, and_false, false_and, Nat.reduceEqDiff, reduceIte]
        exact ⟨fun _ => ⟨fun _ => hq, fun z => by omega⟩, fun z => by omega⟩
    | cons x V2 ih =>
      intro hV hV1
      have hlen : (V2 ++ W0).length + 1 ≤ 1600 := by
        rw [hV] at hl; simp only [List.length_append, List.length_cons] at hl ⊢; omega
      have hx : fA σ 104 (V2 ++ W0).length = nI x ∧ x < 100 := by
        have hw := h.2
        rw [hV] at hw
        have : ∀ (A : List Nat), wl (fA σ 104) (A ++ (x :: V2) ++ W0) → fA σ 104 (V2 ++ W0).length = nI x ∧ x < 100 := by
          intro A
          induction A with
          | nil => intro hw; exact ⟨hw.1, hw.2.1⟩
          | cons y A ihA => intro hw; exact ihA hw.2.2
        exact this V1 hw
      have e1 : nI (x :: V2 ++ W0).length - 1 = nI (V2 ++ W0).length := nI_pred _
      rw [e1]
      have hll : W0.length ≤ (V2 ++ W0).length := by rw [List.length_append]; omega
      have hb33 : isBr x → mw_qBracket_33 (nI (V2 ++ W0).length) σ Q := by
        intro hbr
        unfold mw_qBracket_33
        rw [hB, hB2]
        simp (disch := omega) only [i_0, i_1, i_2, i_3, i_4, i_5, i_6, i_7, i_8, i_9, i_10, i_11, i_12, i_13, i_16, i_19, i_20, i_21, i_22, i_23, i_24, i_25, i_30, i_31, i_32, i_39, i_40, i_41, i_42, i_43, i_44, i_45, i_47, i_48, i_49, i_50, i_51, i_52, i_57, i_59, i_60, i_61, i_62, i_63, i_64, i_71, i_72, i_80, i_91, i_93, i_97, i_99, i_100, i_122, i_227, i_228, i_232, i_251, i_255, i_256, i_463, i_999, i_1000, i_1519, i_1600, i_9999, i_100000000, i_2147483639, i_2147483647, neg_nI1, nI_add, pk_mul, nI_remL, pk_sub, pk_div, nI_clamp, nI_leI, nI_ltI, nI_eq, vpT, nI_m1, m1_nI, nI_lem1, m1_le, m1_lt, nI_ltm1, nI_bit, nI_shl, nI_xor, nI_or, n_rem, forall_eq, true_and, and_true, implies_true, true_implies, false_implies, not_true_eq_false, not_false_eq_true, Nat.zero_add, Nat.add_zero, ite_true, ite_false, if_true, if_false, true_or, or_true, false_or, or_false, and_self, and_false, false_and, Nat.reduceEqDiff, reduceIte]
        rw [hx.1]
        exact ⟨fun w => by omega, fun _ => (hQ V1 hV1).2 x V2 hV hbr⟩
      refine hX _ _ ?_
      rw [hB, hB2]
      simp (disch := omega) only [i_0, i_1, i_2, i_3, i_4, i_5, i_6, i_7, i_8, i_9, i_10, i_11, i_12, i_13, i_16, i_19, i_20, i_21, i_22, i_23, i_24, i_25, i_30, i_31, i_32, i_39, i_40, i_41, i_42, i_43, i_44, i_45, i_47, i_48, i_49, i_50, i_51, i_52, i_57, i_59, i_60, i_61, i_62, i_63, i_64, i_71, i_72, i_80, i_91, i_93, i_97, i_99, i_100, i_122, i_227, i_228, i_232, i_251, i_255, i_256, i_463, i_999, i_1000, i_1519, i_1600, i_9999, i_100000000, i_2147483639, i_2147483647, neg_nI1, nI_add, pk_mul, nI_remL, pk_sub, pk_div, nI_clamp, nI_leI, nI_ltI, nI_eq, vpT, nI_m1, m1_nI, nI_lem1, m1_le, m1_lt, nI_ltm1, nI_bit, nI_shl, nI_xor, nI_or, n_rem, forall_eq, true_and, and_true, implies_true, true_implies, false_implies, not_true_eq_false, not_false_eq_true, Nat.zero_add, Nat.add_zero, ite_true, ite_false, if_true, if_false, true_or, or_true, false_or, or_false, and_self, and_false, false_and, Nat.reduceEqDiff, reduceIte]
      rw [hx.1]
      refine ⟨fun z => by omega, fun _ => ml_qIsBracket hx.2 ?_⟩
      by_cases z : 20 ≤ x ∧ x ≤ 24
      · rw [if_pos z]
        simp (disch := omega) only [i_0, i_1, i_2, i_3, i_4, i_5, i_6, i_7, i_8, i_9, i_10, i_11, i_12, i_13, i_16, i_19, i_20, i_21, i_22, i_23, i_24, i_25, i_30, i_31, i_32, i_39, i_40, i_41, i_42, i_43, i_44, i_45, i_47, i_48, i_49, i_50, i_51, i_52, i_57, i_59, i_60, i_61, i_62, i_63, i_64, i_71, i_72, i_80, i_91, i_93, i_97, i_99, i_100, i_122, i_227, i_228, i_232, i_251, i_255, i_256, i_463, i_999, i_1000, i_1519, i_1600, i_9999, i_100000000, i_2147483639, i_2147483647, neg_nI1, nI_add, pk_mul, nI_remL, pk_sub, pk_div, nI_clamp, nI_leI, nI_ltI, nI_eq, vpT, nI_m1, m1_nI, nI_lem1, m1_le, m1_lt, nI_ltm1, nI_bit, nI_shl, nI_xor, nI_or, n_rem, forall_eq, true_and, and_true, implies_true, true_implies, false_implies, not_true_eq_false, not_false_eq_true, Nat.zero_add, Nat.add_zero, ite_true, ite_false, if_true, if_false, true_or, or_true, false_or, or_false, and_self, and_false, false_and, Nat.reduceEqDiff, reduceIte]
        exact hb33 z
      · rw [if_neg z]
        simp (disch := omega) only [i_0, i_1, i_2, i_3, i_4, i_5, i_6, i_7, i_8, i_9, i_10, i_11, i_12, i_13, i_16, i_19, i_20, i_21, i_22, i_23, i_24, i_25, i_30, i_31, i_32, i_39, i_40, i_41, i_42, i_43, i_44, i_45, i_47, i_48, i_49, i_50, i_51, i_52, i_57, i_59, i_60, i_61, i_62, i_63, i_64, i_71, i_72, i_80, i_91, i_93, i_97, i_99, i_100, i_122, i_227, i_228, i_232, i_251, i_255, i_256, i_463, i_999, i_1000, i_1519, i_1600, i_9999, i_100000000, i_2147483639, i_2147483647, neg_nI1, nI_add, pk_mul, nI_remL, pk_sub, pk_div, nI_clamp, nI_leI, nI_ltI, nI_eq, vpT, nI_m1, m1_nI, nI_lem1, m1_le, m1_lt, nI_ltm1, nI_bit, nI_shl, nI_xor, nI_or, n_rem, forall_eq, true_and, and_true, implies_true, true_implies, false_implies, not_true_eq_false, not_false_eq_true, Nat.zero_add, Nat.add_zero, ite_true, ite_false, if_true, if_false, true_or, or_true, false_or, or_false, and_self, and_false, false_and, Nat.reduceEqDiff, reduceIte]
        have := ih (V1 ++ [x]) (by rw [hV]; simp) (fun y hy => by
          rcases List.mem_append.mp hy with hy | hy
          · exact hV1 y hy
          · simp at hy; rw [hy]; exact z)
        rw [Int32.sub_eq_add_neg] at this
        exact this
  exact key [] V rfl (fun x hx => by cases hx)
