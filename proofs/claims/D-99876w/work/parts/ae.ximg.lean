/-! THE SYSTEM: images -/
def xOt (σ : FS) (l : List Nat) : Prop := fI σ 0 25 = nI l.length ∧ l.length ≤ 80 ∧ (∀ b ∈ l, b < 256) ∧ ∀ (i : Nat) b, l[i]? = some b → fA σ 11 i &&& nI 255 = nI b
theorem and255 {b : Nat} (h : b < 2 ^ 31) : nI b &&& nI 255 = nI (b % 256) := by rw [pk_andN (by omega) 8 (by decide)]
theorem xl_writes {ν : XN} {l : List Nat} {b : Nat} {Q : XN → Prop} (h : xOt ν.1 l) (hl : l.length < 80) (hb : b < 2 ^ 31) (hQ : ∀ ν', X0 [25] [11] ν.1 ν'.1 → ν'.2 = ν.2 → fL ν'.1 = fL ν.1 → xOt ν'.1 (l ++ [b % 256]) → Q ν') : xw_X0_writes (nI b) ν Q := by
  unfold xw_X0_writes
  intro ν1 e1
  subst e1
  rw [h.1, nI_clamp (by omega)]
  refine ⟨vp_in_nI (by omega) (by decide), ?_⟩
  intro ν2 e2
  subst e2
  refine hQ _ ((X0.sI _ _ (by decide)).trans (X0.sA _ _ _ (by decide))) rfl rfl ⟨?_, by simp; omega, fun c hc => ?_, fun i c hc => ?_⟩
  · show fI (sI ν.1 0 25 (nI l.length + 1)) 0 25 = _
    rw [fI_sI, if_pos ⟨rfl, rfl⟩, nI_1]; simp
  · rcases List.mem_append.mp hc with hc | hc
    · exact h.2.2.1 c hc
    · simp at hc; rw [hc]; exact Nat.mod_lt _ (by decide)
  · show fA (sA (sI ν.1 0 25 _) 11 l.length _) 11 i &&& _ = _
    rw [fA_sA]
    rcases Nat.lt_or_ge i l.length with w | w
    · rw [List.getElem?_append_left w] at hc
      rw [if_neg (by omega)]; exact h.2.2.2 i c hc
    · rw [List.getElem?_append_right w] at hc
      have hz : i = l.length := by
        have := (List.getElem?_eq_some_iff.mp hc).1
        simp at this; omega
      subst hz
      simp at hc
      subst hc
      rw [if_pos ⟨rfl, rfl⟩, nar8, and255 hb]
theorem xl_check2 {ν : XN} {l : List Nat} {ar n : Nat} {Q : Int32 → XN → Prop} (hok : xok 2 ar) (hlen : n ≤ xlen ar) (hm : xlen ar ≤ 2000) (hn : n = l.length) (hb : ∀ b ∈ l, b < 256) (hl : ∀ (i : Nat) b, l[i]? = some b → fA ν.1 ar i &&& nI 255 = nI b) (hQ : Q (nI (chk l)) ν) : xw_X0_check ar (nI n) ν Q := by
  subst hn
  unfold xw_X0_check xw_X0_check_6
  intro X hX
  have key : ∀ (r : List Nat) (k c : Nat), l.drop k = r → k ≤ l.length → c < 251 → r.foldl (fun c b => (3 * c + b) % 251) c = chk l → X ar (nI l.length) (nI c) (nI k) ν := by
    intro r
    induction r with
    | nil =>
      intro k c hd hk hc he
      have hk2 : k = l.length := by have := List.drop_eq_nil_iff.mp hd; omega
      refine hX _ _ _ _ _ ⟨fun _ => ?_, fun z => absurd ((nI_leI (by omega) (by omega)).mpr (by omega)) z⟩
      rw [List.foldl_nil] at he
      rw [← he] at hQ
      exact hQ
    | cons b r ih =>
      intro k c hd hk hc he
      obtain ⟨g1, g2, g3⟩ := drop_cons hd
      have hb2 := hb b (List.mem_of_getElem? g1)
      rw [List.foldl_cons] at he
      refine hX _ _ _ _ _ ⟨fun z => absurd ((nI_leI (by omega) (by omega)).mp z) (by omega), fun _ => ⟨hok, vp_in_nI (by omega) (by omega), ?_⟩⟩
      rw [nI_clamp (by omega), i_255, hl k b g1]
      simp (disch := omega) only [i_0, i_1, i_2, i_3, i_4, i_5, i_6, i_7, i_8, i_9, i_10, i_11, i_12, i_13, i_16, i_19, i_20, i_21, i_22, i_23, i_24, i_25, i_30, i_31, i_32, i_39, i_40, i_41, i_42, i_43, i_44, i_45, i_47, i_48, i_49, i_50, i_51, i_52, i_57, i_59, i_60, i_61, i_62, i_63, i_64, i_71, i_72, i_80, i_91, i_93, i_97, i_99, i_100, i_122, i_227, i_228, i_232, i_251, i_255, i_256, i_463, i_999, i_1000, i_1519, i_1600, i_9999, i_100000000, i_2147483639, i_2147483647, neg_nI1, nI_add, pk_mul, nI_remL, pk_sub, pk_div, nI_clamp, nI_leI, nI_ltI, nI_eq, vpT, nI_m1, m1_nI, nI_lem1, m1_le, m1_lt, nI_ltm1, nI_bit, nI_shl, nI_xor, nI_or, n_rem, forall_eq, true_and, and_true, implies_true, true_implies, false_implies, not_true_eq_false, not_false_eq_true, Nat.zero_add, Nat.add_zero, ite_true, ite_false, if_true, if_false, true_or, or_true, false_or, or_false, and_self, and_false, false_and, Nat.reduceEqDiff, reduceIte]
      exact ih (k + 1) _ g2 (by omega) (Nat.mod_lt _ (by decide)) he
  exact key l 0 227 rfl (by omega) (by decide) rfl
theorem xo0 : xok 2 0 ∧ xlen 0 = 1600 ∧ xok 2 11 ∧ xlen 11 = 95 := by
  refine ⟨?_, ?_, ?_, ?_⟩
  · show (xat 0).1 = 2; rfl
  · show (xat 0).2 = 1600; rfl
  · show (xat 11).1 = 2; rfl
  · show (xat 11).2 = 95; rfl
theorem cls_fil {P : Pl} (k : Nat) (hk : k < 64) : (((List.range 64).take (k + 1)).filter (fun c => decide (c % 8 < plC P ∧ c / 8 < plR P))) = ((List.range 64).take k).filter (fun c => decide (c % 8 < plC P ∧ c / 8 < plR P)) ++ (if (k % 8 < plC P ∧ k / 8 < plR P) then [k] else []) := by
  rw [List.take_succ, List.filter_append]
  congr 1
  rw [List.getElem?_range hk]
  simp only [Option.toList_some, List.filter_cons, List.filter_nil, decide_eq_true_eq]
theorem xa_image {ν : XN} {Z : Wd} {Q : Int32 → XN → Prop} (h : xAll ν Z) (hQ : ∀ ν', xAll ν' (opImage Z).2 → Q (opImage Z).1 ν') : xw_X0_image ν Q := by
  obtain ⟨b, hb, -⟩ := h.pb
  have hnp := h.1.np
  have hz := h.1.2.2.1
  have hcl := h.cl
  have hcr : plC (wP Z) * plR (wP Z) ≤ 49 := Nat.mul_le_mul hnp.2.2.1 hnp.2.2.2.1
  have hil := imgB_len h.1.1 (wS Z)
  have hk32 : ∀ p, p < nP (wP Z) → zK (wS Z) p < 32 := fun p hp => Nat.lt_of_lt_of_le (h.1.2.1.2.2.1 p hp).2.2 (Nat.le_trans (Nat.pow_le_pow_right (by decide) hnp.2.1) (by decide))
  obtain ⟨kh1, kh2, kh3⟩ := xk_h (o := 10) (by decide) (by decide)
  obtain ⟨ka1, ka2, ka3⟩ := xk_a (o := 10) (by decide) (by decide)
  obtain ⟨kt1, kt2, kt3⟩ := xk_t (o := 10) (by decide) (by decide)
  obtain ⟨kk1, kk2, kk3⟩ := xk_k (o := 10) (by decide) (by decide)
  have hst := h.2.1.2.1.1
  have fr : ∀ ν' : XN, X0 [25] [11] ν.1 ν'.1 → xSt ν'.1 10 (wP Z) (wS Z) := fun ν' g => g.st (by decide) (by decide) hst
  have pf : ∀ ν' : XN, X0 [25] [11] ν.1 ν'.1 → ν'.2 = ν.2 → xPb ν' b (wP Z) := fun ν' g e => hb.e g.2.2.2 e
  unfold xw_X0_image
  intro ν1 e1
  have g1 : X0 [25] [11] ν.1 ν1.1 := by rw [e1]; exact X0.sI _ _ (by decide)
  have o1 : xOt ν1.1 [] := ⟨by rw [e1]; show fI (sI ν.1 0 25 0) 0 25 = _; rw [fI_sI, if_pos ⟨rfl, rfl⟩]; rfl, by simp, fun b hb => (by cases hb), fun i b hb => (by simp at hb)⟩
  have e12 : ν1.2 = ν.2 := by rw [e1]
  have eL1 : fL ν1.1 = fL ν.1 := by rw [e1]; rfl
  clear e1
  have sh : ∀ n, n < 2 ^ 31 → nI n >>> ((8 : Int32) &&& 31) = nI (n / 256) := by
    intro n hn
    rw [i_8, i_31, and31 (by decide), pk_shrN hn (nI 8) 8 (by decide)]
  rw [(fr ν1 g1).2.1, sh _ (by omega)]
  refine xl_writes o1 (by simp) (by omega) (fun ν2 g2 e2 eL2 o2 => ?_)
  have g2' := g1.trans g2
  rw [(fr ν2 g2').2.1]
  refine xl_writes o2 (by simp) (by omega) (fun ν3 g3 e3 eL3 o3 => ?_)
  have g3' := g2'.trans g3
  rw [Nat.mod_eq_of_lt (show zD (wS Z) / 256 < 256 by omega)] at o3
  -- the end: the check
  have fin : ∀ ν' : XN, X0 [25] [11] ν.1 ν'.1 → ν'.2 = ν.2 → fL ν'.1 = fL ν.1 → xOt ν'.1 (imgB (wP Z) (wS Z)) → xw_X0_check 11 (fI ν'.1 0 25) ν' (fun r13 ν12 => (xw_X0_writes r13 ν12 (fun ν14 => Q (fI ν14.1 0 25) ν14))) := by
    intro ν' g' e' eL' o'
    rw [o'.1]
    refine xl_check2 (l := imgB (wP Z) (wS Z)) xo0.2.2.1 (by rw [xo0.2.2.2]; omega) (by rw [xo0.2.2.2]; omega) rfl o'.2.2.1 o'.2.2.2 ?_
    have hc := chk_lt (imgB (wP Z) (wS Z))
    refine xl_writes o' (by omega) (by omega) (fun ν2 g2 e2 eL2 o2 => ?_)
    have g := g'.trans g2
    rw [Nat.mod_eq_of_lt (by omega)] at o2
    rw [o2.1, List.length_append]
    obtain ⟨h1, h2, h3⟩ := h
    obtain ⟨q1, q2, q3, q4, q5, q6, q7⟩ := h3
    refine hQ ν2 ⟨?_, g.co (e2.trans e') (by decide) h1.2.2.2.2.2.2.2.1 h2, ⟨⟨by rw [g.1 0 2 (Or.inr (by decide))]; exact q1.1, by rw [g.2.1 0 (by decide)]; exact q1.2⟩, by rw [g.1 0 3 (Or.inr (by decide)), g.1 0 4 (Or.inr (by decide))]; exact q2, by rw [g.2.1 1 (by decide)]; exact q3, ⟨by rw [g.1 0 18 (Or.inr (by decide))]; exact q4.1, by rw [g.2.1 6 (by decide), g.2.1 7 (by decide), g.2.1 8 (by decide)]; exact q4.2⟩, by rw [g.1 0 21 (Or.inr (by decide))]; exact q5, by rw [eL2, eL']; exact q6, ⟨o2.1, o2.2.2.2⟩⟩⟩
    obtain ⟨w1, w2, w3, w4, w5, w6, w7, w8, w9, w10, w11, w12⟩ := h1
    exact ⟨w1, w2, w3, w4, w5, w6, w7, w8, w9, o2.2.1, o2.2.2.1, w12⟩
  -- people
  have people : ∀ ν' : XN, X0 [25] [11] ν.1 ν'.1 → ν'.2 = ν.2 → fL ν'.1 = fL ν.1 → xOt ν'.1 ([zD (wS Z) / 256, zD (wS Z) % 256] ++ (cls (wP Z)).map (zH (wS Z))) → xw_X0_image_67 (nI 0) ν' Q := by
    intro ν' g' e' eL' o'
    unfold xw_X0_image_67
    intro X hX
    have key : ∀ j p (ν2 : XN), nP (wP Z) - p = j → p ≤ nP (wP Z) → X0 [25] [11] ν.1 ν2.1 → ν2.2 = ν.2 → fL ν2.1 = fL ν.1 → xOt ν2.1 ([zD (wS Z) / 256, zD (wS Z) % 256] ++ (cls (wP Z)).map (zH (wS Z)) ++ (List.range p).flatMap (perB (wS Z))) → X (nI p) ν2 := by
      intro j
      induction j with
      | zero =>
        intro p ν2 hj hp g2 e2 eL2 o2
        have hpp : p = nP (wP Z) := by omega
        subst hpp
        refine hX _ _ (xl_people (pf ν2 g2 e2) ⟨fun _ => fin ν2 g2 e2 eL2 o2, fun z => absurd ((nI_leI (by omega) (by omega)).mpr (by omega)) z⟩)
      | succ j ih =>
        intro p ν2 hj hp g2 e2 eL2 o2
        have hpp : p < nP (wP Z) := by omega
        obtain ⟨hcell, hti, hkn⟩ := h.1.2.1.2.2.1 p hpp
        have hlt := hcl _ hcell
        have hk := hk32 p hpp
        have hlen : ([zD (wS Z) / 256, zD (wS Z) % 256] ++ (cls (wP Z)).map (zH (wS Z)) ++ (List.range p).flatMap (perB (wS Z))).length = 2 + plC (wP Z) * plR (wP Z) + 4 * p := by
          have hx := imgB_len h.1.1 (wS Z)
          have hy : ∀ n, ((List.range n).flatMap (perB (wS Z))).length = 4 * n := by
            intro n
            induction n with
            | zero => rfl
            | succ n ih => rw [List.range_succ, List.flatMap_append, List.length_append, ih]; simp [perB]; omega
          unfold imgB at hx
          rw [List.length_append, hy] at hx ⊢
          omega
        have vin : vp_in (nI p) 7 := vp_in_nI (by omega) (by decide)
        have cp := nI_clamp (show p < 2 ^ 31 by omega)
        refine hX _ _ (xl_people (pf ν2 g2 e2) ⟨fun z => absurd ((nI_leI (by omega) (by omega)).mp z) (by omega), fun _ => ?_⟩)
        rw [ka1, ka3, kt1, kt3, kk1, kk3, cp, ((fr ν2 g2).2.2.2.2.1 p hpp).1]
        refine ⟨ka2, vin, ?_⟩
        simp (disch := omega) only [i_0, i_1, i_2, i_3, i_4, i_5, i_6, i_7, i_8, i_9, i_10, i_11, i_12, i_13, i_16, i_19, i_20, i_21, i_22, i_23, i_24, i_25, i_30, i_31, i_32, i_39, i_40, i_41, i_42, i_43, i_44, i_45, i_47, i_48, i_49, i_50, i_51, i_52, i_57, i_59, i_60, i_61, i_62, i_63, i_64, i_71, i_72, i_80, i_91, i_93, i_97, i_99, i_100, i_122, i_227, i_228, i_232, i_251, i_255, i_256, i_463, i_999, i_1000, i_1519, i_1600, i_9999, i_100000000, i_2147483639, i_2147483647, neg_nI1, nI_add, pk_mul, nI_remL, pk_sub, pk_div, nI_clamp, nI_leI, nI_ltI, nI_eq, vpT, nI_m1, m1_nI, nI_lem1, m1_le, m1_lt, nI_ltm1, nI_bit, nI_shl, nI_xor, nI_or, n_rem]
        refine xl_writes o2 (by omega) (by omega) (fun ν3 g3 e3 eL3 o3 => ⟨ka2, trivial, ?_⟩)
        have g3' := g2.trans g3
        rw [((fr ν3 g3').2.2.2.2.1 p hpp).1]
        simp (disch := omega) only [i_0, i_1, i_2, i_3, i_4, i_5, i_6, i_7, i_8, i_9, i_10, i_11, i_12, i_13, i_16, i_19, i_20, i_21, i_22, i_23, i_24, i_25, i_30, i_31, i_32, i_39, i_40, i_41, i_42, i_43, i_44, i_45, i_47, i_48, i_49, i_50, i_51, i_52, i_57, i_59, i_60, i_61, i_62, i_63, i_64, i_71, i_72, i_80, i_91, i_93, i_97, i_99, i_100, i_122, i_227, i_228, i_232, i_251, i_255, i_256, i_463, i_999, i_1000, i_1519, i_1600, i_9999, i_100000000, i_2147483639, i_2147483647, neg_nI1, nI_add, pk_mul, nI_remL, pk_sub, pk_div, nI_clamp, nI_leI, nI_ltI, nI_eq, vpT, nI_m1, m1_nI, nI_lem1, m1_le, m1_lt, nI_ltm1, nI_bit, nI_shl, nI_xor, nI_or, n_rem]
        refine xl_writes o3 (by rw [List.length_append, hlen]; simp; omega) (by omega) (fun ν4 g4 e4 eL4 o4 => ⟨kt2, trivial, ?_⟩)
        have g4' := g3'.trans g4
        rw [((fr ν4 g4').2.2.2.2.1 p hpp).2.1]
        refine xl_writes o4 (by rw [List.length_append, List.length_append, hlen]; simp; omega) (by omega) (fun ν5 g5 e5 eL5 o5 => ⟨kk2, trivial, ?_⟩)
        have g5' := g4'.trans g5
        rw [((fr ν5 g5').2.2.2.2.1 p hpp).2.2]
        refine xl_writes o5 (by rw [List.length_append, List.length_append, List.length_append, hlen]; simp; omega) (by omega) (fun ν6 g6 e6 eL6 o6 => ?_)
        refine ih (p + 1) ν6 (by omega) (by omega) (g5'.trans g6) ((e6.trans (e5.trans (e4.trans e3))).trans e2) ((eL6.trans (eL5.trans (eL4.trans eL3))).trans eL2) ?_
        rw [Nat.mod_eq_of_lt (show zA (wS Z) p % 8 < 256 by omega), Nat.mod_eq_of_lt (show zA (wS Z) p / 8 < 256 by omega), Nat.mod_eq_of_lt (show zT (wS Z) p < 256 by omega), Nat.mod_eq_of_lt (show zK (wS Z) p < 256 by omega)] at o6
        rw [List.range_succ, List.flatMap_append, ← List.append_assoc]
        simpa [perB, List.append_assoc] using o6
    exact key _ 0 ν' rfl (by omega) g' e' eL' (by simpa using o')
  -- cells
  unfold xw_X0_image_32
  intro X hX
  have cells : ∀ j k (ν2 : XN), 64 - k = j → k ≤ 64 → X0 [25] [11] ν.1 ν2.1 → ν2.2 = ν.2 → fL ν2.1 = fL ν.1 → xOt ν2.1 ([zD (wS Z) / 256, zD (wS Z) % 256] ++ (((List.range 64).take k).filter (fun c => decide (c % 8 < plC (wP Z) ∧ c / 8 < plR (wP Z)))).map (zH (wS Z))) → X (nI k) ν2 := by
    intro j
    induction j with
    | zero =>
      intro k ν2 hj hk g2 e2 eL2 o2
      have hk64 : k = 64 := by omega
      subst hk64
      refine hX _ _ ⟨fun _ => people ν2 g2 e2 eL2 ?_, fun z => absurd ((nI_leI (by omega) (by omega)).mpr (by omega) : nI 64 ≤ nI 64) z⟩
      exact o2
    | succ j ih =>
      intro k ν2 hj hk g2 e2 eL2 o2
      have hlen : ∀ m, m ≤ 64 → (((List.range 64).take m).filter (fun c => decide (c % 8 < plC (wP Z) ∧ c / 8 < plR (wP Z)))).length ≤ plC (wP Z) * plR (wP Z) := by
        intro m hm
        have hx := imgB_len h.1.1 (wS Z)
        have h1 : (cls (wP Z)).length = plC (wP Z) * plR (wP Z) := by
          rcases h.1.1 with hP | hP
          · rw [cls_map hP]; simp
          · rw [hP]; decide
        rw [← h1]
        unfold cls
        exact (List.Sublist.filter _ (List.take_sublist _ _)).length_le
      have hl2 := hlen k (by omega)
      refine hX _ _ ⟨fun z => absurd z (le_no 64 rfl (by decide) (by omega)), fun _ => ?_⟩
      unfold xw_X0_image_59
      refine xl_isCellN (pf ν2 g2 e2) (by omega) (fun hc => ⟨fun q => absurd q (by decide), fun _ => ?_⟩) (fun hc => ⟨fun _ => ?_, fun q => absurd rfl q⟩)
      · have hh := h.1.2.1.2.1 k hc
        rw [kh1, kh3, nI_clamp (by omega), (fr ν2 g2).2.2.2.1 k hc]
        refine ⟨kh2, vp_in_nI (by omega) (by decide), ?_⟩
        refine xl_writes o2 (by rw [List.length_append, List.length_map]; show 2 + _ < 80; omega) (by omega) (fun ν3 g3 e3 eL3 o3 => ?_)
        rw [nI_1]
        refine ih (k + 1) ν3 (by omega) (by omega) (g2.trans g3) (e3.trans e2) (eL3.trans eL2) ?_
        rw [cls_fil k (by omega), if_pos (show k % 8 < plC (wP Z) ∧ k / 8 < plR (wP Z) from hc), List.map_append, ← List.append_assoc]
        rw [Nat.mod_eq_of_lt (show zH (wS Z) k < 256 by omega)] at o3
        exact o3
      · rw [nI_1]
        refine ih (k + 1) ν2 (by omega) (by omega) g2 e2 eL2 ?_
        rw [cls_fil k (by omega), if_neg (show ¬ (k % 8 < plC (wP Z) ∧ k / 8 < plR (wP Z)) from hc), List.append_nil]
        exact o2
  exact cells 64 0 ν3 rfl (by decide) g3' (e3.trans (e2.trans e12)) (eL3.trans (eL2.trans eL1)) (by simpa using o3)
