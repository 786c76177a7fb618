/-! THE SYSTEM: queries -/
theorem xq_fault {ν : XN} {Z : Wd} {x : Int32} {Q : Int32 → XN → Prop} (h : xAll ν Z) (hQ : Q (opFault Z x) ν) : xw_X0_fault x ν Q := by
  unfold xw_X0_fault
  unfold opFault at hQ
  obtain ⟨-, -, -, ⟨f1, f2⟩, -⟩ := h
  rw [f1, f2]
  refine ⟨fun z => ⟨fun z1 => ?_, fun z1 => ?_⟩, fun z => ?_⟩
  · rw [if_neg z, if_neg z1] at hQ; exact hQ
  · rw [if_neg z, if_pos z1] at hQ; exact hQ
  · rw [if_pos z] at hQ; exact hQ
theorem xq_status {ν : XN} {Z : Wd} {x : Int32} {Q : Int32 → XN → Prop} (h : xAll ν Z) (hQ : Q (opStatus Z x) ν) : xw_X0_status x ν Q := by
  unfold xw_X0_status
  unfold opStatus at hQ
  refine xl_is (n := 6) (by decide) (fun j j1 j2 j3 => ⟨fun z => absurd z (by decide), fun _ => ?_⟩) (fun j1 => ⟨fun _ => ?_, fun z => absurd rfl z⟩)
  · subst j3
    simp only [j1] at hQ
    refine ⟨vp_in_nI j2 (by decide), ?_⟩
    rw [nI_clamp (by omega), h.2.2.2.2.1 j j2]; exact hQ
  · simp only [j1] at hQ; exact hQ
theorem xq_octet {ν : XN} {Z : Wd} {x : Int32} {Q : Int32 → XN → Prop} (h : xAll ν Z) (hQ : Q (opOctet Z x) ν) : xw_X0_octet x ν Q := by
  unfold xw_X0_octet
  unfold opOctet at hQ
  have h8 := h.1.2.2.2.2.2.2.2.2.2.1
  obtain ⟨-, -, -, -, -, -, -, -, o1, o2⟩ := h
  rw [o1]
  rcases ix_cases x (wO Z).length with ⟨j, e1, e2, e3⟩ | ⟨e1, e2⟩
  · subst e3
    have hj := List.getElem?_eq_getElem e2
    simp only [e1, hj] at hQ
    rw [i_0, nI_ltI (by omega) (by omega), nI_ltI (by omega) (by omega)]
    refine ⟨fun z => by omega, fun _ => ⟨fun _ => ⟨vp_in_nI (by omega) (by decide), ?_⟩, fun z => absurd e2 z⟩⟩
    rw [nI_clamp (by omega), i_255, o2 j _ hj]; exact hQ
  · simp only [e1] at hQ
    refine ⟨fun _ => hQ, fun z => ⟨fun z2 => ?_, fun _ => hQ⟩⟩
    exfalso
    rw [Int32.lt_iff_toInt_lt] at z z2
    rw [nI_toInt (by omega)] at z2
    have e0 : (0 : Int32).toInt = 0 := rfl
    omega
theorem cellS_s {P : Pl} {x y : Int32} {c r : Nat} (h1 : ix x (plC P) = some c) (h2 : ix y (plR P) = some r) : cellS P x y = some (8 * r + c) := by unfold cellS; rw [h1, h2]
theorem cellS_n {P : Pl} {x y : Int32} (h : ix x (plC P) = none ∨ ix y (plR P) = none) : cellS P x y = none := by
  unfold cellS
  rcases h with z | z
  · rw [z]
  · rw [z]; cases ix x (plC P) <;> rfl
theorem cell8 {c r : Nat} (hc : c < 8) (hr : r < 8) : (8 : Int32) * nI r + nI c = nI (8 * r + c) := by
  rw [i_8, pk_mul, nI_add]
theorem xq_height {ν : XN} {Z : Wd} {x y : Int32} {Q : Int32 → XN → Prop} (h : xAll ν Z) (hQ : Q (opHeight Z x y) ν) : xw_X0_height x y ν Q := by
  obtain ⟨b, hb, -⟩ := h.pb
  have hn := h.1.np
  obtain ⟨k1, k2, k3⟩ := xk_h (o := 10) (by decide) (by decide)
  unfold xw_X0_height
  unfold opHeight at hQ
  refine xl_isIn hb (fun c r c1 r1 c2 r2 c3 r3 => ⟨fun z => absurd z (by decide), fun _ => ?_⟩) (fun hh => ⟨fun _ => ?_, fun z => absurd rfl z⟩)
  · subst c3 r3
    simp only [cellS_s c1 r1] at hQ
    rw [cell8 (by omega) (by omega), k1, k3, nI_clamp (by omega)]
    refine ⟨k2, vp_in_nI (by omega) (by decide), ?_⟩
    rw [h.2.1.2.1.1.2.2.2.1 _ ⟨by omega, by omega⟩]; exact hQ
  · simp only [cellS_n hh] at hQ; exact hQ
theorem xq_person {ν : XN} {Z : Wd} {x y : Int32} {Q : Int32 → XN → Prop} (h : xAll ν Z) (hQ : Q (opPerson Z x y) ν) : xw_X0_person x y ν Q := by
  obtain ⟨b, hb, -⟩ := h.pb
  have hn := h.1.np
  have hcl := h.cl
  obtain ⟨ka1, ka2, ka3⟩ := xk_a (o := 10) (by decide) (by decide)
  obtain ⟨kt1, kt2, kt3⟩ := xk_t (o := 10) (by decide) (by decide)
  obtain ⟨kk1, kk2, kk3⟩ := xk_k (o := 10) (by decide) (by decide)
  unfold xw_X0_person
  unfold opPerson at hQ
  refine xl_isPerson hb (fun p p1 p2 p3 => ⟨fun _ => ?_, fun z => absurd z (by decide)⟩) (fun p1 => ⟨fun z => absurd rfl z, fun _ => ?_⟩)
  · subst p3
    simp only [p1] at hQ
    obtain ⟨w1, w2, w3⟩ := h.2.1.2.1.1.2.2.2.2.1 p p2
    have ha := hcl _ (h.1.2.1.2.2.1 p p2).1
    have vin : vp_in (nI p) 7 := vp_in_nI (by omega) (by decide)
    simp only [ka1, ka2, ka3, kt1, kt2, kt3, kk1, kk2, kk3, vin, true_and, nI_clamp (show p < 2 ^ 31 by omega), w1, w2, w3]
    have e8 : nI (zA (wS Z) p) - nI (zA (wS Z) p) / 8 * 8 = nI (zA (wS Z) p % 8) := by
      simp (disch := omega) only [i_0, i_1, i_2, i_3, i_4, i_5, i_6, i_7, i_8, i_9, i_10, i_11, i_12, i_13, i_16, i_19, i_20, i_21, i_22, i_23, i_24, i_25, i_30, i_31, i_32, i_39, i_40, i_41, i_42, i_43, i_44, i_45, i_47, i_48, i_49, i_50, i_51, i_52, i_57, i_59, i_60, i_61, i_62, i_63, i_64, i_71, i_72, i_80, i_91, i_93, i_97, i_99, i_100, i_122, i_227, i_228, i_232, i_251, i_255, i_256, i_463, i_999, i_1000, i_1519, i_1600, i_9999, i_100000000, i_2147483639, i_2147483647, neg_nI1, nI_add, pk_mul, nI_remL, pk_sub, pk_div, nI_clamp, nI_leI, nI_ltI, nI_eq, vpT, nI_m1, m1_nI, nI_lem1, m1_le, m1_lt, nI_ltm1, nI_bit, nI_shl, nI_xor, nI_or, n_rem]
    have e9 : nI (zA (wS Z) p) / 8 = nI (zA (wS Z) p / 8) := by
      simp (disch := omega) only [i_0, i_1, i_2, i_3, i_4, i_5, i_6, i_7, i_8, i_9, i_10, i_11, i_12, i_13, i_16, i_19, i_20, i_21, i_22, i_23, i_24, i_25, i_30, i_31, i_32, i_39, i_40, i_41, i_42, i_43, i_44, i_45, i_47, i_48, i_49, i_50, i_51, i_52, i_57, i_59, i_60, i_61, i_62, i_63, i_64, i_71, i_72, i_80, i_91, i_93, i_97, i_99, i_100, i_122, i_227, i_228, i_232, i_251, i_255, i_256, i_463, i_999, i_1000, i_1519, i_1600, i_9999, i_100000000, i_2147483639, i_2147483647, neg_nI1, nI_add, pk_mul, nI_remL, pk_sub, pk_div, nI_clamp, nI_leI, nI_ltI, nI_eq, vpT, nI_m1, m1_nI, nI_lem1, m1_le, m1_lt, nI_ltm1, nI_bit, nI_shl, nI_xor, nI_or, n_rem]
    rw [e8, e9]
    refine ⟨fun z => ?_, fun z0 => ⟨fun z => ?_, fun z1 => ⟨fun z => ?_, fun z2 => ⟨fun z => ?_, fun z3 => ?_⟩⟩⟩⟩
    · rw [if_pos z] at hQ; exact hQ
    · rw [if_neg z0, if_pos z] at hQ; exact hQ
    · rw [if_neg z0, if_neg z1, if_pos z] at hQ; exact hQ
    · rw [if_neg z0, if_neg z1, if_neg z2, if_pos z] at hQ; exact hQ
    · rw [if_neg z0, if_neg z1, if_neg z2, if_neg z3] at hQ; exact hQ
  · simp only [p1] at hQ; exact hQ
theorem xq_list {ν : XN} {Z : Wd} {x y : Int32} {Q : Int32 → XN → Prop} (h : xAll ν Z) (hQ : Q (opList Z x y) ν) : xw_X0_list x y ν Q := by
  obtain ⟨b, hb, hs⟩ := h.pb
  have hn := h.1.np
  obtain ⟨l, as, k1, k2, k3, k4⟩ := hs.2.2.2.2.1
  unfold xw_X0_list
  unfold opList at hQ
  refine ⟨b, hb.1, hb.2.1, l, k1, k2.1, xl_size k2 ?_⟩
  refine xl_is (n := (plL (wP Z)).length) (by rw [k3]; exact nIm1_i (by omega)) (fun j j1 j2 j3 => ⟨fun _ => ?_, fun z => absurd z (by decide)⟩) (fun j1 => ⟨fun z => absurd rfl z, fun _ => ?_⟩)
  · subst j3
    have hq := List.getElem?_eq_getElem j2
    simp only [j1, hq] at hQ
    obtain ⟨a, y1, y2, y3, y4⟩ := k4 _ _ hq
    refine ⟨b, hb.1, hb.2.1, l, k1, k2.1, xl_get k2 y1 ⟨a, rfl, y2, ?_⟩⟩
    rw [y3, y4]
    refine ⟨fun z => ⟨fun z1 => ?_, fun z1 => ⟨y2, ?_⟩⟩, fun z => ⟨y2, ?_⟩⟩
    · rw [if_neg z, if_neg z1] at hQ; exact hQ
    · rw [if_neg z, if_pos z1] at hQ; exact hQ
    · rw [if_pos z] at hQ; exact hQ
  · simp only [j1] at hQ; exact hQ
theorem xq_kept {ν : XN} {Z : Wd} {x y : Int32} {Q : Int32 → XN → Prop} (h : xAll ν Z) (hQ : Q (opKept Z x y) ν) : xw_X0_kept x y ν Q := by
  obtain ⟨s1, s2, s3, s4, s5, s6, s7⟩ := h.2.1.2.1.1
  obtain ⟨kr1, kr2, kr3⟩ := xk_r (o := 10) (by decide) (by decide)
  have hl := s1.2.2.2
  unfold xw_X0_kept
  unfold opKept at hQ
  rw [s3]
  refine xl_is (n := (zE (wS Z)).length) (nIm1_i (by omega)) (fun j j1 j2 j3 => ⟨fun z => absurd z (by decide), fun _ => ?_⟩) (fun j1 => ⟨fun _ => ?_, fun z => absurd rfl z⟩)
  · subst j3
    have hq := List.getElem?_eq_getElem j2
    simp only [j1, hq] at hQ
    obtain ⟨w0, w1, w2, w3⟩ := s7 j _ hq
    obtain ⟨r1, r2⟩ := s6.ok (by decide) (by decide) (show j < 40 by omega)
    refine xl_is (n := 4) (by decide) (fun k k1 k2 k3 => ⟨fun z => absurd z (by decide), fun _ => ?_⟩) (fun k1 => ⟨fun _ => ?_, fun z => absurd rfl z⟩)
    · subst k3
      rw [kr1, kr3, nI_clamp (show j < 2 ^ 31 by omega), nI_clamp (show k < 2 ^ 31 by omega), r2]
      refine ⟨kr2, vp_in_nI (by omega) (by decide), r1, vp_in_nI k2 (by decide), ?_⟩
      rcases (show k = 0 ∨ k = 1 ∨ k = 2 ∨ k = 3 by omega) with rfl | rfl | rfl | rfl
      · rw [w0]; exact hQ
      · rw [w1]; exact hQ
      · rw [w2]; exact hQ
      · rw [w3]; exact hQ
    · have hy : ∀ k, k < 4 → ¬ y = nI k := fun k hk q => by
        rw [q, ix_nI2 (by omega), if_pos hk] at k1; cases k1
      rw [i_0, i_1, i_2, i_3, if_neg (hy 0 (by decide)), if_neg (hy 1 (by decide)), if_neg (hy 2 (by decide)), if_neg (hy 3 (by decide))] at hQ
      exact hQ
  · simp only [j1] at hQ; exact hQ
/-- the moment's numbers alone change -/
theorem xAll.b {ν ν' : XN} {Z : Wd} (h : xAll ν Z) (g : XB ν.1 ν'.1) (e : ν'.2 = ν.2) : xAll ν' Z := by
  obtain ⟨h1, h2, h3⟩ := h
  have x : X0 [] [] ν.1 ν'.1 := ⟨fun _ _ _ => by rw [g.1], fun _ _ => by rw [g.2.1], g.2.2.2.1, g.2.2.2.2.2⟩
  exact ⟨h1, x.co e (fun a ha => by cases ha) h1.2.2.2.2.2.2.2.1 h2, x.sm (by rw [g.2.2.2.2.1]) (fun _ _ z => by cases z) (fun _ _ z => by cases z) h3⟩
theorem xAll.ok {ν : XN} {Z : Wd} {p : Nat} (h : xAll ν Z) (hp : p < nP (wP Z)) : plOK (wP Z) := by
  rcases h.1.1 with z | z
  · exact z
  · rw [z, P0_facts.2.2.2] at hp; omega
theorem xAll.okc {ν : XN} {Z : Wd} {p : Nat} (h : xAll ν Z) (hp : p < plC (wP Z)) : plOK (wP Z) := by
  rcases h.1.1 with z | z
  · exact z
  · rw [z, P0_facts.1] at hp; omega
theorem xq_would {ν : XN} {Z : Wd} {d : Nat} {x y : Int32} {Q : Int32 → XN → Prop} (hd : DP ≤ d) (h : xAll ν Z) (hQ : ∀ ν', xAll ν' Z → Q (opWould Z x y) ν') : xw_X0_would (VTA d).1 (VTA d).2 x y ν Q := by
  obtain ⟨b, hb, -⟩ := h.pb
  unfold xw_X0_would
  unfold opWould at hQ
  refine xl_isPerson hb (fun p p1 p2 p3 => ⟨fun z => absurd z (by decide), fun _ => ?_⟩) (fun p1 => ⟨fun _ => ?_, fun z => absurd rfl z⟩)
  · subst p3
    refine xl_isTopic hb (fun t t1 t2 t3 => ⟨fun z => absurd z (by decide), fun _ => ?_⟩) (fun t1 => ⟨fun _ => ?_, fun z => absurd rfl z⟩)
    · subst t3
      simp only [p1, t1] at hQ
      exact xl_would (sil := 0) (by decide) (by decide) (h.cx hd hb (h.ok p2)) h.2.1.2.1.1 h.2.1.2.1.2 (by decide) p2 t2 (fun ν' g e => hQ ν' (h.b g e))
    · simp only [p1, t1] at hQ
      exact hQ ν h
  · simp only [p1] at hQ
    exact hQ ν h
theorem xl_isPlain {ν : XN} {b : Nat} {P : Pl} {Q : Int32 → XN → Prop} (hb : xPb ν b P) (hQ : Q (nI (if 0 < plC P then 1 else 0)) ν) : xw_X0_isPlain ν Q := by
  have h7 := hb.2.2.2.2.2.1
  unfold xw_X0_isPlain
  refine ⟨b, hb.1, hb.2.1, ?_⟩
  rw [hb.2.2.1.1, i_0, nI_leI (by omega) (by omega)]
  refine ⟨fun z => ?_, fun z => ?_⟩
  · rw [if_neg (by omega)] at hQ; exact hQ
  · rw [if_pos (by omega)] at hQ; exact hQ
theorem xl_isB {ν : XN} {x : Int32} {lo hi : Nat} {Q : Int32 → XN → Prop} (hlo : lo ≤ hi) (hhi : hi < 1000) (hs : ∀ j, ix x (hi + 1) = some j → lo ≤ j → j ≤ hi → x = nI j → Q (nI 1) ν) (hn : (ix x (hi + 1) = none ∨ ∃ j, ix x (hi + 1) = some j ∧ j < lo) → Q (nI 0) ν) : xw_X0_is x (nI lo) (nI hi) ν Q := by
  unfold xw_X0_is
  rw [Int32.lt_iff_toInt_lt, Int32.lt_iff_toInt_lt, nI_toInt (by omega), nI_toInt (by omega)]
  rcases ix_cases x (hi + 1) with ⟨j, e1, e2, e3⟩ | ⟨e1, e2⟩
  · have ht : x.toInt = (j : Int) := by rw [e3, nI_toInt (by omega)]
    rw [ht]
    refine ⟨fun z => hn (Or.inr ⟨j, e1, by omega⟩), fun z => ⟨fun z2 => by omega, fun _ => hs j e1 (by omega) (by omega) e3⟩⟩
  · exact ⟨fun _ => hn (Or.inl e1), fun z => ⟨fun _ => hn (Or.inl e1), fun z2 => by omega⟩⟩
theorem xl_isAhead {ν : XN} {b : Nat} {P : Pl} {s : St} {x : Int32} {lo hi : Nat} {Q : Int32 → XN → Prop} (hb : xPb ν b P) (hN : fI ν.1 10 0 = nI (zD s)) (hd : zD s ≤ 5000) (hlo : lo ≤ hi) (hhi : hi < 1000) (hs : ∀ j, ahd P s x lo hi = some j → 0 < plC P → lo ≤ j → j ≤ hi → x = nI j → zD s + j ≤ 999 → Q (nI 1) ν) (hn : ahd P s x lo hi = none → Q (nI 0) ν) : xw_X0_isAhead x (nI lo) (nI hi) ν Q := by
  unfold xw_X0_isAhead
  unfold ahd at hs hn
  refine xl_isPlain hb ?_
  by_cases hp : 0 < plC P
  · rw [if_pos hp]
    refine ⟨fun z => absurd z (by decide), fun _ => ?_⟩
    refine xl_isB hlo hhi (fun j j1 j2 j3 j4 => ⟨fun z => absurd z (by decide), fun _ => ?_⟩) (fun hh => ⟨fun _ => hn ?_, fun z => absurd rfl z⟩)
    · subst j4
      rw [hN, nI_add, i_999, nI_ltI (by omega) (by omega)]
      simp only [j1] at hs hn
      refine ⟨fun z => hn (by rw [if_neg (by omega)]), fun z => ?_⟩
      exact hs j (by rw [if_pos ⟨hp, j2, by omega⟩]) hp j2 j3 rfl (by omega)
    · rcases hh with z | ⟨j, z, z2⟩
      · rw [z]
      · rw [z]; simp only []; rw [if_neg (by omega)]
  · rw [if_neg hp]
    refine ⟨fun _ => hn ?_, fun z => absurd rfl z⟩
    cases ix x (hi + 1) with
    | none => rfl
    | some j => simp only []; rw [if_neg (fun q => hp q.1)]
/-- the state tried is the land as it is -/
theorem xl_try {ν : XN} {Z : Wd} {Q : Nat → XN → Prop} (h : xAll ν Z) (hQ : ∀ ν', xAll ν' Z → XFr 11 ν.1 ν'.1 → ν'.2 = ν.2 → xSt ν'.1 11 (wP Z) (wS Z) → fI ν'.1 11 2 = nI 0 → Q 11 ν') : xw_X5_copy 11 10 ν Q := by
  refine xl_copy (by decide) (by decide) (by decide) (by decide) (by decide) h.2.1.2.1.1 (h.2.1.2.2.1 11 (by decide) (by decide)) h.cl h.1.np.1 (fun ν' g e eB eP hs h2 => hQ ν' (h.fr g e ⟨by decide, by decide⟩ hs.2.2.2.2.2.1) g e hs h2)
theorem xq_later {ν : XN} {Z : Wd} {d : Nat} {x y n : Int32} {Q : Int32 → XN → Prop} (hd : DP ≤ d) (h : xAll ν Z) (hQ : ∀ ν', xAll ν' Z → Q (opLater Z x y n) ν') : xw_X0_later (VTA d).1 (VTA d).2 x y n ν Q := by
  obtain ⟨b, hb, -⟩ := h.pb
  have hn := h.1.np
  obtain ⟨k1, k2, k3⟩ := xk_h (o := 11) (by decide) (by decide)
  unfold xw_X0_later
  unfold opLater at hQ
  refine xl_isIn hb (fun c r c1 r1 c2 r2 c3 r3 => ⟨fun z => absurd z (by decide), fun _ => ?_⟩) (fun hh => ⟨fun _ => ?_, fun z => absurd rfl z⟩)
  · subst c3 r3
    have hP := h.okc c2
    refine xl_isAhead (lo := 0) (hi := 60) (s := wS Z) hb h.2.1.2.1.1.2.1 h.1.2.1.1 (by decide) (by decide) (fun j j1 j2 j3 j4 j5 j6 => ⟨fun z => absurd z (by decide), fun _ => ?_⟩) (fun j1 => ⟨fun _ => ?_, fun z => absurd rfl z⟩)
    · subst j5
      simp only [cellS_s c1 r1, j1] at hQ
      refine xl_try h (fun ν1 hA1 g1 e1 hs1 hz1 => ⟨rfl, ?_⟩)
      refine xl_days (sil := 0) (by decide) (by decide) (hA1.cx hd (hb.e g1.2.2.2.2.2 e1) hP) hs1 hz1 (by decide) (by have := h.1.2.2.1; omega) (fun ν2 g2 e2 hs2 => ⟨rfl, ?_⟩)
      rw [cell8 (by omega) (by omega), k1, k3, nI_clamp (by omega)]
      refine ⟨k2, vp_in_nI (by omega) (by decide), ?_⟩
      rw [hs2.2.2.2.1 _ ⟨by omega, by omega⟩]
      exact hQ ν2 (hA1.fr g2.1 e2 ⟨by decide, by decide⟩ hs2.2.2.2.2.2.1)
    · simp only [cellS_s c1 r1, j1] at hQ; exact hQ ν h
  · simp only [cellS_n hh] at hQ; exact hQ ν h
theorem xq_tired {ν : XN} {Z : Wd} {d : Nat} {x n : Int32} {Q : Int32 → XN → Prop} (hd : DP ≤ d) (h : xAll ν Z) (hQ : ∀ ν', xAll ν' Z → Q (opTired Z x n) ν') : xw_X0_tired (VTA d).1 (VTA d).2 x n ν Q := by
  obtain ⟨b, hb, -⟩ := h.pb
  have hn := h.1.np
  obtain ⟨k1, k2, k3⟩ := xk_t (o := 11) (by decide) (by decide)
  unfold xw_X0_tired
  unfold opTired at hQ
  refine xl_isPerson hb (fun p p1 p2 p3 => ⟨fun z => absurd z (by decide), fun _ => ?_⟩) (fun p1 => ⟨fun _ => ?_, fun z => absurd rfl z⟩)
  · subst p3
    have hP := h.ok p2
    refine xl_isAhead (lo := 0) (hi := 60) (s := wS Z) hb h.2.1.2.1.1.2.1 h.1.2.1.1 (by decide) (by decide) (fun j j1 j2 j3 j4 j5 j6 => ⟨fun z => absurd z (by decide), fun _ => ?_⟩) (fun j1 => ⟨fun _ => ?_, fun z => absurd rfl z⟩)
    · subst j5
      simp only [p1, j1] at hQ
      refine xl_try h (fun ν1 hA1 g1 e1 hs1 hz1 => ⟨rfl, ?_⟩)
      refine xl_days (sil := 0) (by decide) (by decide) (hA1.cx hd (hb.e g1.2.2.2.2.2 e1) hP) hs1 hz1 (by decide) (by have := h.1.2.2.1; omega) (fun ν2 g2 e2 hs2 => ⟨rfl, ?_⟩)
      rw [k1, k3, nI_clamp (by omega)]
      refine ⟨k2, vp_in_nI (by omega) (by decide), ?_⟩
      rw [(hs2.2.2.2.2.1 p p2).2.1]
      exact hQ ν2 (hA1.fr g2.1 e2 ⟨by decide, by decide⟩ hs2.2.2.2.2.2.1)
    · simp only [p1, j1] at hQ; exact hQ ν h
  · simp only [p1] at hQ; exact hQ ν h
