/-! THE SYSTEM: water, ways -/
def dst (a b : Nat) : Nat := (a % 8 - b % 8 + (b % 8 - a % 8)) + (a / 8 - b / 8 + (b / 8 - a / 8))
theorem xl_areNext {ν : XN} {a b : Nat} {Q : Int32 → XN → Prop} (ha : a < 1000) (hb : b < 1000) (hQ : Q (nI (if dst a b = 1 then 1 else 0)) ν) : xw_X0_areNext (nI a) (nI b) ν Q := by
  unfold xw_X0_areNext
  have e1 : nI a - nI a / 8 * 8 = nI (a % 8) := by simp (disch := omega) only [i_0, i_1, i_2, i_3, i_4, i_5, i_6, i_7, i_8, i_9, i_10, i_11, i_12, i_13, i_16, i_19, i_20, i_21, i_22, i_23, i_24, i_25, i_30, i_31, i_32, i_39, i_40, i_41, i_42, i_43, i_44, i_45, i_47, i_48, i_49, i_50, i_51, i_52, i_57, i_59, i_60, i_61, i_62, i_63, i_64, i_71, i_72, i_80, i_91, i_93, i_97, i_99, i_100, i_122, i_227, i_228, i_232, i_251, i_255, i_256, i_463, i_999, i_1000, i_1519, i_1600, i_9999, i_100000000, i_2147483639, i_2147483647, neg_nI1, nI_add, pk_mul, nI_remL, pk_sub, pk_div, nI_clamp, nI_leI, nI_ltI, nI_eq, vpT, nI_m1, m1_nI, nI_lem1, m1_le, m1_lt, nI_ltm1, nI_bit, nI_shl, nI_xor, nI_or, n_rem]
  have e2 : nI b - nI b / 8 * 8 = nI (b % 8) := by simp (disch := omega) only [i_0, i_1, i_2, i_3, i_4, i_5, i_6, i_7, i_8, i_9, i_10, i_11, i_12, i_13, i_16, i_19, i_20, i_21, i_22, i_23, i_24, i_25, i_30, i_31, i_32, i_39, i_40, i_41, i_42, i_43, i_44, i_45, i_47, i_48, i_49, i_50, i_51, i_52, i_57, i_59, i_60, i_61, i_62, i_63, i_64, i_71, i_72, i_80, i_91, i_93, i_97, i_99, i_100, i_122, i_227, i_228, i_232, i_251, i_255, i_256, i_463, i_999, i_1000, i_1519, i_1600, i_9999, i_100000000, i_2147483639, i_2147483647, neg_nI1, nI_add, pk_mul, nI_remL, pk_sub, pk_div, nI_clamp, nI_leI, nI_ltI, nI_eq, vpT, nI_m1, m1_nI, nI_lem1, m1_le, m1_lt, nI_ltm1, nI_bit, nI_shl, nI_xor, nI_or, n_rem]
  have e3 : nI a / 8 = nI (a / 8) := by simp (disch := omega) only [i_0, i_1, i_2, i_3, i_4, i_5, i_6, i_7, i_8, i_9, i_10, i_11, i_12, i_13, i_16, i_19, i_20, i_21, i_22, i_23, i_24, i_25, i_30, i_31, i_32, i_39, i_40, i_41, i_42, i_43, i_44, i_45, i_47, i_48, i_49, i_50, i_51, i_52, i_57, i_59, i_60, i_61, i_62, i_63, i_64, i_71, i_72, i_80, i_91, i_93, i_97, i_99, i_100, i_122, i_227, i_228, i_232, i_251, i_255, i_256, i_463, i_999, i_1000, i_1519, i_1600, i_9999, i_100000000, i_2147483639, i_2147483647, neg_nI1, nI_add, pk_mul, nI_remL, pk_sub, pk_div, nI_clamp, nI_leI, nI_ltI, nI_eq, vpT, nI_m1, m1_nI, nI_lem1, m1_le, m1_lt, nI_ltm1, nI_bit, nI_shl, nI_xor, nI_or, n_rem]
  have e4 : nI b / 8 = nI (b / 8) := by simp (disch := omega) only [i_0, i_1, i_2, i_3, i_4, i_5, i_6, i_7, i_8, i_9, i_10, i_11, i_12, i_13, i_16, i_19, i_20, i_21, i_22, i_23, i_24, i_25, i_30, i_31, i_32, i_39, i_40, i_41, i_42, i_43, i_44, i_45, i_47, i_48, i_49, i_50, i_51, i_52, i_57, i_59, i_60, i_61, i_62, i_63, i_64, i_71, i_72, i_80, i_91, i_93, i_97, i_99, i_100, i_122, i_227, i_228, i_232, i_251, i_255, i_256, i_463, i_999, i_1000, i_1519, i_1600, i_9999, i_100000000, i_2147483639, i_2147483647, neg_nI1, nI_add, pk_mul, nI_remL, pk_sub, pk_div, nI_clamp, nI_leI, nI_ltI, nI_eq, vpT, nI_m1, m1_nI, nI_lem1, m1_le, m1_lt, nI_ltm1, nI_bit, nI_shl, nI_xor, nI_or, n_rem]
  rw [e1, e2, e3, e4]
  refine xl_abs (by omega) (by omega) (xl_abs (by omega) (by omega) ?_)
  rw [nI_add, i_1, nI_eq (by omega) (by omega)]
  unfold dst at hQ
  refine ⟨fun z => ?_, fun z => ?_⟩
  · rw [if_neg z] at hQ; exact hQ
  · rw [if_pos z] at hQ; exact hQ
theorem nb4_cases {P : Pl} {c d e : Nat} (hd : d < 4) (h : nb4 P c d = some e) : (d = 0 ∧ 0 < c / 8 ∧ e = c - 8) ∨ (d = 1 ∧ 0 < c % 8 ∧ e = c - 1) ∨ (d = 2 ∧ c % 8 + 1 < plC P ∧ e = c + 1) ∨ (d = 3 ∧ c / 8 + 1 < plR P ∧ e = c + 8) := by
  rcases (show d = 0 ∨ d = 1 ∨ d = 2 ∨ d = 3 by omega) with rfl | rfl | rfl | rfl
  · simp only [nb4, if_true] at h
    split at h
    · cases h; exact Or.inl ⟨rfl, by assumption, rfl⟩
    · cases h
  · simp only [nb4] at h
    rw [if_neg (by decide), if_pos (by decide)] at h
    split at h
    · cases h; exact Or.inr (Or.inl ⟨rfl, by assumption, rfl⟩)
    · cases h
  · simp only [nb4] at h
    rw [if_neg (by decide), if_neg (by decide), if_pos (by decide)] at h
    split at h
    · cases h; exact Or.inr (Or.inr (Or.inl ⟨rfl, by assumption, rfl⟩))
    · cases h
  · simp only [nb4] at h
    rw [if_neg (by decide), if_neg (by decide), if_neg (by decide)] at h
    split at h
    · cases h; exact Or.inr (Or.inr (Or.inr ⟨rfl, by assumption, rfl⟩))
    · cases h
theorem adj_iff {P : Pl} (hP : plOK P) {a b : Nat} (ha : isC P a) (hb : isC P b) : dst a b = 1 ↔ adjC P a b := by
  have h1 := isC_lt hP ha
  have h2 := isC_lt hP hb
  have hC := hP.1; have hR := hP.2.1
  have a1 := ha.1; have a2 := ha.2
  have b1 := hb.1; have b2 := hb.2
  unfold dst
  constructor
  · intro h
    refine ⟨ha, hb, ?_⟩
    by_cases q1 : b / 8 < a / 8
    · exact ⟨0, by decide, by rw [nb4_0, if_pos (by omega)]; congr 1; omega⟩
    · by_cases q2 : b % 8 < a % 8
      · exact ⟨1, by decide, by rw [nb4_1, if_pos (by omega)]; congr 1; omega⟩
      · by_cases q3 : a % 8 < b % 8
        · exact ⟨2, by decide, by rw [nb4_2, if_pos (by omega)]; congr 1; omega⟩
        · exact ⟨3, by decide, by rw [nb4_3, if_pos (by omega)]; congr 1; omega⟩
  · rintro ⟨-, -, d, hd, hn⟩
    rcases nb4_cases hd hn with ⟨-, h, rfl⟩ | ⟨-, h, rfl⟩ | ⟨-, h, rfl⟩ | ⟨-, h, rfl⟩ <;> omega
def loS (P : Pl) (h : Nat → Nat) (c b d : Nat) : Nat := match nb4 P c d with | none => b | some e => if h e < h b then e else b
theorem loS_ok {P : Pl} (hP : plOK P) {h : Nat → Nat} {c b : Nat} (hc : isC P c) (hb : isC P b) (d : Nat) (hd : d < 4) : isC P (loS P h c b d) := by
  unfold loS
  split
  · exact hb
  · split
    · rename_i e he _; exact nb4_ok hP hc he
    · exact hb
theorem xl_lower {ν : XN} {b c : Nat} {P : Pl} {h : Nat → Nat} {Q : Int32 → XN → Prop} (hb : xPb ν b P) (hP : plOK P) (hh : ∀ c, isC P c → fA ν.1 (hK 10) c = nI (h c) ∧ h c ≤ 99) (hc : isC P c) (hQ : Q (nI (zLow P h c)) ν) : xw_X0_lower (nI c) ν Q := by
  obtain ⟨k1, k2, k3⟩ := xk_h (o := 10) (by decide) (by decide)
  have hcl := isC_lt hP hc
  have hC := hP.1; have hR := hP.2.1
  have c1 := hc.1; have c2 := hc.2
  unfold xw_X0_lower xw_X0_lower_4
  intro X hX
  have skip1 : ∀ k g, k < 64 → ¬ (isC P k ∧ dst k c = 1) → X (nI c) (nI g) (nI (k + 1)) ν → X (nI c) (nI g) (nI k) ν := by
    intro k g hk hn hx
    refine hX _ _ _ _ ⟨fun z => absurd z (le_no 64 rfl (by decide) hk), fun _ => ?_⟩
    unfold xw_X0_lower_49
    rw [nI_1]
    refine xl_isCellN hb (by omega) (fun hkc => ⟨fun q => absurd q (by decide), fun _ => ?_⟩) (fun _ => ⟨fun _ => hx, fun q => absurd rfl q⟩)
    refine xl_areNext (by omega) (by omega) ?_
    rw [if_neg (fun q => hn ⟨hkc, q⟩)]
    exact ⟨fun _ => hx, fun q => absurd rfl q⟩
  have skip : ∀ m i g, i + m ≤ 64 → (∀ k, i ≤ k → k < i + m → ¬ (isC P k ∧ dst k c = 1)) → X (nI c) (nI g) (nI (i + m)) ν → X (nI c) (nI g) (nI i) ν := by
    intro m
    induction m with
    | zero => intro i g _ _ hx; exact hx
    | succ m ih =>
      intro i g hi hn hx
      refine skip1 i g (by omega) (hn i (by omega) (by omega)) (ih (i + 1) g (by omega) (fun k q1 q2 => hn k (by omega) (by omega)) ?_)
      rw [show i + 1 + m = i + (m + 1) by omega]; exact hx
  have skipT : ∀ i j g, i ≤ j → j ≤ 64 → (∀ k, i ≤ k → k < j → ¬ (isC P k ∧ dst k c = 1)) → X (nI c) (nI g) (nI j) ν → X (nI c) (nI g) (nI i) ν := by
    intro i j g h1 h2 hn hx
    refine skip (j - i) i g (by omega) (fun k q1 q2 => hn k q1 (by omega)) ?_
    rw [show i + (j - i) = j by omega]; exact hx
  have take : ∀ k g, isC P k → isC P g → dst k c = 1 → X (nI c) (nI (if h k < h g then k else g)) (nI (k + 1)) ν → X (nI c) (nI g) (nI k) ν := by
    intro k g hk hg hd hx
    have hkl := isC_lt hP hk
    have hgl := isC_lt hP hg
    obtain ⟨v1, v2⟩ := hh k hk
    obtain ⟨w1, w2⟩ := hh g hg
    refine hX _ _ _ _ ⟨fun z => absurd z (le_no 64 rfl (by decide) (by omega)), fun _ => ?_⟩
    unfold xw_X0_lower_49
    rw [nI_1]
    refine xl_isCellN hb (by omega) (fun _ => ⟨fun q => absurd q (by decide), fun _ => ?_⟩) (fun q => absurd hk q)
    refine xl_areNext (by omega) (by omega) ?_
    rw [if_pos hd]
    refine ⟨fun q => absurd q (by decide), fun _ => ?_⟩
    rw [k1, k3, nI_clamp (by omega), nI_clamp (by omega), v1, w1, nI_leI (by omega) (by omega)]
    refine ⟨k2, vp_in_nI (by omega) (by decide), k2, vp_in_nI (by omega) (by decide), fun z => ?_, fun z => ?_⟩
    · rw [if_neg (by omega)] at hx; exact hx
    · rw [if_pos (by omega)] at hx; exact hx
  have g1 := loS_ok hP (h := h) hc hc 0 (by decide)
  have g2 := loS_ok hP (h := h) hc g1 1 (by decide)
  have g3 := loS_ok hP (h := h) hc g2 2 (by decide)
  have fold : zLow P h c = loS P h c (loS P h c (loS P h c (loS P h c c 0) 1) 2) 3 := rfl
  rw [fold] at hQ
  generalize hb1 : loS P h c c 0 = B1 at hQ g1 g2 g3
  generalize hb2 : loS P h c B1 1 = B2 at hQ g2 g3
  generalize hb3 : loS P h c B2 2 = B3 at hQ g3
  generalize hb4 : loS P h c B3 3 = B4 at hQ
  unfold loS at hb1 hb2 hb3 hb4
  have s4 : X (nI c) (nI B3) (nI (c + 2)) ν := by
    have fin : X (nI c) (nI B4) (nI 64) ν := hX _ _ _ _ ⟨fun _ => hQ, fun z => absurd (by decide) z⟩
    rw [nb4_3] at hb4
    by_cases q : c / 8 + 1 < plR P
    · rw [if_pos q] at hb4
      refine skipT (c + 2) (c + 8) B3 (by omega) (by omega) (fun k q1 q2 q3 => ?_) ?_
      · have h5 := q3.2; have h6 := q3.1.1; have h7 := q3.1.2; unfold dst at h5; omega
      · refine take (c + 8) B3 ⟨by omega, by omega⟩ g3 (by unfold dst; omega) ?_
        simp only [] at hb4
        rw [hb4]
        refine skipT (c + 8 + 1) 64 B4 (by omega) (by omega) (fun k q1 q2 q3 => ?_) fin
        have h5 := q3.2; have h6 := q3.1.1; have h7 := q3.1.2; unfold dst at h5; omega
    · rw [if_neg q] at hb4
      simp only [] at hb4
      subst hb4
      refine skipT (c + 2) 64 B3 (by omega) (by omega) (fun k q1 q2 q3 => ?_) fin
      have h5 := q3.2; have h6 := q3.1.1; have h7 := q3.1.2; unfold dst at h5; omega
  have s3 : X (nI c) (nI B2) (nI c) ν := by
    rw [nb4_2] at hb3
    refine skipT c (c + 1) B2 (by omega) (by omega) (fun k q1 q2 q3 => ?_) ?_
    · have := q3.2; unfold dst at this; omega
    · by_cases q : c % 8 + 1 < plC P
      · rw [if_pos q] at hb3
        simp only [] at hb3
        refine take (c + 1) B2 ⟨by omega, by omega⟩ g2 (by unfold dst; omega) ?_
        rw [hb3]; exact s4
      · rw [if_neg q] at hb3
        simp only [] at hb3
        subst hb3
        refine skipT (c + 1) (c + 2) B2 (by omega) (by omega) (fun k q1 q2 q3 => ?_) s4
        have h5 := q3.2; have h6 := q3.1.1; have h7 := q3.1.2; unfold dst at h5; omega
  have s2 : X (nI c) (nI B1) (nI (c - 7)) ν := by
    rw [nb4_1] at hb2
    by_cases q : 0 < c % 8
    · rw [if_pos q] at hb2
      simp only [] at hb2
      refine skipT (c - 7) (c - 1) B1 (by omega) (by omega) (fun k q1 q2 q3 => ?_) ?_
      · have h5 := q3.2; have h6 := q3.1.1; have h7 := q3.1.2; unfold dst at h5; omega
      · refine take (c - 1) B1 ⟨by omega, by omega⟩ g1 (by unfold dst; omega) ?_
        rw [hb2, show c - 1 + 1 = c by omega]; exact s3
    · rw [if_neg q] at hb2
      simp only [] at hb2
      subst hb2
      refine skipT (c - 7) c B1 (by omega) (by omega) (fun k q1 q2 q3 => ?_) s3
      have h5 := q3.2; have h6 := q3.1.1; have h7 := q3.1.2; unfold dst at h5; omega
  rw [nb4_0] at hb1
  by_cases q : 0 < c / 8
  · rw [if_pos q] at hb1
    simp only [] at hb1
    refine skipT 0 (c - 8) c (by omega) (by omega) (fun k q1 q2 q3 => ?_) ?_
    · have h5 := q3.2; have h6 := q3.1.1; have h7 := q3.1.2; unfold dst at h5; omega
    · refine take (c - 8) c ⟨by omega, by omega⟩ hc (by unfold dst; omega) ?_
      rw [hb1, show c - 8 + 1 = c - 7 by omega]; exact s2
  · rw [if_neg q] at hb1
    simp only [] at hb1
    subst hb1
    rw [show c - 7 = 0 by omega] at s2
    exact s2
theorem xq_pond {ν : XN} {Z : Wd} {x y : Int32} {Q : Int32 → XN → Prop} (h : xAll ν Z) (hQ : Q (opPond Z x y) ν) : xw_X0_pond x y ν Q := by
  obtain ⟨b, hb, -⟩ := h.pb
  have hn := h.1.np
  unfold xw_X0_pond
  unfold opPond at hQ
  refine xl_isIn hb (fun c r c1 r1 c2 r2 c3 r3 => ⟨fun _ => ?_, fun z => absurd z (by decide)⟩) (fun hx => ⟨fun z => absurd rfl z, fun _ => ?_⟩)
  · subst c3 r3
    have hP := h.okc c2
    simp only [cellS_s c1 r1] at hQ
    rw [cell8 (by omega) (by omega)]
    have hh : ∀ c, isC (wP Z) c → fA ν.1 (hK 10) c = nI (zH (wS Z) c) ∧ zH (wS Z) c ≤ 99 := fun c hc => ⟨h.2.1.2.1.1.2.2.2.1 c hc, h.1.2.1.2.1 c hc⟩
    have hc : isC (wP Z) (8 * r + c) := ⟨by omega, by omega⟩
    refine xl_lower hb hP hh hc ?_
    unfold xw_X0_pond_25
    intro X hX
    have key : ∀ f c, isC (wP Z) c → zH (wS Z) c < f → Q (nI (pondF (wP Z) (zH (wS Z)) f c)) ν → X (nI c) (nI (zLow (wP Z) (zH (wS Z)) c)) ν := by
      intro f
      induction f with
      | zero => intro c _ hf; omega
      | succ f ih =>
        intro c hc hf hq
        obtain ⟨k1, k2⟩ := zLow_ok hP (h := zH (wS Z)) hc
        have hl1 := h.cl _ k1
        have hl2 := h.cl _ hc
        refine hX _ _ _ ?_
        rw [nI_eq (by omega) (by omega)]
        simp only [pondF] at hq
        refine ⟨fun z => ?_, fun z => ?_⟩
        · rw [if_pos z] at hq; exact hq
        · rw [if_neg z] at hq
          rcases k2 with k2 | k2
          · exact absurd k2 z
          · exact xl_lower hb hP hh k1 (ih _ k1 (by omega) hq)
    have := h.1.2.1.2.1 _ hc
    exact key 100 _ hc (by omega) hQ
  · simp only [cellS_n hx] at hQ; exact hQ
/-- the costs in the array -/
def xCs (σ : FS) (d : Nat → Option Nat) : Prop := ∀ c, c < 64 → fA σ 4 c = match d c with | none => nI 100000000 | some v => nI v
theorem xCs.up {σ : FS} {d : Nat → Option Nat} {b v : Nat} (h : xCs σ d) : xCs (sA σ 4 b (nI v)) (upO d b v) := by
  intro c hc
  rw [fA_sA]
  unfold upO
  by_cases z : c = b
  · subst z; rw [if_pos ⟨rfl, rfl⟩, if_pos rfl]
  · rw [if_neg (fun q => z q.2), if_neg z]; exact h c hc
theorem abs_hd {h : Nat → Nat} {a b : Nat} : 1 + (h a - h b + (h b - h a)) = hd h a b := by
  unfold hd
  split <;> omega
theorem xl_wayOver {ν : XN} {o p a b : Nat} {P : Pl} {h : Nat → Nat} {Q : Int32 → XN → Prop} (h1 : 10 ≤ o) (h2 : o < 36) (hb : xPb ν p P) (hP : plOK P) (hh : ∀ c, isC P c → fA ν.1 (hK o) c = nI (h c) ∧ h c ≤ 99) (ha : isC P a) (hbb : isC P b)
    (hQ : ∀ ν', XA (fun x => x = 4) ν.1 ν'.1 → ν'.2 = ν.2 → zWay P h a b ≤ 4800 → Q (nI (zWay P h a b)) ν') : xw_X0_wayOver o (nI a) (nI b) ν Q := by
  obtain ⟨k1, k2, k3⟩ := xk_h h1 h2
  have hal := isC_lt hP ha
  have hbl := isC_lt hP hbb
  have hh9 : ∀ c, isC P c → h c ≤ 99 := fun c hc => (hh c hc).2
  have pf : ∀ ν' : XN, XA (fun x => x = 4) ν.1 ν'.1 → ν'.2 = ν.2 → xPb ν' p P := fun ν' g e => hb.e g.2.2.2.2.2 e
  have hf : ∀ ν' : XN, XA (fun x => x = 4) ν.1 ν'.1 → ∀ c, isC P c → fA ν'.1 (hK o) c = nI (h c) := fun ν' g c hc => by rw [g.2.2.1 _ (show ¬ hK o = 4 by unfold hK; omega)]; exact (hh c hc).1
  unfold xw_X0_wayOver xw_X0_wayOver_3
  intro X hX
  have loop : ∀ (d : Nat → Option Nat) (ν' : XN), XA (fun x => x = 4) ν.1 ν'.1 → ν'.2 = ν.2 → xCs ν'.1 d → RelI P h a d → xw_X0_wayOver_39 o (nI b) (nI 1) ν' Q := by
    intro d ν' g e hD hr
    unfold xw_X0_wayOver_39
    intro Y hY
    have out : ∀ (m : Nat) (d : Nat → Option Nat) (ν' : XN) (f : Nat), sumF (oB d) (cls P) = m → f < 2 → XA (fun x => x = 4) ν.1 ν'.1 → ν'.2 = ν.2 → xCs ν'.1 d → RelI P h a d → (f = 0 → ∀ e v, d e = some v → ∀ c, adjC P e c → ∃ u, d c = some u ∧ u ≤ v + hd h e c) → Y o (nI b) (nI f) ν' := by
      intro m
      induction m using Nat.strongRecOn with
      | ind m ih =>
        intro d ν' f hm hf2 g e hD hr hdone
        refine hY _ _ _ _ ?_
        rw [i_0, nI_eq (by omega) (by omega)]
        refine ⟨fun z => ?_, fun z => ?_⟩
        · obtain ⟨v, w1, w2⟩ := hr.done hP ha (fun c b v h1 h2 => hdone z c v h1 b h2) hbb
          have e1 := hD b (by omega)
          rw [w1] at e1
          rw [nI_clamp (by omega), e1]
          have hz := zWay_eq w2
          have := hQ ν' g e (by rw [hz]; exact hr.le hP w1)
          rw [hz] at this
          exact ⟨vp_in_nI (by omega) (by decide), this⟩
        · unfold xw_X0_wayOver_50
          intro V hV
          have pass : ∀ n k (d' : Nat → Option Nat) (ν2 : XN) (f : Nat), 64 - k = n → k ≤ 64 → f < 2 → XA (fun x => x = 4) ν.1 ν2.1 → ν2.2 = ν.2 → xCs ν2.1 d' → RelI P h a d' → (f = 1 → sumF (oB d') (cls P) < m) → (f = 0 → d' = d ∧ ∀ i, i < k → ∀ v, d i = some v → ∀ c, adjC P i c → ∃ u, d c = some u ∧ u ≤ v + hd h i c) → V o (nI b) (nI f) (nI k) ν2 := by
            intro n
            induction n with
            | zero =>
              intro k d' ν2 f hn hk hf2 g2 e2 hD2 hr2 hf1 hf0
              refine hV _ _ _ _ _ ⟨fun _ => ?_, fun c => absurd ((nI_leI (by omega) (by omega)).mpr (by omega) : nI 64 ≤ nI k) c⟩
              rcases (show f = 0 ∨ f = 1 by omega) with z | z
              · obtain ⟨q1, q2⟩ := hf0 z
                subst q1
                subst z
                refine hY _ _ _ _ ⟨fun _ => ?_, fun z => absurd rfl z⟩
                obtain ⟨v, w1, w2⟩ := hr2.done hP ha (fun c b v h1 h2 => q2 c (by have := isC_lt hP h2.1; omega) v h1 b h2) hbb
                have e1 := hD2 b (by omega)
                rw [w1] at e1
                rw [nI_clamp (by omega), e1]
                have hz := zWay_eq w2
                have := hQ ν2 g2 e2 (by rw [hz]; exact hr2.le hP w1)
                rw [hz] at this
                exact ⟨vp_in_nI (by omega) (by decide), this⟩
              · subst z
                exact ih _ (hf1 rfl) d' ν2 1 rfl (by decide) g2 e2 hD2 hr2 (fun z => by omega)
            | succ n ihn =>
              intro k d' ν2 f hn hk hf2 g2 e2 hD2 hr2 hf1 hf0
              refine hV _ _ _ _ _ ⟨fun c => absurd c (le_no 64 rfl (by decide) (by omega)), fun _ => ?_⟩
              unfold xw_X0_wayOver_60
              intro W hW
              have inner : ∀ n2 j (d3 : Nat → Option Nat) (ν3 : XN) (f3 : Nat), 64 - j = n2 → j ≤ 64 → f3 < 2 → XA (fun x => x = 4) ν.1 ν3.1 → ν3.2 = ν.2 → xCs ν3.1 d3 → RelI P h a d3 → (f3 = 1 → sumF (oB d3) (cls P) < m) → (f3 = 0 → (d3 = d ∧ ∀ i, i < k → ∀ v, d i = some v → ∀ c, adjC P i c → ∃ u, d c = some u ∧ u ≤ v + hd h i c) ∧ ∀ v, d k = some v → ∀ c, c < j → adjC P k c → ∃ u, d c = some u ∧ u ≤ v + hd h k c) → W o (nI b) (nI f3) (nI k) (nI j) ν3 := by
                intro n2
                induction n2 with
                | zero =>
                  intro j d3 ν3 f3 hn2 hj hf3 g3 e3 hD3 hr3 hf31 hf30
                  refine hW _ _ _ _ _ _ ⟨fun _ => ?_, fun c => absurd ((nI_leI (by omega) (by omega)).mpr (by omega) : nI 64 ≤ nI j) c⟩
                  unfold xw_X0_wayOver_129
                  rw [nI_1]
                  refine ihn (k + 1) d3 ν3 f3 (by omega) (by omega) hf3 g3 e3 hD3 hr3 hf31 (fun z => ⟨(hf30 z).1.1, fun i hi v hv c hadj => ?_⟩)
                  by_cases q : i = k
                  · subst q
                    exact (hf30 z).2 v hv c (by have := isC_lt hP hadj.2.1; omega) hadj
                  · exact (hf30 z).1.2 i (by omega) v hv c hadj
                | succ n2 ihi =>
                  intro j d3 ν3 f3 hn2 hj hf3 g3 e3 hD3 hr3 hf31 hf30
                  have hk4 := hD3 k (by omega)
                  have hj4 := hD3 j (by omega)
                  have stay : (∀ v, d3 k = some v → adjC P k j → ∃ u, d3 j = some u ∧ u ≤ v + hd h k j) → W o (nI b) (nI f3) (nI k) (nI (j + 1)) ν3 := by
                    intro hst
                    refine ihi (j + 1) d3 ν3 f3 (by omega) (by omega) hf3 g3 e3 hD3 hr3 hf31 (fun z => ⟨(hf30 z).1, fun v hv c hc hadj => ?_⟩)
                    by_cases q : c = j
                    · subst q
                      have e9 := (hf30 z).1.1
                      rw [e9] at hst
                      exact hst v hv hadj
                    · exact (hf30 z).2 v hv c (by omega) hadj
                  have w111 : (∀ v, d3 k = some v → adjC P k j → ∃ u, d3 j = some u ∧ u ≤ v + hd h k j) → xw_X0_wayOver_111 Y V W o (nI b) (nI f3) (nI k) (nI j) ν3 Q := by
                    intro hst
                    have hs := stay hst
                    unfold xw_X0_wayOver_111 xw_X0_wayOver_116 xw_X0_wayOver_121
                    rw [nI_1]
                    rcases (show f3 = 0 ∨ f3 = 1 by omega) with z | z
                    · subst z
                      exact ⟨fun _ => hs, fun q => absurd rfl q⟩
                    · subst z
                      exact ⟨fun q => absurd q (by decide), fun _ => hs⟩
                  refine hW _ _ _ _ _ _ ⟨fun c => absurd c (le_no 64 rfl (by decide) (by omega)), fun _ => ⟨vp_in_nI (by omega) (by decide), ?_⟩⟩
                  rw [nI_clamp (by omega), hk4]
                  cases hv : d3 k with
                  | none =>
                    refine ⟨fun _ => ?_, fun q => absurd (show (100000000 : Int32) ≤ nI 100000000 from Int32.le_refl _) q⟩
                    unfold xw_X0_wayOver_129
                    rw [nI_1]
                    refine ihn (k + 1) d3 ν3 f3 (by omega) (by omega) hf3 g3 e3 hD3 hr3 hf31 (fun z => ⟨(hf30 z).1.1, fun i hi v hv2 c hadj => ?_⟩)
                    by_cases q : i = k
                    · subst q
                      rw [(hf30 z).1.1] at hv
                      rw [hv] at hv2; cases hv2
                    · exact (hf30 z).1.2 i (by omega) v hv2 c hadj
                  | some v =>
                    have hvl := hr3.le hP hv
                    have hkc := (hr3.2 k v hv).1
                    rw [hv] at hk4
                    simp only [] at hk4 ⊢
                    rw [i_100000000, nI_leI (by omega) (by omega)]
                    refine ⟨fun q => by omega, fun _ => ?_⟩
                    refine xl_isCellN (pf ν3 g3 e3) (by omega) (fun hjc => ⟨fun q => absurd q (by decide), fun _ => ?_⟩) (fun hjc => ⟨fun _ => w111 (fun v' _ hadj => absurd hadj.2.1 hjc), fun q => absurd rfl q⟩)
                    refine xl_areNext (by omega) (by omega) ?_
                    by_cases hds : dst k j = 1
                    · rw [if_pos hds]
                      have hadj := (adj_iff hP hkc hjc).mp hds
                      refine ⟨fun q => absurd q (by decide), fun _ => ?_⟩
                      have g9k := hh9 k hkc
                      have g9j := hh9 j hjc
                      have hle := hd_le hh9 hkc hjc
                      unfold xw_X0_isNearer
                      rw [k1, k3, nI_clamp (show k < 2 ^ 31 by omega), nI_clamp (show j < 2 ^ 31 by omega), hf ν3 g3 k hkc, hf ν3 g3 j hjc]
                      refine ⟨vp_in_nI (by omega) (by decide), xoc_st h1 h2, k2, vp_in_nI (by omega) (by decide), k2, vp_in_nI (by omega) (by decide), xl_abs (by omega) (by omega) ⟨vp_in_nI (by omega) (by decide), ?_⟩⟩
                      have ec : nI v + 1 + nI (h k - h j + (h j - h k)) = nI (v + hd h k j) := by
                        rw [i_1, nI_add, nI_add, ← abs_hd, Nat.add_assoc]
                      rw [hk4, hj4, ec]
                      unfold xw_X0_isNearer_43
                      rw [nI_clamp (show j < 2 ^ 31 by omega)]
                      have low : (∀ u, d3 j = some u → v + hd h k j < u) → W o (nI b) (nI 1) (nI k) (nI (j + 1)) (sA ν3.1 4 j (nI (v + hd h k j)), ν3.2) := by
                        intro hlt
                        obtain ⟨r1, r2⟩ := hr3.up hP hh9 hv hadj hlt
                        refine ihi (j + 1) _ _ 1 (by omega) (by omega) (by decide) (g3.trans (XA.sA _ _ _ rfl)) e3 hD3.up r1 (fun _ => ?_) (fun z => by omega)
                        rcases (show f3 = 0 ∨ f3 = 1 by omega) with z | z
                        · rw [(hf30 z).1.1] at r2
                          have e9 := (hf30 z).1.1
                          rw [e9] at *
                          omega
                        · have := hf31 z; omega
                      have wlow : (∀ u, d3 j = some u → v + hd h k j < u) → xw_X0_wayOver_116 Y V W o (nI b) (nI k) (nI j) (sA ν3.1 4 j (nI (v + hd h k j)), ν3.2) Q := by
                        intro hlt
                        unfold xw_X0_wayOver_116 xw_X0_wayOver_121
                        rw [nI_1]
                        exact low hlt
                      cases hu : d3 j with
                      | none =>
                        simp only []
                        rw [nI_leI (by omega) (by omega)]
                        refine ⟨fun q => by omega, fun _ => ⟨fun q => absurd q (by decide), fun _ => ⟨vp_in_nI (by omega) (by decide), ?_⟩⟩⟩
                        intro ν4 e4
                        subst e4
                        exact ⟨nb_1, fun _ => wlow (fun u hu' => by rw [hu] at hu'; cases hu'), fun q => absurd q (by decide)⟩
                      | some u =>
                        have hul := hr3.le hP hu
                        simp only []
                        rw [nI_leI (by omega) (by omega)]
                        refine ⟨fun q => ⟨fun _ => ⟨nb_0, fun q2 => absurd trivial q2, fun _ => w111 (fun v' hv' _ => ?_)⟩, fun q2 => absurd trivial q2⟩, fun q => ⟨fun q2 => absurd q2 (by decide), fun _ => ⟨vp_in_nI (by omega) (by decide), ?_⟩⟩⟩
                        · rw [hv] at hv'; cases hv'
                          exact ⟨u, hu, q⟩
                        · intro ν4 e4
                          subst e4
                          exact ⟨nb_1, fun _ => wlow (fun u' hu' => by rw [hu] at hu'; cases hu'; omega), fun q => absurd q (by decide)⟩
                    · rw [if_neg hds]
                      exact ⟨fun _ => w111 (fun v' _ hadj => absurd ((adj_iff hP hkc hjc).mpr hadj) hds), fun q => absurd rfl q⟩
              exact inner 64 0 d' ν2 f rfl (by decide) hf2 g2 e2 hD2 hr2 hf1 (fun z => ⟨hf0 z, fun v _ c hc => by omega⟩)
          exact pass 64 0 d ν' 0 rfl (by decide) (by decide) g e hD hr (fun z => by omega) (fun _ => ⟨rfl, fun i hi => by omega⟩)
    exact out _ d ν' 1 rfl (by decide) g e hD hr (fun z => by omega)
  have init : ∀ j k (ν' : XN), 64 - k = j → k ≤ 64 → XA (fun x => x = 4) ν.1 ν'.1 → ν'.2 = ν.2 → (∀ i, i < k → fA ν'.1 4 i = if i = a then nI 0 else nI 100000000) → X o (nI a) (nI b) (nI k) ν' := by
    intro j
    induction j with
    | zero =>
      intro k ν' hj hk g e hi
      refine hX _ _ _ _ _ ⟨fun _ => ?_, fun z => absurd ((nI_leI (by omega) (by omega)).mpr (by omega) : nI 64 ≤ nI k) z⟩
      refine loop (fun x => if x = a then some 0 else none) ν' g e (fun c hc => ?_) (RelI.start hP ha)
      rw [hi c (by omega)]
      by_cases z : c = a
      · subst z; rw [if_pos rfl]; simp
      · rw [if_neg z]; simp [z]
    | succ j ih =>
      intro k ν' hj hk g e hi
      refine hX _ _ _ _ _ ⟨fun z => absurd z (le_no 64 rfl (by decide) (by omega)), fun _ => ?_⟩
      unfold xw_X0_wayOver_29
      rw [nI_eq (by omega) (by omega), nI_clamp (by omega)]
      refine ⟨fun z => ⟨vp_in_nI (by omega) (by decide), ?_⟩, fun z => ⟨vp_in_nI (by omega) (by decide), ?_⟩⟩
      · intro ν2 e2
        subst e2
        rw [nI_1]
        refine ih (k + 1) _ (by omega) (by omega) (g.trans (XA.sA _ _ _ rfl)) e (fun i hik => ?_)
        show fA (sA ν'.1 4 k _) 4 i = _
        rw [fA_sA]
        by_cases q : i = k
        · subst q; rw [if_pos ⟨rfl, rfl⟩, if_neg z]; rfl
        · rw [if_neg (fun w => q w.2)]; exact hi i (by omega)
      · intro ν2 e2
        subst e2
        rw [nI_1]
        refine ih (k + 1) _ (by omega) (by omega) (g.trans (XA.sA _ _ _ rfl)) e (fun i hik => ?_)
        show fA (sA ν'.1 4 k _) 4 i = _
        rw [fA_sA]
        by_cases q : i = k
        · subst q; rw [if_pos ⟨rfl, rfl⟩, if_pos z]; rfl
        · rw [if_neg (fun w => q w.2)]; exact hi i (by omega)
  exact init 64 0 ν rfl (by decide) (XA.refl _ _) rfl (fun i hi => by omega)
