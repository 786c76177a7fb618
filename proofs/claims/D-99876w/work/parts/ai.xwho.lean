/-! THE SYSTEM: who was asked, what tells it -/
def okR (P : Pl) (s : St) (q : Nat × Nat × Nat) : Bool := decide (zH (zDs P 0 q.1 s) q.2.1 = q.2.2)
def cnR (P : Pl) (s : St) (l : List (Nat × Nat × Nat)) (D : Nat) : Nat := l.countP (fun q => decide (q.1 < D) && okR P s q)
def cdR (P : Pl) (s : St) (l : List (Nat × Nat × Nat)) (D : Nat) : Nat := l.countP (fun q => decide (q.1 = D) && okR P s q)
theorem cnR_0 (P : Pl) (s : St) (l : List (Nat × Nat × Nat)) : cnR P s l 0 = 0 := by unfold cnR; rw [List.countP_eq_zero]; intro q _; simp
theorem cnR_s (P : Pl) (s : St) (D : Nat) : ∀ l : List (Nat × Nat × Nat), cnR P s l (D + 1) = cnR P s l D + cdR P s l D
  | [] => rfl
  | q :: l => by
    have ih := cnR_s P s D l
    unfold cnR cdR at ih ⊢
    rw [List.countP_cons, List.countP_cons, List.countP_cons, ih]
    by_cases z : q.1 < D
    · have z1 : q.1 < D + 1 := by omega
      have z2 : ¬ q.1 = D := by omega
      simp [z, z1, z2]; omega
    · by_cases z3 : q.1 = D
      · have z1 : q.1 < D + 1 := by omega
        simp [z3]; omega
      · have z1 : ¬ q.1 < D + 1 := by omega
        simp [z, z1, z3]
theorem cnR_le (P : Pl) (s : St) (l : List (Nat × Nat × Nat)) (D : Nat) : cnR P s l D ≤ l.length := List.countP_le_length
theorem cnR_all (P : Pl) (s : St) (l : List (Nat × Nat × Nat)) (D : Nat) : cnR P s l D = l.length ↔ ∀ q ∈ l, q.1 < D ∧ zH (zDs P 0 q.1 s) q.2.1 = q.2.2 := by
  unfold cnR
  rw [List.countP_eq_length]
  constructor
  · intro h q hq
    have := h q hq
    simp only [Bool.and_eq_true, decide_eq_true_eq, okR] at this
    exact this
  · intro h q hq
    have := h q hq
    simp only [Bool.and_eq_true, decide_eq_true_eq, okR]
    exact this
/-- days that can be looked at -/
def dEnd (s : St) : Nat := min 31 (1000 - zD s)
/-- how high each cell is behind each day, by who is asked -/
def xWy (σ : FS) (P : Pl) (s : St) (t k : Nat) : Prop := ∀ p d c, p < k → d < dEnd s → isC P c → fA σ (3000 + 31 * p + d) c = nI (zH (zDs P 0 d (zAs P 0 s p t)) c)
theorem xat_3 {a : Nat} (h1 : 3000 ≤ a) (h2 : a < 3217) : xok 1 a ∧ xlen a = 64 := by
  have e : xat a = (1, 64) := by unfold xat; rw [if_neg (by omega), if_neg (by omega), if_neg (by omega), if_pos (by omega)]
  exact ⟨show (xat _).1 = 1 by rw [e], show (xat _).2 = 64 by rw [e]⟩
theorem xat_2 {a : Nat} (h1 : 2000 ≤ a) (h2 : a < 2007) : xok 7 a ∧ xlen a = 31 := by
  have e : xat a = (7, 31) := by unfold xat; rw [if_neg (by omega), if_neg (by omega), if_pos (by omega)]
  exact ⟨show (xat _).1 = 7 by rw [e], show (xat _).2 = 31 by rw [e]⟩
theorem xl_wasAsked {ν : XN} {Z : Wd} {d p t : Nat} {Q : Int32 → XN → Prop} (hd : DP ≤ d) (h : xAll ν Z) (hp : p < nP (wP Z)) (ht : t < nT (wP Z))
    (hQ : ∀ ν', xAll ν' Z → (∀ a, a / 100 ≠ 101 → (a < 3000 + 31 * p ∨ 3000 + 31 * p + 31 ≤ a) → fA ν'.1 a = fA ν.1 a) → (∀ d' c, d' < dEnd (wS Z) → isC (wP Z) c → fA ν'.1 (3000 + 31 * p + d') c = nI (zH (zDs (wP Z) 0 d' (zAs (wP Z) 0 (wS Z) p t)) c)) → Q (nI (if whoOK (wP Z) (wS Z) (wR Z) t p = true then 1 else 0)) ν') : xw_X0_wasAsked (VTA d).1 (VTA d).2 (nI p) (nI t) ν Q := by
  have hP := h.ok hp
  have hnp := h.1.np
  have hr16 := h.1.2.2.2.2.2.1
  have hrr := h.1.2.2.2.2.2.2.1
  have hz9 := h.1.2.2.1
  obtain ⟨kh1, kh2, kh3⟩ := xk_h (o := 11) (by decide) (by decide)
  unfold xw_X0_wasAsked
  refine xl_try h (fun ν1 hA1 g1 e1 hs1 hz1 => ⟨rfl, ?_⟩)
  obtain ⟨b1, hb1, -⟩ := hA1.pb
  refine xl_asked (sil := 0) (by decide) (by decide) (hA1.cx hd hb1 hP) hs1 hz1 (by decide) hp ht (fun ν2 g2 e2 hs2 => ?_)
  have hA2 := hA1.fr g2.1 e2 ⟨by decide, by decide⟩ hs2.2.2.2.2.2.1
  unfold xw_X0_wasAsked_22
  intro X hX
  have hsD : zD (zAs (wP Z) 0 (wS Z) p t) = zD (wS Z) := zAs_D _ _ _ _ _
  generalize hs' : zAs (wP Z) 0 (wS Z) p t = s' at *
  have dD : ∀ n, zD (wS Z) + n ≤ 5000 → stOK (wP Z) (zDs (wP Z) 0 n s') ∧ zD (zDs (wP Z) 0 n s') = zD s' + n := fun n hn => zDs_ok hP n 0 s' hs2.1 (by omega)
  have out : ∀ m D (ν3 : XN), dEnd (wS Z) - D = m → D ≤ dEnd (wS Z) → xAll ν3 Z → xSt ν3.1 11 (wP Z) (zDs (wP Z) 0 D s') → fI ν3.1 11 2 = nI 0 → (∀ a, a / 100 ≠ 101 → (a < 3000 + 31 * p ∨ 3000 + 31 * p + 31 ≤ a) → fA ν3.1 a = fA ν.1 a) → (∀ d' c, d' < D → isC (wP Z) c → fA ν3.1 (3000 + 31 * p + d') c = nI (zH (zDs (wP Z) 0 d' s') c)) → X (nI p) (nI (cnR (wP Z) s' (wR Z) D)) (nI D) ν3 := by
    intro m
    induction m with
    | zero =>
      intro D ν3 hm hD hA3 hs3 hz3 ho3 hw3
      obtain ⟨b3, hb3, -⟩ := hA3.pb
      have hcl := cnR_le (wP Z) s' (wR Z) D
      refine hX _ _ _ _ ?_
      refine xl_isAhead (lo := 0) (hi := 30) (s := wS Z) hb3 hA3.2.1.2.1.1.2.1 h.1.2.1.1 (by decide) (by decide) (fun j j1 j2 j3 j4 j5 j6 => ?_) (fun j1 => ⟨fun _ => ?_, fun z => absurd rfl z⟩)
      · exfalso
        unfold dEnd at hm hD
        rw [nI_eq (by omega) (by omega)] at j5
        omega
      · have hw : (whoOK (wP Z) (wS Z) (wR Z) t p = true) ↔ cnR (wP Z) s' (wR Z) D = (wR Z).length := by
          rw [cnR_all]
          unfold whoOK
          rw [List.all_eq_true, hs']
          constructor
          · intro w q hq
            have w1 := w q hq
            rw [decide_eq_true_iff] at w1
            have w2 := (hrr q hq).1
            unfold dEnd at hm hD
            exact ⟨by omega, w1.2⟩
          · intro w q hq
            have := w q hq
            rw [decide_eq_true_iff]
            unfold dEnd at hm hD
            exact ⟨by omega, this.2⟩
        have h9 := hQ ν3 hA3 ho3 (fun d' c hd' hc => hw3 d' c (by omega) hc)
        have hrow := hA3.2.2.2.2.2.1.1
        rw [hrow, nI_eq (by omega) (by omega)]
        refine ⟨fun z => ?_, fun z => ?_⟩
        · rw [if_neg (fun q => z (hw.mp q))] at h9; exact h9
        · rw [if_pos (hw.mpr z)] at h9; exact h9
    | succ m ih =>
      intro D ν3 hm hD hA3 hs3 hz3 ho3 hw3
      obtain ⟨b3, hb3, -⟩ := hA3.pb
      have hcl := cnR_le (wP Z) s' (wR Z) D
      have hD2 : D < dEnd (wS Z) := by omega
      have hD31 : D < 31 ∧ zD (wS Z) + D ≤ 999 := by unfold dEnd at hD2; omega
      refine hX _ _ _ _ ?_
      refine xl_isAhead (lo := 0) (hi := 30) (s := wS Z) hb3 hA3.2.1.2.1.1.2.1 h.1.2.1.1 (by decide) (by decide) (fun j j1 j2 j3 j4 j5 j6 => ⟨fun z => absurd z (by decide), fun _ => ?_⟩) (fun j1 => ?_)
      · unfold xw_X0_wasAsked_37
        intro Y hY
        obtain ⟨o1, o2⟩ := xat_3 (a := 3000 + 31 * p + D) (by omega) (by omega)
        obtain ⟨o3, o4⟩ := xat_2 (a := 2000 + p) (by omega) (by omega)
        have cells : ∀ n k (ν4 : XN), 64 - k = n → k ≤ 64 → XA (fun x => x = 3000 + 31 * p + D) ν3.1 ν4.1 → ν4.2 = ν3.2 → (∀ i, i < k → fA ν4.1 (3000 + 31 * p + D) i = fA ν3.1 (hK 11) i) → Y (nI p) (nI (cnR (wP Z) s' (wR Z) D)) (nI D) (nI k) ν4 := by
          intro n
          induction n with
          | zero =>
            intro k ν4 hn hk g4 e4 hv4
            refine hY _ _ _ _ _ ⟨fun _ => ?_, fun z => absurd ((nI_leI (by omega) (by omega)).mpr (by omega) : nI 64 ≤ nI k) z⟩
            have hA4 := hA3.xa g4 e4 (by omega) (fun z => by simp only [List.mem_cons, List.not_mem_nil, or_false] at z; omega)
            have hK4 : xSt ν4.1 11 (wP Z) (zDs (wP Z) 0 D s') := ((g4.kp (k := 0) (by omega)) 11 (by decide) (by decide)).1 _ _ hs3
            have hz4 : fI ν4.1 11 2 = nI 0 := by rw [g4.1]; exact hz3
            have ho4 : ∀ a, a / 100 ≠ 101 → (a < 3000 + 31 * p ∨ 3000 + 31 * p + 31 ≤ a) → fA ν4.1 a = fA ν.1 a := fun a ha hb => by rw [g4.2.2.1 a (by omega)]; exact ho3 a ha hb
            have hw4 : ∀ d' c, d' < D + 1 → isC (wP Z) c → fA ν4.1 (3000 + 31 * p + d') c = nI (zH (zDs (wP Z) 0 d' s') c) := by
              intro d' c hd' hc
              by_cases w : d' = D
              · subst w
                have := isC_lt hP hc
                rw [hv4 c (by omega)]; exact hs3.2.2.2.1 c hc
              · rw [g4.2.2.1 _ (by omega)]; exact hw3 d' c (by omega) hc
            obtain ⟨b4, hb4, -⟩ := hA4.pb
            unfold xw_X0_wasAsked_75
            intro V hV
            have hrow := hA4.2.2.2.2.2.1
            have rows : ∀ (rest : List (Nat × Nat × Nat)) (i : Nat) (c0 : Nat), (wR Z).drop i = rest → i ≤ (wR Z).length → c0 + rest.countP (fun q => decide (q.1 = D) && okR (wP Z) s' q) = cnR (wP Z) s' (wR Z) (D + 1) → c0 ≤ (wR Z).length → V (nI p) (nI c0) (nI D) (nI i) ν4 := by
              intro rest
              induction rest with
              | nil =>
                intro i c0 d1 hi hc0 hle
                have hil : (wR Z).length ≤ i := List.drop_eq_nil_iff.mp d1
                refine hV _ _ _ _ _ ?_
                rw [hrow.1, nI_leI (by omega) (by omega)]
                refine ⟨fun _ => ?_, fun z => absurd hil z⟩
                refine xl_passes (sil := 0) (by decide) (by decide) (hA4.cx hd hb4 hP) hK4 hz4 (by decide) (by have := (dD D (by omega)).2; omega) (fun ν5 g5 e5 hs5 => ?_)
                have hA5 := hA4.fr g5.1 e5 ⟨by decide, by decide⟩ hs5.2.2.2.2.2.1
                rw [nI_1]
                have e9 : c0 = cnR (wP Z) s' (wR Z) (D + 1) := hc0
                rw [e9]
                refine ih (D + 1) ν5 (by omega) (by omega) hA5 ?_ (g5.2.trans hz4) (fun a ha hb => by rw [g5.1.2.1 a (by omega)]; exact ho4 a ha hb) (fun d' c hd' hc => by rw [g5.1.2.1 _ (by omega)]; exact hw4 d' c hd' hc)
                rw [zDs_add]; exact hs5
              | cons q rest ihr =>
                intro i c0 d1 hi hc0 hle
                obtain ⟨x1, x2, x3⟩ := drop_cons d1
                obtain ⟨r1, r2, r3⟩ := hrow.2 i q x1
                have hq := hrr q (List.mem_of_getElem? x1)
                have hcq := isC_lt hP hq.2.1
                have hle2 := (dD D (by omega)).1.2.1 _ hq.2.1
                have hcnt := cnR_le (wP Z) s' (wR Z) (D + 1)
                rw [List.countP_cons] at hc0
                have no : ¬ (q.1 = D ∧ zH (zDs (wP Z) 0 D s') q.2.1 = q.2.2) → V (nI p) (nI c0) (nI D) (nI (i + 1)) ν4 := by
                  intro w
                  have : (decide (q.1 = D) && okR (wP Z) s' q) = false := by
                    by_cases w1 : q.1 = D
                    · have : ¬ zH (zDs (wP Z) 0 q.1 s') q.2.1 = q.2.2 := fun w2 => w ⟨w1, by rw [w1] at w2; exact w2⟩
                      unfold okR; rw [decide_eq_false this, Bool.and_false]
                    · rw [decide_eq_false w1, Bool.false_and]
                  rw [this] at hc0
                  exact ihr (i + 1) c0 x2 (by omega) (by simpa using hc0) hle
                refine hV _ _ _ _ _ ?_
                unfold xw_X0_wasAsked_126 xw_X0_wasAsked_127
                rw [hrow.1, nI_leI (by omega) (by omega), nI_clamp (show i < 2 ^ 31 by omega), r1, r2, r3, kh1, kh3, nI_eq (by omega) (by omega), nI_clamp (show q.2.1 < 2 ^ 31 by omega), hK4.2.2.2.1 _ hq.2.1, nI_eq (by omega) (by omega)]
                refine ⟨fun z => by omega, fun _ => ⟨vp_in_nI (by omega) (by decide), fun z => ?_, fun z => ⟨vp_in_nI (by omega) (by decide), kh2, vp_in_nI (by omega) (by decide), vp_in_nI (by omega) (by decide), fun z2 => ?_, fun z2 => ?_⟩⟩⟩
                · rw [Int32.add_zero, nI_1]; exact no (fun w => z w.1)
                · rw [Int32.add_zero, nI_1]; exact no (fun w => z2 w.2)
                · rw [nI_1, nI_1]
                  have : (decide (q.1 = D) && okR (wP Z) s' q) = true := by
                    unfold okR; rw [decide_eq_true z, z, decide_eq_true z2]; rfl
                  rw [this] at hc0
                  have e5 : (if true = true then 1 else 0 : Nat) = 1 := rfl
                  rw [e5] at hc0
                  exact ihr (i + 1) (c0 + 1) x2 (by omega) (by omega) (by omega)
            exact rows (wR Z) 0 _ rfl (by omega) (by rw [cnR_s]; rfl) hcl
          | succ n ihn =>
            intro k ν4 hn hk g4 e4 hv4
            have hA4 := hA3.xa g4 e4 (by omega) (fun z => by simp only [List.mem_cons, List.not_mem_nil, or_false] at z; omega)
            have hfx := hA4.2.1.2.2.2.2.2.2.2.2
            refine hY _ _ _ _ _ ⟨fun z => absurd z (le_no 64 rfl (by decide) (by omega)), fun _ => ?_⟩
            rw [nI_clamp (show p < 2 ^ 31 by omega), nI_clamp (show D < 2 ^ 31 by omega), nI_clamp (show k < 2 ^ 31 by omega), hfx.2.2.1 p (by omega), hfx.2.2.2 p D (by omega) (by omega), o2, o4, kh1, kh3]
            refine ⟨vp_in_nI (by omega) (by decide), o3, vp_in_nI (by omega) (by decide), kh2, vp_in_nI (by omega) (by decide), o1, vp_in_nI (by omega) (by decide), ?_⟩
            intro ν5 e5
            subst e5
            rw [nI_1]
            refine ihn (k + 1) _ (by omega) (by omega) (g4.trans (XA.sA _ _ _ rfl)) e4 (fun i hi => ?_)
            show fA (sA ν4.1 (3000 + 31 * p + D) k _) (3000 + 31 * p + D) i = _
            have e6 : fA ν4.1 (hK 11) = fA ν3.1 (hK 11) := g4.2.2.1 _ (by unfold hK; omega)
            rw [fA_sA]
            by_cases w : i = k
            · rw [if_pos ⟨rfl, w⟩, w, e6]
            · rw [if_neg (fun z => w z.2)]; exact hv4 i (by omega)
        exact cells 64 0 ν3 rfl (by decide) (XA.refl _ _) rfl (fun i hi => by omega)
      · exfalso
        unfold ahd at j1
        rw [ix_lt (by omega) (by decide)] at j1
        simp only [] at j1
        rw [if_pos ⟨by have := hP.1; omega, by omega, by omega⟩] at j1
        cases j1
  have h0 := out _ 0 ν2 rfl (Nat.zero_le _) hA2 hs2 (g2.2.trans hz1) (fun a ha _ => by rw [g2.1.2.1 a (by omega), g1.2.1 a (by omega)]) (fun d' c hd' => by omega)
  rw [cnR_0] at h0
  exact h0
theorem xl_who {ν : XN} {Z : Wd} {d : Nat} {x : Int32} {Q : Int32 → XN → Prop} (hd : DP ≤ d) (h : xAll ν Z) (hs : ∀ t ν', ix x (nT (wP Z)) = some t → t < nT (wP Z) → x = nI t → xAll ν' Z → xWy ν'.1 (wP Z) (wS Z) t (nP (wP Z)) → Q (nI (setOf (whoOK (wP Z) (wS Z) (wR Z) t) (nP (wP Z)))) ν') (hn : ix x (nT (wP Z)) = none → Q M1 ν) : xw_X0_who (VTA d).1 (VTA d).2 x ν Q := by
  obtain ⟨b, hb, -⟩ := h.pb
  have hnp := h.1.np
  unfold xw_X0_who
  refine xl_isTopic hb (fun t t1 t2 t3 => ⟨fun _ => ?_, fun z => absurd z (by decide)⟩) (fun t1 => ⟨fun z => absurd rfl z, fun _ => hn t1⟩)
  subst t3
  unfold xw_X0_who_14
  intro X hX
  have key : ∀ m p (ν1 : XN), nP (wP Z) - p = m → p ≤ nP (wP Z) → xAll ν1 Z → xWy ν1.1 (wP Z) (wS Z) t p → X (nI t) (nI (setOf (whoOK (wP Z) (wS Z) (wR Z) t) p)) (nI p) ν1 := by
    intro m
    induction m with
    | zero =>
      intro p ν1 hm hp hA1 hW
      have hpp : p = nP (wP Z) := by omega
      subst hpp
      obtain ⟨b1, hb1, -⟩ := hA1.pb
      refine hX _ _ _ _ (xl_people hb1 ⟨fun _ => hs t ν1 t1 t2 rfl hA1 hW, fun z => absurd ((nI_leI (by omega) (by omega)).mpr (by omega)) z⟩)
    | succ m ih =>
      intro p ν1 hm hp hA1 hW
      obtain ⟨b1, hb1, -⟩ := hA1.pb
      have hlt := setOf_lt (whoOK (wP Z) (wS Z) (wR Z) t) p
      refine hX _ _ _ _ (xl_people hb1 ⟨fun z => absurd ((nI_leI (by omega) (by omega)).mp z) (by omega), fun _ => ?_⟩)
      refine xl_wasAsked hd hA1 (by omega) t2 (fun ν2 hA2 ho2 hw2 => ?_)
      have hW2 : xWy ν2.1 (wP Z) (wS Z) t (p + 1) := by
        intro p' d' c hp' hd' hc
        by_cases w : p' = p
        · subst w; exact hw2 d' c hd' hc
        · have hd31 : d' < 31 := by unfold dEnd at hd'; omega
          rw [ho2 _ (by omega) (by omega)]; exact hW p' d' c (by omega) hd' hc
      have go : ∀ v, v = setOf (whoOK (wP Z) (wS Z) (wR Z) t) (p + 1) → X (nI t) (nI v) (nI (p + 1)) ν2 := fun v hv => by rw [hv]; exact ih (p + 1) ν2 (by omega) (by omega) hA2 hW2
      unfold xw_X0_who_39
      by_cases hw : whoOK (wP Z) (wS Z) (wR Z) t p = true
      · rw [if_pos hw]
        refine ⟨fun z => absurd z (by decide), fun _ => ?_⟩
        rw [shl1 (by omega), nI_or, nI_1]
        refine go _ ?_
        show _ = if _ then _ else _
        rw [if_pos hw]
      · rw [if_neg hw]
        refine ⟨fun _ => ?_, fun z => absurd rfl z⟩
        rw [i_0, nI_or, nI_1, Nat.or_zero]
        refine go _ ?_
        show _ = if _ then _ else _
        rw [if_neg hw]
  exact key _ 0 ν rfl (by omega) h (fun p d' c hp => by omega)
theorem xq_who {ν : XN} {Z : Wd} {d : Nat} {x : Int32} {Q : Int32 → XN → Prop} (hd : DP ≤ d) (h : xAll ν Z) (hQ : ∀ ν', xAll ν' Z → Q (opWho Z x) ν') : xw_X0_who (VTA d).1 (VTA d).2 x ν Q := by
  unfold opWho at hQ
  refine xl_who hd h (fun t ν' t1 _ _ hA _ => ?_) (fun t1 => ?_)
  · simp only [t1] at hQ; exact hQ ν' hA
  · simp only [t1] at hQ; exact hQ ν h
