/-! THE SYSTEM: sets of silent ones -/
def bcE (x0 : Int32) : Int32 := ((((((((x0 - (((Int32.toUInt32 x0 >>> (Int32.toUInt32 (1 : Int32) &&& Int32.toUInt32 31)).toInt32) &&& (1431655765 : Int32))) &&& (858993459 : Int32)) + (((Int32.toUInt32 (x0 - (((Int32.toUInt32 x0 >>> (Int32.toUInt32 (1 : Int32) &&& Int32.toUInt32 31)).toInt32) &&& (1431655765 : Int32))) >>> (Int32.toUInt32 (2 : Int32) &&& Int32.toUInt32 31)).toInt32) &&& (858993459 : Int32))) + ((Int32.toUInt32 (((x0 - (((Int32.toUInt32 x0 >>> (Int32.toUInt32 (1 : Int32) &&& Int32.toUInt32 31)).toInt32) &&& (1431655765 : Int32))) &&& (858993459 : Int32)) + (((Int32.toUInt32 (x0 - (((Int32.toUInt32 x0 >>> (Int32.toUInt32 (1 : Int32) &&& Int32.toUInt32 31)).toInt32) &&& (1431655765 : Int32))) >>> (Int32.toUInt32 (2 : Int32) &&& Int32.toUInt32 31)).toInt32) &&& (858993459 : Int32))) >>> (Int32.toUInt32 (4 : Int32) &&& Int32.toUInt32 31)).toInt32)) &&& (252645135 : Int32)) + ((Int32.toUInt32 (((((x0 - (((Int32.toUInt32 x0 >>> (Int32.toUInt32 (1 : Int32) &&& Int32.toUInt32 31)).toInt32) &&& (1431655765 : Int32))) &&& (858993459 : Int32)) + (((Int32.toUInt32 (x0 - (((Int32.toUInt32 x0 >>> (Int32.toUInt32 (1 : Int32) &&& Int32.toUInt32 31)).toInt32) &&& (1431655765 : Int32))) >>> (Int32.toUInt32 (2 : Int32) &&& Int32.toUInt32 31)).toInt32) &&& (858993459 : Int32))) + ((Int32.toUInt32 (((x0 - (((Int32.toUInt32 x0 >>> (Int32.toUInt32 (1 : Int32) &&& Int32.toUInt32 31)).toInt32) &&& (1431655765 : Int32))) &&& (858993459 : Int32)) + (((Int32.toUInt32 (x0 - (((Int32.toUInt32 x0 >>> (Int32.toUInt32 (1 : Int32) &&& Int32.toUInt32 31)).toInt32) &&& (1431655765 : Int32))) >>> (Int32.toUInt32 (2 : Int32) &&& Int32.toUInt32 31)).toInt32) &&& (858993459 : Int32))) >>> (Int32.toUInt32 (4 : Int32) &&& Int32.toUInt32 31)).toInt32)) &&& (252645135 : Int32)) >>> (Int32.toUInt32 (8 : Int32) &&& Int32.toUInt32 31)).toInt32)) + ((Int32.toUInt32 ((((((x0 - (((Int32.toUInt32 x0 >>> (Int32.toUInt32 (1 : Int32) &&& Int32.toUInt32 31)).toInt32) &&& (1431655765 : Int32))) &&& (858993459 : Int32)) + (((Int32.toUInt32 (x0 - (((Int32.toUInt32 x0 >>> (Int32.toUInt32 (1 : Int32) &&& Int32.toUInt32 31)).toInt32) &&& (1431655765 : Int32))) >>> (Int32.toUInt32 (2 : Int32) &&& Int32.toUInt32 31)).toInt32) &&& (858993459 : Int32))) + ((Int32.toUInt32 (((x0 - (((Int32.toUInt32 x0 >>> (Int32.toUInt32 (1 : Int32) &&& Int32.toUInt32 31)).toInt32) &&& (1431655765 : Int32))) &&& (858993459 : Int32)) + (((Int32.toUInt32 (x0 - (((Int32.toUInt32 x0 >>> (Int32.toUInt32 (1 : Int32) &&& Int32.toUInt32 31)).toInt32) &&& (1431655765 : Int32))) >>> (Int32.toUInt32 (2 : Int32) &&& Int32.toUInt32 31)).toInt32) &&& (858993459 : Int32))) >>> (Int32.toUInt32 (4 : Int32) &&& Int32.toUInt32 31)).toInt32)) &&& (252645135 : Int32)) + ((Int32.toUInt32 (((((x0 - (((Int32.toUInt32 x0 >>> (Int32.toUInt32 (1 : Int32) &&& Int32.toUInt32 31)).toInt32) &&& (1431655765 : Int32))) &&& (858993459 : Int32)) + (((Int32.toUInt32 (x0 - (((Int32.toUInt32 x0 >>> (Int32.toUInt32 (1 : Int32) &&& Int32.toUInt32 31)).toInt32) &&& (1431655765 : Int32))) >>> (Int32.toUInt32 (2 : Int32) &&& Int32.toUInt32 31)).toInt32) &&& (858993459 : Int32))) + ((Int32.toUInt32 (((x0 - (((Int32.toUInt32 x0 >>> (Int32.toUInt32 (1 : Int32) &&& Int32.toUInt32 31)).toInt32) &&& (1431655765 : Int32))) &&& (858993459 : Int32)) + (((Int32.toUInt32 (x0 - (((Int32.toUInt32 x0 >>> (Int32.toUInt32 (1 : Int32) &&& Int32.toUInt32 31)).toInt32) &&& (1431655765 : Int32))) >>> (Int32.toUInt32 (2 : Int32) &&& Int32.toUInt32 31)).toInt32) &&& (858993459 : Int32))) >>> (Int32.toUInt32 (4 : Int32) &&& Int32.toUInt32 31)).toInt32)) &&& (252645135 : Int32)) >>> (Int32.toUInt32 (8 : Int32) &&& Int32.toUInt32 31)).toInt32)) >>> (Int32.toUInt32 (16 : Int32) &&& Int32.toUInt32 31)).toInt32)) &&& (63 : Int32))
theorem bcE_eq : ∀ n, n < 128 → bcE (nI n) = nI (popc n) := by decide +kernel
theorem xl_bits7 {ν : XN} {n : Nat} {Q : Int32 → XN → Prop} (hn : n < 128) (hQ : Q (nI (popc n)) ν) : xw_J16_bitCount (nI n) ν Q := by
  show Q (bcE (nI n)) ν
  rw [bcE_eq n hn]; exact hQ
theorem xl_isCell {ν : XN} {b : Nat} {P : Pl} {x : Int32} {Q : Int32 → XN → Prop} (hb : xPb ν b P) (hs : ∀ c, cellN P x = some c → isC P c → c < 64 → x = nI c → Q (nI 1) ν) (hn : cellN P x = none → Q (nI 0) ν) : xw_X0_isCell x ν Q := by
  have h7 := hb.2.2.2.2.2
  unfold xw_X0_isCell
  refine ⟨fun z => hn ?_, fun z => ?_⟩
  · unfold cellN
    rcases ix_cases x 64 with ⟨j, e1, e2, e3⟩ | ⟨e1, e2⟩
    · rw [e3, i_0, nI_ltI (by omega) (by omega)] at z; omega
    · rw [e1]
  · obtain ⟨j, hj, rfl⟩ := nI_of (x := x) z
    simp (disch := omega) only [i_0, i_1, i_2, i_3, i_4, i_5, i_6, i_7, i_8, i_9, i_10, i_11, i_12, i_13, i_16, i_19, i_20, i_21, i_22, i_23, i_24, i_25, i_30, i_31, i_32, i_39, i_40, i_41, i_42, i_43, i_44, i_45, i_47, i_48, i_49, i_50, i_51, i_52, i_57, i_59, i_60, i_61, i_62, i_63, i_64, i_71, i_72, i_80, i_91, i_93, i_97, i_99, i_100, i_122, i_227, i_228, i_232, i_251, i_255, i_256, i_463, i_999, i_1000, i_1519, i_1600, i_9999, i_100000000, i_2147483639, i_2147483647, neg_nI1, nI_add, pk_mul, nI_remL, pk_sub, pk_div, nI_clamp, nI_leI, nI_ltI, nI_eq, vpT, nI_m1, m1_nI, nI_lem1, m1_le, m1_lt, nI_ltm1, nI_bit, nI_shl, nI_xor, nI_or, n_rem]
    have e9 : cellN P (nI j) = if j < 64 then (if j % 8 < plC P ∧ j / 8 < plR P then some j else none) else none := by
      unfold cellN
      rw [ix_nI2 (by omega)]
      by_cases z1 : j < 64
      · rw [if_pos z1, if_pos z1]
      · rw [if_neg z1, if_neg z1]
    rw [e9] at hn
    simp only [e9] at hs
    refine xl_isIn hb (fun c r c1 r1 c2 r2 c3 r3 => ⟨fun q => absurd q (by decide), fun _ => ?_⟩) (fun hh => ⟨fun _ => hn ?_, fun q => absurd rfl q⟩)
    · rw [nI_eq (by omega) (by omega)] at c3 r3
      exact hs j (by rw [if_pos (by omega), if_pos (by omega)]) ⟨by omega, by omega⟩ (by omega) rfl
    · by_cases z1 : j < 64
      · rw [if_pos z1, if_neg (fun q => ?_)]
        rcases hh with w | w
        · rw [ix_lt q.1 (by omega)] at w; cases w
        · rw [ix_lt q.2 (by omega)] at w; cases w
      · rw [if_neg z1]
theorem xl_isFewer {ν : XN} {q : Nat} {b : Option Nat} {Q : Int32 → XN → Prop} (hq : q < 128) (hb : ∀ r, b = some r → r < 128) (hQ : Q (nI (if fwr b q = true then 1 else 0)) ν) : xw_X0_isFewer (nI q) (oN b) ν Q := by
  unfold xw_X0_isFewer
  cases b with
  | none => exact ⟨fun _ => hQ, fun z => absurd rfl z⟩
  | some r =>
    have hr := hb r rfl
    refine ⟨fun z => ?_, fun _ => ?_⟩
    · have : nI r = M1 := z
      rw [nI_m1 (by omega)] at this; exact this.elim
    · have p1 := popc_le _ hq
      have p2 := popc_le _ hr
      refine xl_bits7 hq (xl_bits7 hr ?_)
      rw [nI_leI (by omega) (by omega)]
      simp only [fwr, decide_eq_true_eq] at hQ
      refine ⟨fun z => ?_, fun z => ?_⟩
      · rw [if_neg (by omega)] at hQ; exact hQ
      · rw [if_pos (by omega)] at hQ; exact hQ
theorem xl_silently {ν : XN} {Z : Wd} {d q j : Nat} {Q : Nat → XN → Prop} (hd : DP ≤ d) (h : xAll ν Z) (hP : plOK (wP Z)) (hq : q < 128) (hj : zD (wS Z) + j ≤ 999) (hQ : ∀ ν', xAll ν' Z → XFr 11 ν.1 ν'.1 → ν'.2 = ν.2 → xSt ν'.1 11 (wP Z) (zDs (wP Z) q j (wS Z)) → Q 11 ν') : xw_X0_silently (VTA d).1 (VTA d).2 (nI q) (nI j) ν Q := by
  unfold xw_X0_silently
  refine xl_try h (fun ν1 hA1 g1 e1 hs1 hz1 => ⟨rfl, ?_⟩)
  intro ν2 e2
  have g2 : XFr 11 ν1.1 ν2.1 := by
    rw [e2]
    exact ⟨fun a b c => by show fI (sI ν1.1 11 2 (nI q)) a b = _; rw [fI_sI, if_neg (fun z => c z.1)], fun _ _ => rfl, fun _ _ => rfl, fun _ _ => rfl, rfl, rfl⟩
  have e22 : ν2.2 = ν1.2 := by rw [e2]
  have hz2 : fI ν2.1 11 2 = nI q := by rw [e2]; show fI (sI ν1.1 11 2 (nI q)) 11 2 = _; rw [fI_sI, if_pos ⟨rfl, rfl⟩]
  have hs2 : xSt ν2.1 11 (wP Z) (wS Z) := by
    obtain ⟨s1, s2, s3, s4, s5, s6, s7⟩ := hs1
    rw [e2]
    exact ⟨s1, by show fI (sI ν1.1 11 2 (nI q)) 11 0 = _; rw [fI_sI, if_neg (by omega)]; exact s2, by show fI (sI ν1.1 11 2 (nI q)) 11 1 = _; rw [fI_sI, if_neg (by omega)]; exact s3, s4, s5, s6, s7⟩
  have hA2 := hA1.fr g2 e22 ⟨by decide, by decide⟩ hs2.2.2.2.2.2.1
  obtain ⟨b2, hb2, -⟩ := hA2.pb
  refine xl_days (sil := q) (by decide) (by decide) (hA2.cx hd hb2 hP) hs2 hz2 hq (by omega) (fun ν3 g3 e3 hs3 => ?_)
  exact hQ ν3 (hA2.fr g3.1 e3 ⟨by decide, by decide⟩ hs3.2.2.2.2.2.1) ((g1.trans g2).trans g3.1) (e3.trans (e22.trans e1)) hs3
/-- a small array changes -/
theorem xAll.xa {ν ν' : XN} {Z : Wd} {a : Nat} (h : xAll ν Z) (g : XA (fun x => x = a) ν.1 ν'.1) (e : ν'.2 = ν.2) (ha : a < 9000) (hn : a ∉ ([0, 1, 6, 7, 8, 11] : List Nat)) : xAll ν' Z := by
  obtain ⟨h1, h2, h3⟩ := h
  have x : X0 [] [a] ν.1 ν'.1 := ⟨fun _ _ _ => by rw [g.1], fun b hb => g.2.2.1 b (fun z => hb (by rw [z]; exact List.mem_singleton.mpr rfl)), g.2.1, g.2.2.2.2.2⟩
  exact ⟨h1, x.co e (fun b hb => by rw [List.mem_singleton.mp hb]; exact ha) h1.2.2.2.2.2.2.2.1 h2, x.sm (by rw [g.2.2.2.2.1]) (fun _ _ z => by cases z) (fun b hb z => hn (by rw [← List.mem_singleton.mp z]; exact hb)) h3⟩
theorem xq_way {ν : XN} {Z : Wd} {x y : Int32} {Q : Int32 → XN → Prop} (h : xAll ν Z) (hQ : ∀ ν', xAll ν' Z → Q (opWay Z x y) ν') : xw_X0_way x y ν Q := by
  obtain ⟨b, hb, -⟩ := h.pb
  unfold xw_X0_way
  unfold opWay at hQ
  refine xl_isCell hb (fun a a1 a2 a3 a4 => ⟨fun q => absurd q (by decide), fun _ => ?_⟩) (fun a1 => ⟨fun _ => ?_, fun q => absurd rfl q⟩)
  · refine xl_isCell hb (fun c c1 c2 c3 c4 => ⟨fun q => absurd q (by decide), fun _ => ?_⟩) (fun c1 => ⟨fun _ => ?_, fun q => absurd rfl q⟩)
    · subst a4 c4
      simp only [a1, c1] at hQ
      have hP : plOK (wP Z) := h.okc (p := a % 8) a2.1
      exact xl_wayOver (h := zH (wS Z)) (by decide) (by decide) hb hP (fun c hc => ⟨h.2.1.2.1.1.2.2.2.1 c hc, h.1.2.1.2.1 c hc⟩) a2 c2 (fun ν' g e _ => hQ ν' (h.xa g e (by decide) (by decide)))
    · simp only [a1, c1] at hQ; exact hQ ν h
  · simp only [a1] at hQ; exact hQ ν h
theorem shl1 {n : Nat} (h : n < 31) : (1 : Int32) <<< (nI n &&& 31) = nI (2 ^ n) := by rw [i_1, i_31, nI_shl (by omega)]
theorem xq_keeps {ν : XN} {Z : Wd} {d : Nat} {x y n : Int32} {Q : Int32 → XN → Prop} (hd : DP ≤ d) (h : xAll ν Z) (hQ : ∀ ν', xAll ν' Z → Q (opKeeps Z x y n) ν') : xw_X0_keeps (VTA d).1 (VTA d).2 x y n ν Q := by
  obtain ⟨b, hb, -⟩ := h.pb
  have hnp := h.1.np
  have h128 := p2_le hnp.1
  unfold xw_X0_keeps
  unfold opKeeps at hQ
  refine xl_isCell hb (fun a a1 a2 a3 a4 => ⟨fun q => absurd q (by decide), fun _ => ?_⟩) (fun a1 => ⟨fun _ => ?_, fun q => absurd rfl q⟩)
  · refine xl_isCell hb (fun c c1 c2 c3 c4 => ⟨fun q => absurd q (by decide), fun _ => ?_⟩) (fun c1 => ⟨fun _ => ?_, fun q => absurd rfl q⟩)
    · subst a4 c4
      have hP : plOK (wP Z) := h.okc (p := a % 8) a2.1
      refine xl_isAhead (lo := 1) (hi := 20) (s := wS Z) hb h.2.1.2.1.1.2.1 h.1.2.1.1 (by decide) (by decide) (fun j j1 j2 j3 j4 j5 j6 => ⟨fun _ => ?_, fun z => absurd z (by decide)⟩) (fun j1 => ⟨fun z => absurd rfl z, fun _ => ?_⟩)
      · subst j5
        simp only [a1, c1, j1] at hQ
        refine xl_wayOver (h := zH (wS Z)) (by decide) (by decide) hb hP (fun c hc => ⟨h.2.1.2.1.1.2.2.2.1 c hc, h.1.2.1.2.1 c hc⟩) a2 c2 (fun ν1 g1 e1 hw => ?_)
        have hA1 := h.xa g1 e1 (by decide) (by decide)
        unfold xw_X0_keeps_47
        intro X hX
        have key : ∀ m k (b' : Option Nat) (ν2 : XN), 2 ^ nP (wP Z) - k = m → k ≤ 2 ^ nP (wP Z) → (∀ r, b' = some r → r < 128) → ((List.range (2 ^ nP (wP Z))).drop k).foldl (bestS (kpOK (wP Z) (wS Z) a c j)) b' = bestL (kpOK (wP Z) (wS Z) a c j) (2 ^ nP (wP Z)) → xAll ν2 Z → X (nI a) (nI c) (nI j) (nI (zWay (wP Z) (zH (wS Z)) a c)) (oN b') (nI k) ν2 := by
          intro m
          induction m with
          | zero =>
            intro k b' ν2 hm hk hb' he hA2
            obtain ⟨b2, hb2, -⟩ := hA2.pb
            refine hX _ _ _ _ _ _ _ (xl_people hb2 ?_)
            rw [shl1 (by omega), nI_leI (by omega) (by omega)]
            refine ⟨fun _ => ?_, fun z => absurd (by omega) z⟩
            rw [rng_end (by omega)] at he
            have he : b' = bestL (kpOK (wP Z) (wS Z) a c j) (2 ^ nP (wP Z)) := he
            have h9 := hQ ν2 hA2
            rw [← he] at h9
            cases b' <;> exact h9
          | succ m ih =>
            intro k b' ν2 hm hk hb' he hA2
            obtain ⟨b2, hb2, -⟩ := hA2.pb
            rw [rng_at (by omega), List.foldl_cons] at he
            have next : ∀ b'' (ν3 : XN), xAll ν3 Z → b'' = bestS (kpOK (wP Z) (wS Z) a c j) b' k → xw_X0_keeps_90 (VTA d).1 (VTA d).2 X (nI a) (nI c) (nI j) (nI (zWay (wP Z) (zH (wS Z)) a c)) (oN b'') (nI k) ν3 Q := by
              intro b'' ν3 hA3 hb3
              unfold xw_X0_keeps_90
              rw [nI_1]
              refine ih (k + 1) b'' ν3 (by omega) (by omega) (by rw [hb3]; exact bestS_lt hb' (by omega)) (by rw [hb3]; exact he) hA3
            refine hX _ _ _ _ _ _ _ (xl_people hb2 ?_)
            rw [shl1 (by omega), nI_leI (by omega) (by omega)]
            refine ⟨fun z => by omega, fun _ => xl_isFewer (by omega) hb' ?_⟩
            by_cases hf : fwr b' k = true
            · rw [if_pos hf]
              refine ⟨fun q => absurd q (by decide), fun _ => ?_⟩
              refine xl_silently hd hA2 hP (by omega) (by omega) (fun ν3 hA3 g3 e3 hs3 => ?_)
              obtain ⟨b3, hb3, -⟩ := hA3.pb
              refine xl_wayOver (h := zH (zDs (wP Z) k j (wS Z))) (by decide) (by decide) hb3 hP (fun c hc => ⟨hs3.2.2.2.1 c hc, hs3.1.2.1 c hc⟩) a2 c2 (fun ν4 g4 e4 hw4 => ?_)
              have hA4 := hA3.xa g4 e4 (by decide) (by decide)
              rw [nI_ltI (by omega) (by omega)]
              refine ⟨fun z => next b' ν4 hA4 ?_, fun z => next (some k) ν4 hA4 ?_⟩
              · unfold bestS kpOK
                rw [decide_eq_false (by omega), Bool.and_false]; rfl
              · unfold bestS kpOK
                rw [decide_eq_true (by omega), Bool.and_true, if_pos hf]
            · rw [if_neg hf]
              refine ⟨fun _ => next b' ν2 hA2 ?_, fun q => absurd rfl q⟩
              unfold bestS
              rw [if_neg (by rw [Bool.and_eq_true]; exact fun q => hf q.1)]
        exact key _ 0 none ν1 rfl (Nat.zero_le _) (fun r hr => by cases hr) rfl hA1
      · simp only [a1, c1, j1] at hQ; exact hQ ν h
    · simp only [a1, c1] at hQ; exact hQ ν h
  · simp only [a1] at hQ; exact hQ ν h
theorem xat_h {q : Nat} (h : q < 128) : xok 1 (1000 + q) ∧ xlen (1000 + q) = 7 := by
  have e : xat (1000 + q) = (1, 7) := by unfold xat; rw [if_neg (by omega), if_pos (by omega)]
  exact ⟨show (xat _).1 = 1 by rw [e], show (xat _).2 = 7 by rw [e]⟩
def xOw (σ : FS) (P : Pl) (s : St) (j k : Nat) : Prop := ∀ q p, q < k → p < nP P → fA σ (1000 + q) p = nI (ownS P s j q p)
theorem xq_rest {ν : XN} {Z : Wd} {d : Nat} {n : Int32} {Q : Int32 → XN → Prop} (hd : DP ≤ d) (h : xAll ν Z) (hQ : ∀ ν', xAll ν' Z → Q (opRest Z n) ν') : xw_X0_rest (VTA d).1 (VTA d).2 n ν Q := by
  obtain ⟨b, hb, -⟩ := h.pb
  have hnp := h.1.np
  have h128 := p2_le hnp.1
  obtain ⟨ka1, ka2, ka3⟩ := xk_a (o := 11) (by decide) (by decide)
  obtain ⟨kh1, kh2, kh3⟩ := xk_h (o := 11) (by decide) (by decide)
  unfold xw_X0_rest
  unfold opRest at hQ
  refine xl_isAhead (lo := 1) (hi := 20) (s := wS Z) hb h.2.1.2.1.1.2.1 h.1.2.1.1 (by decide) (by decide) (fun j j1 j2 j3 j4 j5 j6 => ⟨fun _ => ?_, fun z => absurd z (by decide)⟩) (fun j1 => ⟨fun z => absurd rfl z, fun _ => ?_⟩)
  · subst j5
    simp only [j1] at hQ
    have hP : plOK (wP Z) := h.okc j2
    unfold xw_X0_rest_15
    intro X hX
    have low : ∀ q p, p < nP (wP Z) → ownS (wP Z) (wS Z) j q p ≤ 99 := fun q p hp => ownS_le hP h.1.2.1 (by omega) hp
    have fin : ∀ ν1, xAll ν1 Z → xOw ν1.1 (wP Z) (wS Z) j (2 ^ nP (wP Z)) → xw_X0_rest_83 (VTA d).1 (VTA d).2 (oN none) (nI 0) ν1 Q := by
      intro ν1 hA1 hO
      obtain ⟨b1, hb1, -⟩ := hA1.pb
      have hfx := hA1.2.1.2.2.2.2.2.2.2.2
      unfold xw_X0_rest_83
      intro Y hY
      have key : ∀ m k (b' : Option Nat), 2 ^ nP (wP Z) - k = m → k ≤ 2 ^ nP (wP Z) → (∀ r, b' = some r → r < 128) → ((List.range (2 ^ nP (wP Z))).drop k).foldl (bestS (rsOK (wP Z) (wS Z) j)) b' = bestL (rsOK (wP Z) (wS Z) j) (2 ^ nP (wP Z)) → Y (oN b') (nI k) ν1 := by
        intro m
        induction m with
        | zero =>
          intro k b' hm hk hb' he
          refine hY _ _ _ (xl_people hb1 ?_)
          rw [shl1 (by omega), nI_leI (by omega) (by omega)]
          refine ⟨fun _ => ?_, fun z => absurd (by omega) z⟩
          rw [rng_end (by omega)] at he
          have he : b' = bestL (rsOK (wP Z) (wS Z) j) (2 ^ nP (wP Z)) := he
          have h9 := hQ ν1 hA1
          rw [← he] at h9
          cases b' <;> exact h9
        | succ m ih =>
          intro k b' hm hk hb' he
          rw [rng_at (by omega), List.foldl_cons] at he
          have next : ∀ b'', b'' = bestS (rsOK (wP Z) (wS Z) j) b' k → xw_X0_rest_111 (VTA d).1 (VTA d).2 Y (oN b'') (nI k) ν1 Q := by
            intro b'' hb3
            unfold xw_X0_rest_111
            rw [nI_1]
            exact ih (k + 1) b'' (by omega) (by omega) (by rw [hb3]; exact bestS_lt hb' (by omega)) (by rw [hb3]; exact he)
          refine hY _ _ _ (xl_people hb1 ?_)
          rw [shl1 (by omega), nI_leI (by omega) (by omega)]
          refine ⟨fun z => by omega, fun _ => xl_isFewer (by omega) hb' ?_⟩
          by_cases hf : fwr b' k = true
          · rw [if_pos hf]
            refine ⟨fun q => absurd q (by decide), fun _ => ?_⟩
            unfold xw_X0_isRest xw_X0_isRest_2
            intro V hV
            have inner : ∀ m2 p, nP (wP Z) - p = m2 → p ≤ nP (wP Z) → (∀ p', p' < p → ownS (wP Z) (wS Z) j (k ^^^ 2 ^ p') p' ≤ ownS (wP Z) (wS Z) j k p') → V (nI k) (nI p) ν1 := by
              intro m2
              induction m2 with
              | zero =>
                intro p hm2 hp hall
                refine hV _ _ _ (xl_people hb1 ⟨fun _ => ⟨fun q => absurd q (by decide), fun _ => next (some k) ?_⟩, fun z => absurd ((nI_leI (by omega) (by omega)).mpr (by omega)) z⟩)
                unfold bestS
                rw [if_pos]
                rw [hf, Bool.true_and]
                unfold rsOK
                rw [List.all_eq_true]
                intro p' hp'
                rw [decide_eq_true_iff]
                exact hall p' (by have := List.mem_range.mp hp'; omega)
              | succ m2 ih2 =>
                intro p hm2 hp hall
                have hpp : p < nP (wP Z) := by omega
                have hx : k ^^^ 2 ^ p < 2 ^ nP (wP Z) := xor_lt (by omega) hpp
                have ex : nI k ^^^ ((1 : Int32) <<< (nI p &&& 31)) = nI (k ^^^ 2 ^ p) := by rw [shl1 (by omega), nI_xor]
                have l1 := low (k ^^^ 2 ^ p) p hpp
                have l2 := low k p hpp
                obtain ⟨o1, o2⟩ := xat_h (q := k ^^^ 2 ^ p) (by omega)
                obtain ⟨o3, o4⟩ := xat_h (q := k) (by omega)
                refine hV _ _ _ (xl_people hb1 ⟨fun z => absurd ((nI_leI (by omega) (by omega)).mp z) (by omega), fun _ => ?_⟩)
                rw [ex, nI_clamp (show k ^^^ 2 ^ p < 2 ^ 31 by omega), nI_clamp (show k < 2 ^ 31 by omega), nI_clamp (show p < 2 ^ 31 by omega), hfx.2.1 _ (by omega), hfx.2.1 _ (by omega), o2, o4, hO _ p hx hpp, hO k p (by omega) hpp, nI_leI (by omega) (by omega)]
                refine ⟨vp_in_nI (by omega) (by decide), o1, vp_in_nI (by omega) (by decide), vp_in_nI (by omega) (by decide), o3, vp_in_nI (by omega) (by decide), fun z => ?_, fun z => ⟨fun _ => next b' ?_, fun q => absurd rfl q⟩⟩
                · rw [nI_1]
                  refine ih2 (p + 1) (by omega) (by omega) (fun p' hp' => ?_)
                  by_cases w : p' = p
                  · rw [w]; exact z
                  · exact hall p' (by omega)
                · unfold bestS
                  rw [if_neg]
                  rw [Bool.and_eq_true]
                  intro q
                  unfold rsOK at q
                  have := List.all_eq_true.mp q.2 p (List.mem_range.mpr hpp)
                  rw [decide_eq_true_iff] at this
                  exact z this
            exact inner _ 0 rfl (by omega) (fun p' hp' => by omega)
          · rw [if_neg hf]
            refine ⟨fun _ => next b' ?_, fun q => absurd rfl q⟩
            unfold bestS
            rw [if_neg (by rw [Bool.and_eq_true]; exact fun q => hf q.1)]
      exact key _ 0 none rfl (Nat.zero_le _) (fun r hr => by cases hr) rfl
    have fill : ∀ m k (ν1 : XN), 2 ^ nP (wP Z) - k = m → k ≤ 2 ^ nP (wP Z) → xAll ν1 Z → xOw ν1.1 (wP Z) (wS Z) j k → X (nI j) (nI k) ν1 := by
      intro m
      induction m with
      | zero =>
        intro k ν1 hm hk hA1 hO
        obtain ⟨b1, hb1, -⟩ := hA1.pb
        refine hX _ _ _ (xl_people hb1 ?_)
        rw [shl1 (by omega), nI_leI (by omega) (by omega)]
        refine ⟨fun _ => fin ν1 hA1 (fun q p hq hp => hO q p (by omega) hp), fun z => absurd (by omega) z⟩
      | succ m ih =>
        intro k ν1 hm hk hA1 hO
        obtain ⟨b1, hb1, -⟩ := hA1.pb
        refine hX _ _ _ (xl_people hb1 ?_)
        rw [shl1 (by omega), nI_leI (by omega) (by omega)]
        refine ⟨fun z => by omega, fun _ => ?_⟩
        refine xl_silently hd hA1 hP (by omega) (by omega) (fun ν2 hA2 g2 e2 hs2 => ?_)
        unfold xw_X0_rest_34
        intro Y hY
        have hO2 : xOw ν2.1 (wP Z) (wS Z) j k := fun q p hq hp => by rw [g2.2.1 _ (by omega)]; exact hO q p hq hp
        obtain ⟨o3, o4⟩ := xat_h (q := k) (by omega)
        have inner : ∀ m2 p (ν3 : XN), nP (wP Z) - p = m2 → p ≤ nP (wP Z) → XA (fun x => x = 1000 + k) ν2.1 ν3.1 → ν3.2 = ν2.2 → (∀ p', p' < p → fA ν3.1 (1000 + k) p' = nI (ownS (wP Z) (wS Z) j k p')) → Y (nI j) (nI k) (nI p) ν3 := by
          intro m2
          induction m2 with
          | zero =>
            intro p ν3 hm2 hp g3 e3 hall
            have hA3 := hA2.xa g3 e3 (by omega) (fun z => by simp only [List.mem_cons, List.not_mem_nil, or_false] at z; omega)
            obtain ⟨b3, hb3, -⟩ := hA3.pb
            refine hY _ _ _ _ (xl_people hb3 ⟨fun _ => ?_, fun z => absurd ((nI_leI (by omega) (by omega)).mpr (by omega)) z⟩)
            rw [nI_1]
            refine ih (k + 1) ν3 (by omega) (by omega) hA3 (fun q p' hq hp' => ?_)
            by_cases w : q = k
            · subst w; exact hall p' (by omega)
            · rw [g3.2.2.1 _ (by omega)]; exact hO2 q p' (by omega) hp'
          | succ m2 ih2 =>
            intro p ν3 hm2 hp g3 e3 hall
            have hA3 := hA2.xa g3 e3 (by omega) (fun z => by simp only [List.mem_cons, List.not_mem_nil, or_false] at z; omega)
            obtain ⟨b3, hb3, -⟩ := hA3.pb
            have hpp : p < nP (wP Z) := by omega
            have hfx := hA3.2.1.2.2.2.2.2.2.2.2
            obtain ⟨c1, -, -⟩ := hs2.1.2.2.1 p hpp
            have hcl := isC_lt hP c1
            have va : fA ν3.1 (aK 11) p = nI (zA (zDs (wP Z) k j (wS Z)) p) := by rw [g3.2.2.1 _ (show ¬ aK 11 = 1000 + k by unfold aK; omega)]; exact (hs2.2.2.2.2.1 p hpp).1
            have vh : fA ν3.1 (hK 11) (zA (zDs (wP Z) k j (wS Z)) p) = nI (ownS (wP Z) (wS Z) j k p) := by rw [g3.2.2.1 _ (show ¬ hK 11 = 1000 + k by unfold hK; omega)]; exact hs2.2.2.2.1 _ c1
            refine hY _ _ _ _ (xl_people hb3 ⟨fun z => absurd ((nI_leI (by omega) (by omega)).mp z) (by omega), fun _ => ?_⟩)
            rw [ka1, ka3, kh1, kh3, nI_clamp (show k < 2 ^ 31 by omega), nI_clamp (show p < 2 ^ 31 by omega), hfx.2.1 _ (by omega), o4, va, nI_clamp (by omega), vh]
            refine ⟨vp_in_nI (by omega) (by decide), ka2, vp_in_nI (by omega) (by decide), kh2, vp_in_nI (by omega) (by decide), o3, vp_in_nI (by omega) (by decide), ?_⟩
            intro ν4 e4
            subst e4
            rw [nI_1]
            refine ih2 (p + 1) _ (by omega) (by omega) (g3.trans (XA.sA _ _ _ rfl)) e3 (fun p' hp' => ?_)
            show fA (sA ν3.1 (1000 + k) p _) (1000 + k) p' = _
            rw [fA_sA]
            by_cases w : p' = p
            · rw [if_pos ⟨rfl, w⟩, w]
            · rw [if_neg (fun z => w z.2)]; exact hall p' (by omega)
        exact inner _ 0 ν2 rfl (by omega) (XA.refl _ _) rfl (fun p' hp' => by omega)
    exact fill _ 0 ν rfl (Nat.zero_le _) h (fun q p hq => by omega)
  · simp only [j1] at hQ; exact hQ ν h
