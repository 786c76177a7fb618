/-! THE SYSTEM: chance, seed, tape, images -/
theorem xl_draw {ν : XN} {d : Int64} {m : Nat} {Q : Int32 → XN → Prop} (h22 : fL ν.1 0 22 = d) (hd : sdOK d) (hm : 0 < m) (hm2 : m < 1000) (hQ : Q (nI (drawn (drw d) m)) (sL ν.1 0 22 (drw d), ν.2)) : xw_X0_draw (nI m) ν Q := by
  unfold xw_X0_draw
  rw [h22]
  intro ν1 e
  subst e
  obtain ⟨v, ev, hv⟩ := drw_eq hd
  have hz : ¬ (nI m).toInt64 = 0 := by
    intro z
    have := congrArg Int64.toInt z
    rw [Int32.toInt_toInt64, nI_toInt (by omega)] at this
    have h0 : (0 : Int64).toInt = 0 := by decide
    omega
  refine ⟨hz, ?_⟩
  have e1 : fL (sL ν.1 0 22 (1103515245 * d + 12345 - (1103515245 * d + 12345) / 2147483648 * 2147483648)) 0 22 = lN v := by rw [fL_sL, if_pos ⟨rfl, rfl⟩]; exact ev
  rw [e1]
  have e2 : (64 : Int64) = lN 64 := rfl
  rw [e2, nI_l (by omega), pk_lDiv (by omega) (by decide) (by decide), pk_lRem (by omega) hm (by omega), lN_i]
  have e3 : drawn (drw d) m = v / 64 % m := by
    unfold drawn
    rw [ev, pk_lT (by omega)]
    simp
  rw [e3] at hQ
  exact hQ
theorem xAll.seed {ν : XN} {Z : Wd} {d : Int64} (h : xAll ν Z) : xAll (sL ν.1 0 22 d, ν.2) (putD Z d) := by
  obtain ⟨h1, h2, h3⟩ := h
  have g : X0 [] [] ν.1 (sL ν.1 0 22 d) := X0.sL _ _ _
  refine ⟨h1, g.co2 (fun a ha => by cases ha) h1.2.2.2.2.2.2.2.1 h2, ?_⟩
  obtain ⟨q1, q2, q3, q4, q5, q6, q7⟩ := h3
  exact ⟨q1, q2, q3, q4, q5, by rw [fL_sL, if_pos ⟨rfl, rfl⟩]; rfl, q7⟩
theorem xa_seed {ν : XN} {Z : Wd} {x : Int32} {Q : Int32 → XN → Prop} (h : xAll ν Z) (hQ : ∀ ν', xAll ν' (opSeed Z x).2 → Q (opSeed Z x).1 ν') : xw_X0_seed x ν Q := by
  unfold xw_X0_seed
  unfold opSeed at hQ
  refine ⟨fun c => ?_, fun c => ?_⟩
  · rw [if_neg (Int32.not_lt.mpr c)] at hQ
    intro ν1 e
    subst e
    exact hQ _ h.seed
  · rw [if_pos (Int32.not_le.mp c)] at hQ
    exact xl_no2 h (by decide) hQ
theorem xa_chance {ν : XN} {Z : Wd} {dd : Nat} {n : Int32} {Q : Int32 → XN → Prop} (hdd : DP ≤ dd) (h : xAll ν Z) (hsd : sdOK (wD Z)) (hQ : ∀ ν', xAll ν' (opChance Z n).2 → Q (opChance Z n).1 ν') : xw_X0_chance (VTA dd).1 (VTA dd).2 n ν Q := by
  obtain ⟨b, hb, -⟩ := h.pb
  unfold xw_X0_chance
  unfold opChance at hQ
  refine xl_isAhead (lo := 1) (hi := 100) (s := wS Z) hb h.2.1.2.1.1.2.1 h.1.2.1.1 (by decide) (by decide) (fun m j1 j2 j3 j4 j5 j6 => ⟨fun _ => ?_, fun z => absurd z (by decide)⟩) (fun j1 => ⟨fun z => absurd rfl z, fun _ => ?_⟩)
  · subst j5
    simp only [j1] at hQ
    have hP := h.okc j2
    have hW := hP.2.2.1
    have hnp := h.1.np
    refine xl_remembers h (fun ν0 hA0 => ?_)
    unfold xw_X0_chance_25
    intro X hX
    have key : ∀ j k a (d : Int64) (s : St) (ν1 : XN), m - k = j → k ≤ m → a ≤ k → sdOK d → zD s + j ≤ 999 → xAll ν1 (putD (putS (remb Z) s) d) → chS (wP Z) j a d s = chS (wP Z) m 0 (wD Z) (wS Z) → X (nI m) (nI a) (nI k) ν1 := by
      intro j
      induction j with
      | zero =>
        intro k a d s ν1 hj hk ha hd hz hA1 he
        refine hX _ _ _ _ ⟨fun _ => ?_, fun z => absurd ((nI_leI (by omega) (by omega)).mpr (by omega)) z⟩
        rw [← he] at hQ
        exact hQ ν1 hA1
      | succ j ih =>
        intro k a d s ν1 hj hk ha hd hz hA1 he
        have day : ∀ a' (d' : Int64) (s' : St) (ν2 : XN), a' ≤ k + 1 → sdOK d' → zD s' = zD s → xAll ν2 (putD (putS (remb Z) s') d') → chS (wP Z) j a' d' (zDy (wP Z) 0 s') = chS (wP Z) m 0 (wD Z) (wS Z) → xw_X0_chance_99 (VTA dd).1 (VTA dd).2 X (nI m) (nI a') (nI k) ν2 Q := by
          intro a' d' s' ν2 ha' hd' hz' hA2 he'
          obtain ⟨b2, hb2, -⟩ := hA2.pb
          unfold xw_X0_chance_99
          refine xl_passes (sil := 0) (s := s') (by decide) (by decide) (hA2.cx hdd hb2 hP) hA2.2.1.2.1.1 hA2.2.1.2.1.2 (by decide) (by omega) (fun ν3 g3 e3 hs3 => ?_)
          rw [nI_1]
          exact ih (k + 1) a' d' (zDy (wP Z) 0 s') ν3 (by omega) (by omega) (by omega) hd' (by rw [zDy_D]; omega) (hA2.now (s := zDy (wP Z) 0 s') g3 e3 hs3 (by rw [zDy_D]; omega)) he'
        refine hX _ _ _ _ ⟨fun z => absurd ((nI_leI (by omega) (by omega)).mp z) (by omega), fun _ => ?_⟩
        refine xl_draw (d := d) (m := 100) hA1.2.2.2.2.2.2.2.1 hd (by decide) (by decide) ?_
        have hA2 : xAll (sL ν1.1 0 22 (drw d), ν1.2) (putD (putS (remb Z) s) (drw d)) := by rw [← putD_putD _ d]; exact hA1.seed
        have hlt := drawn_lt (d := drw d) (m := 100) (by decide)
        simp only [chS] at he
        have rest : ¬ (drawn (drw d) 100 < plW (wP Z) ∧ 0 < nP (wP Z) ∧ 0 < nT (wP Z)) → xw_X0_chance_99 (VTA dd).1 (VTA dd).2 X (nI m) (nI a) (nI k) (sL ν1.1 0 22 (drw d), ν1.2) Q := by
          intro hc
          rw [if_neg hc] at he
          exact day a (drw d) s _ (by omega) (drw_ok hd) rfl hA2 he
        obtain ⟨b2, hb2, -⟩ := hA2.pb
        refine ⟨b2, hb2.1, hb2.2.1, ?_⟩
        rw [hb2.2.2.1.2.2]
        show (nI (plW (wP Z)) ≤ _ → _) ∧ (¬ nI (plW (wP Z)) ≤ _ → _)
        rw [nI_leI (by omega) (by omega)]
        refine ⟨fun z => rest (by omega), fun z => xl_people hb2 ?_⟩
        show (nI (nP (wP Z)) ≤ 0 → _) ∧ (¬ nI (nP (wP Z)) ≤ 0 → _)
        rw [i_0, nI_leI (by omega) (by omega)]
        refine ⟨fun z1 => rest (by omega), fun z1 => xl_topics hb2 ?_⟩
        show (nI (nT (wP Z)) ≤ nI 0 → _) ∧ (¬ nI (nT (wP Z)) ≤ nI 0 → _)
        rw [nI_leI (by omega) (by omega)]
        refine ⟨fun z2 => rest (by omega), fun z2 => xl_people hb2 ?_⟩
        rw [if_pos ⟨by omega, by omega, by omega⟩] at he
        refine xl_draw (d := drw d) (m := nP (wP Z)) (by rw [fL_sL, if_pos ⟨rfl, rfl⟩]) (drw_ok hd) (by omega) (by omega) ?_
        have hA3 : xAll (sL (sL ν1.1 0 22 (drw d)) 0 22 (drw (drw d)), ν1.2) (putD (putS (remb Z) s) (drw (drw d))) := by rw [← putD_putD _ (drw d)]; exact hA2.seed
        obtain ⟨b3, hb3, -⟩ := hA3.pb
        refine xl_topics hb3 ?_
        refine xl_draw (d := drw (drw d)) (m := nT (wP Z)) (by rw [fL_sL, if_pos ⟨rfl, rfl⟩]) (drw_ok (drw_ok hd)) (by omega) (by omega) ?_
        have hA4 : xAll (sL (sL (sL ν1.1 0 22 (drw d)) 0 22 (drw (drw d))) 0 22 (drw (drw (drw d))), ν1.2) (putD (putS (remb Z) s) (drw (drw (drw d)))) := by rw [← putD_putD _ (drw (drw d))]; exact hA3.seed
        obtain ⟨b4, hb4, -⟩ := hA4.pb
        have hpp := drawn_lt (d := drw (drw d)) (m := nP (wP Z)) (by omega)
        have htt := drawn_lt (d := drw (drw (drw d))) (m := nT (wP Z)) (by omega)
        refine xl_asked (s := s) (sil := 0) (by decide) (by decide) (hA4.cx hdd hb4 hP) hA4.2.1.2.1.1 hA4.2.1.2.1.2 (by decide) hpp htt (fun ν5 g5 e5 hs5 => ?_)
        have hw3 := zWo_lt (wP Z) 0 s (drawn (drw (drw d)) (nP (wP Z))) (drawn (drw (drw (drw d))) (nT (wP Z)))
        have hA5 : xAll ν5 (putD (putS (remb Z) (zAs (wP Z) 0 s (drawn (drw (drw d)) (nP (wP Z))) (drawn (drw (drw (drw d))) (nT (wP Z))))) (drw (drw (drw d)))) := by
          rw [← putS_putD _ s]
          exact hA4.now (s := zAs (wP Z) 0 s (drawn (drw (drw d)) (nP (wP Z))) (drawn (drw (drw (drw d))) (nT (wP Z)))) g5 e5 hs5 (by rw [zAs_D]; omega)
        unfold xw_X0_chance_97
        show (¬ nI (zWo (wP Z) 0 s (drawn (drw (drw d)) (nP (wP Z))) (drawn (drw (drw (drw d))) (nT (wP Z)))) = 2 → _) ∧ (nI (zWo (wP Z) 0 s (drawn (drw (drw d)) (nP (wP Z))) (drawn (drw (drw (drw d))) (nT (wP Z)))) = 2 → _)
        rw [i_2, nI_eq (by omega) (by omega)]
        refine ⟨fun z3 => ?_, fun z3 => ?_⟩
        · rw [if_neg z3] at he
          rw [nI_add, Nat.add_zero]
          exact day a _ _ ν5 (by omega) (drw_ok (drw_ok (drw_ok hd))) (zAs_D _ _ _ _ _) hA5 he
        · rw [if_pos z3] at he
          rw [i_1, nI_add]
          exact day (a + 1) _ _ ν5 (by omega) (drw_ok (drw_ok (drw_ok hd))) (zAs_D _ _ _ _ _) hA5 he
    have e0 : xAll ν0 (putD (putS (remb Z) (wS Z)) (wD Z)) := hA0
    exact key m 0 0 (wD Z) (wS Z) ν0 rfl (by omega) (by omega) hsd j6 e0 rfl
  · simp only [j1] at hQ
    exact xl_refuses h (by decide) hQ
theorem xAll.tape {ν ν' : XN} {Z : Wd} {t : Nat → Nat} {n : Nat} (h : xAll ν Z) (g : X0 [2] [0] ν.1 ν'.1) (e : ν'.2 = ν.2) (eL : fL ν'.1 0 22 = fL ν.1 0 22) (hn : n ≤ 1600) (ht : ∀ i, t i < 256) (h1' : fI ν'.1 0 2 = nI n) (h0 : ∀ i, i < 1600 → tB (fA ν'.1 0 i) (t i)) : xAll ν' (putT Z t n) := by
  obtain ⟨h1, h2, h3⟩ := h
  refine ⟨?_, g.co e (by decide) h1.2.2.2.2.2.2.2.1 h2, ?_⟩
  · obtain ⟨g1, g2, g3, g4, g5, g6⟩ := h1
    exact ⟨g1, g2, g3, hn, ht, g6⟩
  · obtain ⟨q1, q2, q3, q4, q5, q6, q7⟩ := h3
    refine ⟨⟨h1', h0⟩, by rw [g.1 0 3 (Or.inr (by decide)), g.1 0 4 (Or.inr (by decide))]; exact q2, by rw [g.2.1 1 (by decide)]; exact q3, ⟨by rw [g.1 0 18 (Or.inr (by decide))]; exact q4.1, by rw [g.2.1 6 (by decide), g.2.1 7 (by decide), g.2.1 8 (by decide)]; exact q4.2⟩, by rw [g.1 0 21 (Or.inr (by decide))]; exact q5, by rw [eL]; exact q6, ⟨by rw [g.1 0 25 (Or.inr (by decide))]; exact q7.1, by rw [g.2.1 11 (by decide)]; exact q7.2⟩⟩
theorem xa_end {ν : XN} {Z : Wd} {n : Int32} {Q : Int32 → XN → Prop} (h : xAll ν Z) (hQ : ∀ ν', xAll ν' (opEnd Z n).2 → Q (opEnd Z n).1 ν') : xw_X0_end n ν Q := by
  have hT := h.1.2.2.2.1
  have h1 := h.2.2.1.1
  unfold xw_X0_end xw_X0_end_12
  unfold opEnd at hQ
  rw [h1]
  rcases ix_cases n (wTn Z + 1) with ⟨j, e1, e2, e3⟩ | ⟨e1, e2⟩
  · subst e3
    simp only [e1] at hQ
    rw [i_0, nI_ltI (by omega) (by omega), nI_leI (by omega) (by omega)]
    refine ⟨fun z => by omega, fun _ => ⟨fun _ => ?_, fun z => absurd (by omega) z⟩⟩
    intro ν1 e
    subst e
    exact hQ _ (h.tape (X0.sI _ _ (by decide)) rfl rfl (by omega) h.1.2.2.2.2.1 (by rw [fI_sI, if_pos ⟨rfl, rfl⟩]) h.2.2.1.2)
  · simp only [e1] at hQ
    have no := xl_no2 h (show 0 < 6 by decide) hQ
    refine ⟨fun _ => no, fun z => ⟨fun z2 => ?_, fun _ => no⟩⟩
    exfalso
    rw [Int32.lt_iff_toInt_lt] at z
    rw [Int32.le_iff_toInt_le, nI_toInt (by omega)] at z2
    have e0 : (0 : Int32).toInt = 0 := rfl
    omega
theorem sx8 (v : BitVec 8) : (v.signExtend 32).toNat % 256 = v.toNat := by
  apply Nat.eq_of_testBit_eq
  intro i
  rw [show 256 = 2 ^ 8 from rfl, Nat.testBit_mod_two_pow]
  have e1 : (v.signExtend 32).toNat.testBit i = (v.signExtend 32).getLsbD i := rfl
  have e2 : v.toNat.testBit i = v.getLsbD i := rfl
  rw [e1, e2]
  by_cases h : i < 8
  · rw [BitVec.getLsbD_signExtend]
    have h1 : i < 32 := by omega
    simp [h, h1]
  · rw [BitVec.getLsbD_of_ge v i (by omega)]
    simp [h]
theorem nar8 (x : Int32) : (vp_nar .byte (Int8.toInt32 (Int32.toInt8 x))) &&& nI 255 = x &&& nI 255 := by
  have e : vp_nar .byte (Int8.toInt32 (Int32.toInt8 x)) = Int8.toInt32 (Int32.toInt8 (Int8.toInt32 (Int32.toInt8 x))) := rfl
  have e2 : Int32.toInt8 (Int8.toInt32 (Int32.toInt8 x)) = Int32.toInt8 x := Int8.toInt8_toInt32 _
  rw [e, e2, pk_and _ 8 (by decide), pk_and _ 8 (by decide)]
  congr 1
  rw [Int8.toBitVec_toInt32, Int32.toBitVec_toInt8, show (2 : Nat) ^ 8 = 256 from rfl, sx8, BitVec.signExtend_eq_setWidth_of_le _ (by decide), BitVec.toNat_setWidth]
theorem i8and (v : Int32) : Int32.toInt8 (v &&& nI 255) = Int32.toInt8 v := by
  apply Int8.toBitVec.inj
  rw [Int32.toBitVec_toInt8, Int32.toBitVec_toInt8, Int32.toBitVec_and]
  rw [BitVec.signExtend_eq_setWidth_of_le _ (by decide), BitVec.signExtend_eq_setWidth_of_le _ (by decide)]
  apply BitVec.eq_of_getLsbD_eq
  intro i hi
  have e : (nI 255).toBitVec = BitVec.ofNat 32 255 := rfl
  rw [BitVec.getLsbD_setWidth, BitVec.getLsbD_setWidth, BitVec.getLsbD_and, e]
  have h8 : (BitVec.ofNat 32 255).getLsbD i = true := by
    have : ∀ j, j < 8 → (BitVec.ofNat 32 255).getLsbD j = true := by decide
    exact this i hi
  rw [h8, Bool.and_true]
theorem tB.and {v : Int32} {n : Nat} (h : tB v n) : v &&& nI 255 = nI n := by
  rw [h.1]
  unfold sb
  rw [nar8, pk_andN (by have := h.2; omega) 8 (by decide), Nat.mod_eq_of_lt h.2]
def fedI (Z : Wd) (a b c d e : Int32) (ν : XN) (k : Nat) (ν' : XN) : Prop := X0 [2] [0] ν.1 ν'.1 ∧ ν'.2 = ν.2 ∧ fL ν'.1 = fL ν.1 ∧ fI ν'.1 0 2 = nI (wTn Z + k) ∧ ∀ i, i < 1600 → tB (fA ν'.1 0 i) (if wTn Z ≤ i ∧ i < wTn Z + k then byS a b c d e (i - wTn Z) else wTp Z i)
theorem xl_put {ν ν1 : XN} {Z : Wd} {a b c d e y : Int32} {k : Nat} {Q : XN → Prop} (hk : k + 4 ≤ 20) (hT : wTn Z + 20 ≤ 1600) (h : fedI Z a b c d e ν k ν1) (hy : ∀ j, j < 4 → y.toBitVec.toNat / 2 ^ (8 * (3 - j)) % 256 = byS a b c d e (k + j)) (hQ : ∀ ν', fedI Z a b c d e ν (k + 4) ν' → Q ν') : xw_X0_put y ν1 Q := by
  unfold xw_X0_put xw_X0_put_3
  intro X hX
  have step : ∀ j (ν2 : XN), j < 4 → fedI Z a b c d e ν (k + j) ν2 → (∀ ν3, fedI Z a b c d e ν (k + j + 1) ν3 → X y (nI (8 * (3 - j)) + -8) ν3) → X y (nI (8 * (3 - j))) ν2 := by
    intro j ν2 hj h2 hn
    obtain ⟨g, e2, eL, f2, hb⟩ := h2
    refine hX _ _ _ ⟨fun z => ?_, fun _ => ?_⟩
    · rw [i_0, nI_ltI (by omega) (by omega)] at z; omega
    · intro ν3 e3
      subst e3
      rw [f2, nI_clamp (by omega)]
      refine ⟨vp_in_nI (by omega) (by decide), ?_⟩
      intro ν4 e4
      subst e4
      refine hn _ ⟨g.trans ((X0.sI _ _ (by decide)).trans (X0.sA _ _ _ (by decide))), e2, eL, ?_, fun i hi => ?_⟩
      · show fI (sI ν2.1 0 2 (nI (wTn Z + (k + j)) + 1)) 0 2 = _
        rw [fI_sI, if_pos ⟨rfl, rfl⟩, i_1, nI_add, Nat.add_assoc]
      · show tB (fA (sA (sI ν2.1 0 2 _) 0 (wTn Z + (k + j)) _) 0 i) _
        rw [fA_sA]
        by_cases w : i = wTn Z + (k + j)
        · subst w
          rw [if_pos ⟨rfl, rfl⟩, if_pos (by omega), show wTn Z + (k + j) - wTn Z = k + j by omega]
          refine ⟨?_, Nat.mod_lt _ (by decide)⟩
          unfold sb
          rw [← hy j hj, ← by_eq y (show 8 * (3 - j) ≤ 24 by omega), i8and, i_31]
        · rw [if_neg (fun q => w q.2), fA_sI]
          have hbi := hb i hi
          by_cases w2 : wTn Z ≤ i ∧ i < wTn Z + (k + j)
          · rw [if_pos w2] at hbi; rw [if_pos (by omega)]; exact hbi
          · rw [if_neg w2] at hbi; rw [if_neg (by omega)]; exact hbi
  refine step 0 ν1 (by decide) h (fun ν2 h2 => ?_)
  refine step 1 ν2 (by decide) h2 (fun ν3 h3 => ?_)
  refine step 2 ν3 (by decide) h3 (fun ν4 h4 => ?_)
  refine step 3 ν4 (by decide) h4 (fun ν5 h5 => ?_)
  refine hX _ _ _ ⟨fun _ => hQ ν5 h5, fun z => absurd (by decide) z⟩
theorem xa_feed {ν : XN} {Z : Wd} {a b c d e : Int32} {Q : Int32 → XN → Prop} (h : xAll ν Z) (hQ : ∀ ν', xAll ν' (opFeed Z a b c d e).2 → Q (opFeed Z a b c d e).1 ν') : xw_X0_feed a b c d e ν Q := by
  have hT := h.1.2.2.2.1
  have hT2 := h.1.2.2.2.2.1
  have h1 := h.2.2.1.1
  unfold xw_X0_feed
  unfold opFeed at hQ
  rw [h1, i_20, nI_add, i_1600, nI_leI (by omega) (by omega)]
  refine ⟨fun z => ?_, fun z => ?_⟩
  · rw [if_neg (by omega)] at hQ
    have h0 : fedI Z a b c d e ν 0 ν := ⟨X0.refl _ _ _, rfl, rfl, h1, fun i hi => by rw [if_neg (by omega)]; exact h.2.2.1.2 i hi⟩
    refine xl_put (k := 0) (by decide) z h0 (fun j hj => ?_) (fun ν1 h1 => ?_)
    · unfold byS; rw [if_pos (by omega), show (0 + j) % 4 = j by omega]
    refine xl_put (k := 4) (by decide) z h1 (fun j hj => ?_) (fun ν2 h2 => ?_)
    · unfold byS; rw [if_neg (by omega), if_pos (by omega), show (4 + j) % 4 = j by omega]
    refine xl_put (k := 8) (by decide) z h2 (fun j hj => ?_) (fun ν3 h3 => ?_)
    · unfold byS; rw [if_neg (by omega), if_neg (by omega), if_pos (by omega), show (8 + j) % 4 = j by omega]
    refine xl_put (k := 12) (by decide) z h3 (fun j hj => ?_) (fun ν4 h4 => ?_)
    · unfold byS; rw [if_neg (by omega), if_neg (by omega), if_neg (by omega), if_pos (by omega), show (12 + j) % 4 = j by omega]
    refine xl_put (k := 16) (by decide) z h4 (fun j hj => ?_) (fun ν5 h5 => ?_)
    · unfold byS; rw [if_neg (by omega), if_neg (by omega), if_neg (by omega), if_neg (by omega), show (16 + j) % 4 = j by omega]
    obtain ⟨g, e2, eL, f2, hb⟩ := h5
    rw [f2]
    exact hQ ν5 (h.tape g e2 (by rw [eL]) z (fun i => by
      show (if wTn Z ≤ i ∧ i < wTn Z + 20 then byS a b c d e (i - wTn Z) else wTp Z i) < 256
      split
      · exact Nat.mod_lt _ (by decide)
      · exact hT2 i) f2 hb)
  · rw [if_pos (by omega)] at hQ
    exact xl_refuses h (by decide) hQ
