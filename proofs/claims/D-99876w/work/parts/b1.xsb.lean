/-! THE SYSTEM: builders, chains -/
/-- a builder that may grow -/
def BC (ρ : RS) (lb : Nat) (w : List Nat) (c : Nat) : Prop := rk ρ lb = 17 ∧ rI ρ lb 1 = nI 0 ∧ rI ρ lb 3 = nI w.length ∧ (∃ va, rO ρ lb 0 = some va ∧ rk ρ va = 102 ∧ rn ρ va = c ∧ ∀ (i : Nat) x, w[i]? = some x → rI ρ va i = nI x) ∧ w.length ≤ c ∧ 16 ≤ c ∧ c ≤ 2 * w.length + 16 ∧ w.length < 20000 ∧ ∀ x ∈ w, x < 128
theorem BC.rep {ρ : RS} {lb c : Nat} {w : List Nat} (h : BC ρ lb w c) : BRep ρ lb w := by
  obtain ⟨h1, h2, h3, ⟨va, h4, h5, h6, h7⟩, h8, h9, h10, h11, h12⟩ := h
  exact ⟨rcO h1 (by decide), h2, h3, ⟨va, h4, rcO h5 (by decide), by omega, by omega, h7⟩, h12⟩
def BSt (ρ : RS) (lb a : Nat) : Prop := a = lb ∨ rO ρ lb 0 = some a
def grB (c m : Nat) : Nat := if m = c then 2 * c + 2 else c
theorem grB_ok {c m : Nat} (h1 : m ≤ c) (h2 : 16 ≤ c) (h3 : c ≤ 2 * m + 16) : m + 1 ≤ grB c m ∧ 16 ≤ grB c m ∧ grB c m ≤ 2 * (m + 1) + 16 ∧ c ≤ grB c m ∧ (m = c → grB c m ≤ 2 * (grB c m - c)) ∧ 2 * grB c m ≤ 4 * (m + 1) + 40 := by
  unfold grB
  split <;> omega
theorem fits_byte : ∀ x, x < 128 → fits .byte (.int (nI x)) = true ∧ vp_nar .byte (Int8.toInt32 (Int32.toInt8 (nI x))) = nI x := by decide +kernel
theorem shl_0 {n : Nat} (h : n < 2 ^ 31) : nI n <<< (nI 0 &&& (31 : Int32)) = nI n := by
  rw [i_31, and31 (by decide), pk_shlN (nI 0) 0 (by decide) (by omega)]; simp
theorem xl_sbAdd {ν : XN} {lb x c k n : Nat} {w : List Nat} {Q : Nat → XN → Prop} (h : BC ν.2 lb w c) (hx : x < 128) (hm : w.length < 10000) (hk : 1 ≤ k) (hn : 2 * (grB c w.length - c) ≤ n)
    (hQ : ∀ ν', ν'.1 = ν.1 → BC ν'.2 lb (w ++ [x]) (grB c w.length) → Chg (BSt ν.2 lb) ν.2 ν'.2 → (∀ a, BSt ν'.2 lb a → BSt ν.2 lb a ∨ rk ν.2 a = 0) → Q lb ν') : xw_J15_append lb (nI x) ν k n Q := by
  obtain ⟨h1, h2, h3, ⟨va, h4, h5, h6, h7⟩, h8, h9, h10, h11, h12⟩ := h
  have r1 : rc ν.2 lb = 17 := rcO h1 (by decide)
  obtain ⟨g1, g2, g3, g4, g5, g6⟩ := grB_ok h8 h9 h10
  unfold xw_J15_append xw_J14_append
  refine ⟨r1, k, n, 0, 0, by omega, by omega, r1, r1, k, n, 0, 0, by omega, by omega, ?_⟩
  rw [h3, nI_1]
  -- the end
  have fin : ∀ (ν1 : XN) (va1 : Nat), ν1.1 = ν.1 → rk ν1.2 lb = 17 → rI ν1.2 lb 1 = nI 0 → rI ν1.2 lb 3 = nI w.length → rO ν1.2 lb 0 = some va1 → rk ν1.2 va1 = 102 → rn ν1.2 va1 = grB c w.length → (∀ (i : Nat) y, w[i]? = some y → rI ν1.2 va1 i = nI y) → Chg (BSt ν.2 lb) ν.2 ν1.2 → (va1 = va ∨ rk ν.2 va1 = 0) → (rc ν1.2 lb = 17 ∧ (xw_J14_isLatin1 lb ν1 (fun r11 ν10 => ((r11 = 0 → xw_J14_append_45 lb (nI x) ν10 0 0 (fun r2 ν1 => Q lb ν1)) ∧ (¬ r11 = 0 → (xw_J9_canEncode (nI x) ν10 (fun r14 ν13 => ((r14 = 0 → xw_J14_append_45 lb (nI x) ν13 0 0 (fun r2 ν1 => Q lb ν1)) ∧ (¬ r14 = 0 → (rc ν13.2 lb = 17 ∧ (rc ν13.2 lb = 17 ∧ (rk ν13.2 lb = 17 ∧ (∀ ν17, ν17 = (ν13.1, tI ν13.2 lb 3 ((rI ν13.2 lb 3) + 1)) → (∃ b20, (rO ν13.2 lb 0) = some b20 ∧ (rk ν17.2 b20 = 102 ∧ (vp_in (rI ν13.2 lb 3) (rn ν17.2 b20) ∧ (∀ ν22, ν22 = (ν17.1, tI ν17.2 b20 (Int32.toNatClampNeg (rI ν13.2 lb 3)) (vp_nar .byte (Int8.toInt32 (Int32.toInt8 (nI x))))) → (fun r2 ν1 => Q lb ν1) lb ν22))))))))))))))))) := by
    intro ν1 va1 e1 a1 a2 a3 a4 a5 a6 a7 a8 a9
    have hne : va1 ≠ lb := fun z => by rw [z, a1] at a5; cases a5
    have q1 : rc ν1.2 lb = 17 := rcO a1 (by decide)
    refine ⟨q1, ?_⟩
    unfold xw_J14_isLatin1
    refine ⟨fun z => absurd z (by decide), fun _ => ⟨q1, fun z => absurd a2 z, fun _ => ⟨fun z => absurd z (by decide), fun _ => ?_⟩⟩⟩
    unfold xw_J9_canEncode
    rw [i_255, nI_ltI (by omega) (by omega)]
    refine ⟨fun z => by omega, fun _ => ⟨fun z => absurd z (by decide), fun _ => ⟨q1, q1, a1, ?_⟩⟩⟩
    intro ν2 e2
    subst e2
    rw [a3, nI_1, nI_clamp (by omega), (fits_byte x hx).2]
    refine ⟨va1, a4, a5, by show vp_in _ (rn ν1.2 va1); rw [a6]; exact vp_in_nI (by omega) (by omega), ?_⟩
    intro ν3 e3
    subst e3
    have hc2 : Chg (BSt ν.2 lb) ν.2 (tI (tI ν1.2 lb 3 (nI (w.length + 1))) va1 w.length (nI x)) := by
      refine (a8.trans (Chg.tI _ _ _ (Or.inl rfl))).trans2 (Chg.tI (S := fun a => a = va1) _ _ _ rfl) (fun a ha => ?_)
      rcases a9 with z | z
      · exact Or.inl (Or.inr (by rw [ha, z]; exact h4))
      · exact Or.inr (by rw [ha]; exact z)
    refine hQ _ e1 ⟨a1, ?_, ?_, ⟨va1, a4, a5, a6, fun i y hy => ?_⟩, by simp; omega, g2, by simp; omega, by simp; omega, fun y hy => ?_⟩ hc2 (fun a ha => ?_)
    · rw [rI_tI, if_neg (fun q => hne q.1.symm), rI_tI, if_neg (by omega)]; exact a2
    · rw [rI_tI, if_neg (fun q => hne q.1.symm), rI_tI, if_pos ⟨rfl, rfl⟩]; simp
    · rw [rI_tI]
      rcases Nat.lt_or_ge i w.length with v | v
      · rw [List.getElem?_append_left v] at hy
        rw [if_neg (by omega), rI_tI, if_neg (fun q => hne q.1)]; exact a7 i y hy
      · rw [List.getElem?_append_right v] at hy
        have hz : i = w.length := by
          have := (List.getElem?_eq_some_iff.mp hy).1
          simp at this; omega
        subst hz
        simp at hy
        rw [if_pos ⟨rfl, rfl⟩, hy]
    · rcases List.mem_append.mp hy with v | v
      · exact h12 y v
      · simp at v; omega
    · rcases ha with z | z
      · exact Or.inl (Or.inl z)
      · have z : rO ν1.2 lb 0 = some a := z
        rw [a4] at z
        cases z
        rcases a9 with v | v
        · exact Or.inl (Or.inr (by rw [v]; exact h4))
        · exact Or.inr v
  unfold xw_J14_ensureCapacityInternal
  have en : Int32.ofNat (rn ν.2 va) = nI c := by show nI (rn ν.2 va) = _; rw [h6]
  rw [h2]
  refine ⟨r1, va, h4, rcO h5 (by decide), r1, ?_⟩
  rw [en, shr_0 (by omega)]
  refine ⟨fun z => ?_, fun z => ?_⟩
  · refine fin ν va rfl h1 h2 h3 h4 h5 ?_ h7 (Chg.refl _ _) (Or.inl rfl)
    rw [h6]
    unfold grB
    rw [if_neg]
    intro q
    rw [pk_sub (by omega), i_0, nI_leI (by omega) (by omega)] at z
    omega
  · have hmc : w.length = c := by
      rcases Nat.lt_or_ge w.length c with q | q
      · exfalso
        apply z
        rcases Nat.lt_or_ge (w.length + 1) c with q2 | q2
        · exact Int32.le_of_lt (Int32.not_le.mp (nI_negsub q2 (by omega)))
        · rw [pk_sub q2, i_0, nI_leI (by omega) (by omega)]; omega
      · omega
    have hgr : 2 * c + 2 = grB c w.length := by unfold grB; rw [if_pos hmc]
    have g5' := g5 hmc
    refine ⟨r1, r1, ?_⟩
    unfold xw_J14_newCapacity
    rw [h2]
    refine ⟨r1, va, h4, rcO h5 (by decide), r1, r1, ?_⟩
    rw [en, shl_0 (by omega)]
    have e2 : (2 : Int32) <<< (nI 0 &&& 31) = nI 2 := by rw [i_2, shl_0 (by decide)]
    rw [pk_sub (by omega), e2, nI_add]
    refine xl_newLen (by omega) (by omega) ⟨fun _ => ⟨r1, ?_⟩, fun q => ?_⟩
    · have e3 : c + max (w.length + 1 - c) (c + 2) = grB c w.length := by omega
      rw [e3, h2, shr_0 (by omega)]
      refine ⟨r1, va, h4, k, n, 0, 0, by omega, by omega, ?_⟩
      rw [h2, shl_0 (by omega)]
      unfold xw_J13_copyOf_3
      rw [en, nI_eq (by omega) (by omega), i_0, nI_ltI (by omega) (by omega), nI_clamp (by omega)]
      refine ⟨rcO h5 (by decide), fun _ => ⟨by omega, by omega, 0, 0, by omega, by omega, fun q4 hq4 ν6 e6 => ?_⟩, fun q => by omega⟩
      subst e6
      have qlb : lb ≠ q4 := fun v => by rw [← v, h1] at hq4; cases hq4
      have qva : va ≠ q4 := fun v => by rw [← v, h5] at hq4; cases hq4
      have kva : rk (tN ν.2 q4 102 (grB c w.length)) va = 102 := by rw [rk_tN, if_neg qva]; exact h5
      have klb : rk (tN ν.2 q4 102 (grB c w.length)) lb = 17 := by rw [rk_tN, if_neg qlb]; exact h1
      have nva : rn (tN ν.2 q4 102 (grB c w.length)) va = c := by rw [rn_tN, if_neg qva]; exact h6
      have kq : rk (tN ν.2 q4 102 (grB c w.length)) q4 = 102 := by rw [rk_tN, if_pos rfl]
      have nq : rn (tN ν.2 q4 102 (grB c w.length)) q4 = grB c w.length := by rw [rn_tN, if_pos rfl]
      have iva : rI (tN ν.2 q4 102 (grB c w.length)) va = rI ν.2 va := by rw [rI_tN, if_neg qva]
      have ilb : rI (tN ν.2 q4 102 (grB c w.length)) lb = rI ν.2 lb := by rw [rI_tN, if_neg qlb]
      have c7 : Chg (BSt ν.2 lb) ν.2 (tN ν.2 q4 102 (grB c w.length)) := Chg.tN _ _ _ hq4
      generalize hρ7 : tN ν.2 q4 102 (grB c w.length) = ρ7 at *
      have en7 : Int32.ofNat (rn ρ7 va) = nI c := by show nI (rn ρ7 va) = _; rw [nva]
      refine ⟨rcO kva (by decide), ?_⟩
      show xw_J12_min (Int32.ofNat (rn ρ7 va)) _ _ _
      rw [en7]
      unfold xw_J12_min
      rw [nI_ltI (by omega) (by omega)]
      refine ⟨fun v => by omega, fun _ => ?_⟩
      simp only []
      rw [nI_clamp (show 0 < 2 ^ 31 by decide), nI_clamp (show c < 2 ^ 31 by omega), nI_ltI (by omega) (by omega)]
      refine ⟨rcO kva (by decide), kq, by omega, by rw [nva]; omega, by rw [nq]; omega, fun i hi => ?_, ?_⟩
      · have hx := List.getElem?_eq_getElem (show i < w.length by omega)
        rw [Nat.zero_add]
        show fits .byte (.int (rI ρ7 va i)) = true
        rw [iva, h7 i _ hx]
        exact (fits_byte _ (h12 _ (List.mem_of_getElem? hx))).1
      · intro ν15 e15
        subst e15
        refine ⟨klb, ?_⟩
        intro ν21 e21
        subst e21
        refine fin _ q4 rfl klb ?_ ?_ (by rw [rO_tO, if_pos ⟨rfl, rfl⟩]) kq nq (fun i y hy => ?_) ?_ (Or.inr hq4)
        · show rI (tIs ρ7 q4 _) lb 1 = _
          rw [rI_tIs, if_neg qlb, ilb]; exact h2
        · show rI (tIs ρ7 q4 _) lb 3 = _
          rw [rI_tIs, if_neg qlb, ilb]; exact h3
        · have hj := (List.getElem?_eq_some_iff.mp hy).1
          show rI (tIs ρ7 q4 _) q4 i = _
          rw [rI_tIs, if_pos rfl, va_cpy0, if_pos (by omega)]
          show rI ρ7 va i = _
          rw [iva]; exact h7 i y hy
        · exact (c7.trans2 (Chg.tIs (S := fun a => a = q4) _ _ rfl) (fun a ha => Or.inr (by rw [ha]; exact hq4))).trans (Chg.tO _ _ _ (Or.inl rfl))
    · rw [i_2147483647, nI_eq (by omega) (by omega)] at q; omega
