/-! THE SYSTEM: an image comes -/
theorem cls_rank : ∀ C, C < 8 → ∀ R, R < 8 → ∀ c, c < 64 → c % 8 < C → c / 8 < R → (((List.range 64).take c).filter (fun c => decide (c % 8 < C ∧ c / 8 < R))).length = C * (c / 8) + c % 8 := by decide +kernel
theorem or256 {a b : Nat} (hb : b < 256) : 256 * a ||| b = 256 * a + b := (Nat.two_pow_add_eq_or_of_lt (i := 8) hb a).symm
def rkC (P : Pl) (k : Nat) : Nat := (((List.range 64).take k).filter (fun c => decide (c % 8 < plC P ∧ c / 8 < plR P))).length
theorem rkC_s {P : Pl} {k : Nat} (hk : k < 64) : rkC P (k + 1) = rkC P k + (if k % 8 < plC P ∧ k / 8 < plR P then 1 else 0) := by
  unfold rkC
  rw [cls_fil k hk, List.length_append]
  split <;> rfl
theorem rkC_at {P : Pl} (hP : plOK P) {c : Nat} (hc : isC P c) : rkC P c = plC P * (c / 8) + c % 8 := by
  have := isC_lt hP hc
  exact cls_rank _ (by have := hP.1; omega) _ (by have := hP.2.1; omega) c (by omega) hc.1 hc.2
theorem rkC_64 {P : Pl} (hP : plOK P) : rkC P 64 = plC P * plR P := by
  have : (cls P).length = plC P * plR P := by rw [cls_map hP]; simp
  exact this
/-- arrays and fields of the state tried, nothing else -/
theorem xl_personOn {ν : XN} {Z : Wd} {b p : Nat} {Q : Int32 → XN → Prop} (hb : xPb ν b (wP Z)) (hP : plOK (wP Z)) (ht : ∀ i, i < 1600 → tB (fA ν.1 0 i) (wTp Z i)) (hT2 : ∀ i, wTp Z i < 256) (hp : p < nP (wP Z)) (hat : ∀ o, o < p → fA ν.1 (aK 11) o = nI (zA (onS (wP Z) (wTp Z)) o)) (hpo : ∀ o, o < p → perOK (wP Z) (wTp Z) o = true)
    (hy : ∀ ν', perOK (wP Z) (wTp Z) p = true → XA (fun a => a = aK 11 ∨ a = tK' 11 ∨ a = kK 11) ν.1 ν'.1 → ν'.2 = ν.2 → (∀ o, o < p + 1 → (o < p → fA ν'.1 (aK 11) o = fA ν.1 (aK 11) o ∧ fA ν'.1 (tK' 11) o = fA ν.1 (tK' 11) o ∧ fA ν'.1 (kK 11) o = fA ν.1 (kK 11) o) ∧ (o = p → fA ν'.1 (aK 11) o = nI (zA (onS (wP Z) (wTp Z)) o) ∧ fA ν'.1 (tK' 11) o = nI (zT (onS (wP Z) (wTp Z)) o) ∧ fA ν'.1 (kK 11) o = nI (zK (onS (wP Z) (wTp Z)) o))) → Q (nI 1) ν')
    (hn : ∀ ν', ¬ perOK (wP Z) (wTp Z) p = true → XA (fun a => a = aK 11 ∨ a = tK' 11 ∨ a = kK 11) ν.1 ν'.1 → ν'.2 = ν.2 → Q (nI 0) ν') : xw_X0_personOn (nI p) (nI (onF (wP Z) + 4 * p)) ν Q := by
  have h7 := hP.2.2.2.2.1; have h5 := hP.2.2.2.1
  have hcr := cr_le hP
  have hf : onF (wP Z) ≤ 51 := by unfold onF; omega
  have hC := hP.1; have hR := hP.2.1
  obtain ⟨ka1, ka2, ka3⟩ := xk_a (o := 11) (by decide) (by decide)
  obtain ⟨kt1, kt2, kt3⟩ := xk_t (o := 11) (by decide) (by decide)
  obtain ⟨kk1, kk2, kk3⟩ := xk_k (o := 11) (by decide) (by decide)
  generalize hB : onF (wP Z) + 4 * p = B at *
  have b0 := hT2 B; have b1 := hT2 (B + 1); have b2 := hT2 (B + 2); have b3 := hT2 (B + 3)
  have h32 : 2 ^ nT (wP Z) ≤ 32 := Nat.le_trans (Nat.pow_le_pow_right (by decide) h5) (by decide)
  have pe : perOK (wP Z) (wTp Z) p = (decide (wTp Z B < plC (wP Z) ∧ wTp Z (B + 1) < plR (wP Z) ∧ wTp Z (B + 2) ≤ 9 ∧ wTp Z (B + 3) < 2 ^ nT (wP Z)) && (List.range p).all (fun o => decide (¬ (wTp Z (onF (wP Z) + 4 * o) = wTp Z B ∧ wTp Z (onF (wP Z) + 4 * o + 1) = wTp Z (B + 1))))) := by unfold perOK; rw [hB]
  unfold xw_X0_personOn
  rw [i_1, nI_add]
  refine xl_byteAt ht (by omega) (xl_byteAt ht (by omega) ?_)
  rw [i_8, pk_mul, nI_add]
  unfold xw_X0_personOn_20
  intro X hX
  have key : ∀ m o, p - o = m → o ≤ p → (∀ o', o' < o → ¬ (wTp Z (onF (wP Z) + 4 * o') = wTp Z B ∧ wTp Z (onF (wP Z) + 4 * o' + 1) = wTp Z (B + 1))) → X (nI p) (nI B) (nI (8 * wTp Z (B + 1) + wTp Z B)) (nI o) ν := by
    intro m
    induction m with
    | zero =>
      intro o hm ho hall
      refine hX _ _ _ _ _ ⟨fun _ => ?_, fun z => absurd ((nI_leI (by omega) (by omega)).mpr (by omega)) z⟩
      have hdup : (List.range p).all (fun o => decide (¬ (wTp Z (onF (wP Z) + 4 * o) = wTp Z B ∧ wTp Z (onF (wP Z) + 4 * o + 1) = wTp Z (B + 1)))) = true := by
        rw [List.all_eq_true]
        intro o' ho'
        rw [decide_eq_true_iff]
        exact hall o' (by have := List.mem_range.mp ho'; omega)
      rw [hdup, Bool.and_true] at pe
      have vin : vp_in (nI p) 7 := vp_in_nI (by omega) (by decide)
      rw [ka1, ka3, kt1, kt3, kk1, kk3, i_1, i_2, i_3, nI_add, nI_add, nI_add, nI_clamp (show p < 2 ^ 31 by omega)]
      refine ⟨ka2, vin, ?_⟩
      intro ν1 e1
      have g1 : XA (fun a => a = aK 11 ∨ a = tK' 11 ∨ a = kK 11) ν.1 ν1.1 := by rw [e1]; exact XA.sA _ _ _ (Or.inl rfl)
      have ex1 : ν1.2 = ν.2 := by rw [e1]
      have t1 : ∀ i, i < 1600 → tB (fA ν1.1 0 i) (wTp Z i) := by rw [g1.2.2.1 0 (by unfold aK tK' kK; omega)]; exact ht
      refine xl_byteAt t1 (by omega) ⟨kt2, vin, ?_⟩
      intro ν2 e2
      have g2 : XA (fun a => a = aK 11 ∨ a = tK' 11 ∨ a = kK 11) ν1.1 ν2.1 := by rw [e2]; exact XA.sA _ _ _ (Or.inr (Or.inl rfl))
      have ex2 : ν2.2 = ν1.2 := by rw [e2]
      have t2 : ∀ i, i < 1600 → tB (fA ν2.1 0 i) (wTp Z i) := by rw [g2.2.2.1 0 (by unfold aK tK' kK; omega)]; exact t1
      refine xl_byteAt t2 (by omega) ⟨kk2, vin, ?_⟩
      intro ν3 e3
      have g3 : XA (fun a => a = aK 11 ∨ a = tK' 11 ∨ a = kK 11) ν2.1 ν3.1 := by rw [e3]; exact XA.sA _ _ _ (Or.inr (Or.inr rfl))
      have ex3 : ν3.2 = ν2.2 := by rw [e3]
      have t3 : ∀ i, i < 1600 → tB (fA ν3.1 0 i) (wTp Z i) := by rw [g3.2.2.1 0 (by unfold aK tK' kK; omega)]; exact t2
      have g := (g1.trans g2).trans g3
      have ex : ν3.2 = ν.2 := ex3.trans (ex2.trans ex1)
      have hb3 : xPb ν3 b (wP Z) := hb.e g.2.2.2.2.2 ex
      have no : ¬ (wTp Z B < plC (wP Z) ∧ wTp Z (B + 1) < plR (wP Z) ∧ wTp Z (B + 2) ≤ 9 ∧ wTp Z (B + 3) < 2 ^ nT (wP Z)) → Q (nI 0) ν3 := fun w => hn ν3 (by rw [pe, decide_eq_false w]; decide) g ex
      have yes : (wTp Z B < plC (wP Z) ∧ wTp Z (B + 1) < plR (wP Z) ∧ wTp Z (B + 2) ≤ 9 ∧ wTp Z (B + 3) < 2 ^ nT (wP Z)) → Q (nI 1) ν3 := fun w => by
        refine hy ν3 (by rw [pe, decide_eq_true w]) g ex (fun o' ho' => ?_)
        subst e3
        subst e2
        subst e1
        have n1 := (@kne 11).2.2.2.1
        have n2 := (@kne 11).2.2.2.2.1
        have n3 := (@kne 11).2.2.2.2.2
        constructor
        · intro hlt
          have hne : o' ≠ p := by omega
          show fA (sA (sA (sA _ _ _ _) _ _ _) _ _ _) _ _ = _ ∧ fA (sA (sA (sA _ _ _ _) _ _ _) _ _ _) _ _ = _ ∧ fA (sA (sA (sA _ _ _ _) _ _ _) _ _ _) _ _ = _
          simp [fA_sA, hne]
        · intro heq
          subst heq
          show fA (sA (sA (sA _ _ _ _) _ _ _) _ _ _) _ _ = _ ∧ fA (sA (sA (sA _ _ _ _) _ _ _) _ _ _) _ _ = _ ∧ fA (sA (sA (sA _ _ _ _) _ _ _) _ _ _) _ _ = _
          rw [← hB]
          simp [fA_sA, n1, n2, n3, n1.symm, n2.symm, n3.symm, onS, zA, zT, zK]
      refine xl_byteAt t3 (by omega) (xl_byteAt t3 (by omega) ?_)
      refine xl_isIn hb3 (fun c r c1 r1 c2 r2 c3 r3 => ⟨fun q => absurd q (by decide), fun _ => ?_⟩) (fun hx => ⟨fun _ => no (fun w => ?_), fun q => absurd rfl q⟩)
      · rw [nI_eq (by omega) (by omega)] at c3 r3
        refine xl_byteAt t3 (by omega) ?_
        rw [i_9, nI_ltI (by omega) (by omega)]
        refine ⟨fun z => no (by omega), fun z => xl_byteAt t3 (by omega) (xl_topics hb3 ?_)⟩
        have es : nI 1 <<< (nI (nT (wP Z)) &&& (31 : Int32)) = nI (2 ^ nT (wP Z)) := by rw [i_31, nI_shl (by omega)]
        rw [es, nI_leI (by omega) (by omega)]
        exact ⟨fun z2 => no (by omega), fun z2 => yes (by omega)⟩
      · rcases hx with q | q
        · rw [ix_lt w.1 (by omega)] at q; cases q
        · rw [ix_lt w.2.1 (by omega)] at q; cases q
    | succ m ih =>
      intro o hm ho hall
      have hov := hpo o (by omega)
      unfold perOK at hov
      rw [Bool.and_eq_true, decide_eq_true_iff] at hov
      have d0 := hT2 (onF (wP Z) + 4 * o); have d1 := hT2 (onF (wP Z) + 4 * o + 1)
      have va : fA ν.1 (aK 11) o = nI (8 * wTp Z (onF (wP Z) + 4 * o + 1) + wTp Z (onF (wP Z) + 4 * o)) := hat o (by omega)
      refine hX _ _ _ _ _ ⟨fun z => absurd ((nI_leI (by omega) (by omega)).mp z) (by omega), fun _ => ?_⟩
      rw [ka1, ka3, nI_clamp (show o < 2 ^ 31 by omega), va, nI_eq (by omega) (by omega)]
      refine ⟨ka2, vp_in_nI (by omega) (by decide), fun z => ?_, fun z => hn ν (fun w => ?_) (XA.refl _ _) rfl⟩
      · rw [nI_1]
        refine ih (o + 1) (by omega) (by omega) (fun o' ho' => ?_)
        by_cases w : o' = o
        · subst w; intro q; apply z; omega
        · exact hall o' (by omega)
      · rw [pe, Bool.and_eq_true, decide_eq_true_iff] at w
        have h1 := List.all_eq_true.mp w.2 o (List.mem_range.mpr (by omega))
        rw [decide_eq_true_iff] at h1
        apply h1
        omega
  exact key p 0 rfl (by omega) (fun o' ho' => by omega)
theorem xl_comesOn {ν : XN} {Z : Wd} {Q : Int32 → XN → Prop} (h : xAll ν (putT Z (wTp Z) 0)) (hT : wTn Z ≤ 1600) (hy : ∀ ν', onOK (wP Z) (wTp Z) (wTn Z) → plOK (wP Z) → XFr 11 ν.1 ν'.1 → ν'.2 = ν.2 → xSt ν'.1 11 (wP Z) (onS (wP Z) (wTp Z)) → Q (nI 1) ν') (hn : ∀ ν', ¬ onOK (wP Z) (wTp Z) (wTn Z) → XFr 11 ν.1 ν'.1 → ν'.2 = ν.2 → xRk ν'.1 11 → Q (nI 0) ν') : xw_X0_comesOn (nI (wTn Z)) ν Q := by
  obtain ⟨b, hb, -⟩ := h.pb
  have hb : xPb ν b (wP Z) := hb
  have hT2 : ∀ i, wTp Z i < 256 := h.1.2.2.2.2.1
  have ht : ∀ i, i < 1600 → tB (fA ν.1 0 i) (wTp Z i) := h.2.2.1.2
  have hnp := h.1.np
  have hnp : nP (wP Z) ≤ 7 ∧ nT (wP Z) ≤ 5 ∧ plC (wP Z) ≤ 7 ∧ plR (wP Z) ≤ 7 ∧ (plL (wP Z)).length ≤ 12 := hnp
  have hcr : plC (wP Z) * plR (wP Z) ≤ 49 := Nat.mul_le_mul hnp.2.2.1 hnp.2.2.2.1
  have hrk := h.2.1.2.2.1 11 (by decide) (by decide)
  have no : ¬ onOK (wP Z) (wTp Z) (wTn Z) → Q (nI 0) ν := fun w => hn ν w (XFr.refl _ _) rfl hrk
  have b0 := hT2 0; have b1 := hT2 1
  unfold xw_X0_comesOn
  refine ⟨b, hb.1, hb.2.1, b, hb.1, hb.2.1, ?_⟩
  refine xl_byteAt (k := 0) ht (by decide) (xl_byteAt (k := 1) ht (by decide) ?_)
  refine xl_isPlain hb ?_
  by_cases hC0 : 0 < plC (wP Z)
  · rw [if_pos hC0]
    have hP : plOK (wP Z) := by
      rcases h.1.1 with z | z
      · exact z
      · have z : wP Z = P0 := z
        rw [z, P0_facts.1] at hC0; omega
    refine ⟨fun q => absurd q (by decide), fun _ => xl_people hb ?_⟩
    rw [hb.2.2.1.1, hb.2.2.1.2.1, pk_mul, i_3, nI_add, i_4, pk_mul, nI_add, nI_eq (by omega) (by omega)]
    have hfe : 3 + plC (wP Z) * plR (wP Z) + 4 * nP (wP Z) = onF (wP Z) + 4 * nP (wP Z) + 1 := by unfold onF; omega
    rw [hfe]
    have hf : onF (wP Z) ≤ 51 := by unfold onF; omega
    refine ⟨fun z => no (fun w => z w.2.1), fun z => ?_⟩
    rw [i_1, pk_sub (by omega)]
    have hbn := hT2 (wTn Z - 1)
    refine xl_byteAt ht (by omega) ?_
    refine xl_check2 (l := tl (wTp Z) (wTn Z - 1)) xo0.1 (by rw [xo0.2.1]; omega) (by rw [xo0.2.1]; omega) (by unfold tl; simp) (fun c hc => ?_) (fun i c hi => ?_) ?_
    · unfold tl at hc
      obtain ⟨i, -, rfl⟩ := List.mem_map.mp hc
      exact hT2 i
    · obtain ⟨g1, g2⟩ := tl_at hi
      rw [g2]; exact (ht i (by omega)).and
    have hck := chk_lt (tl (wTp Z) (wTn Z - 1))
    rw [nI_eq (by omega) (by omega)]
    refine ⟨fun z2 => no (fun w => z2 w.2.2.1), fun z2 => ?_⟩
    have eday : (nI (wTp Z 0) <<< ((8 : Int32) &&& 31)) ||| nI (wTp Z 1) = nI (256 * wTp Z 0 + wTp Z 1) := by
      rw [i_8, i_31, and31 (by decide), pk_shlN (nI 8) 8 (by decide) (by omega), nI_or, Nat.mul_comm, or256 b1]
    rw [eday, i_999, nI_leI (by omega) (by omega)]
    refine ⟨fun z3 => ?_, fun z3 => no (fun w => z3 w.2.2.2.1)⟩
    refine xl_try h (fun ν1 hA1 g1 e1 hs1 hz1 => ⟨rfl, ?_⟩)
    intro ν2 e2 ν3 e3
    have g3 : XFr 11 ν.1 ν3.1 := by
      refine g1.trans ?_
      rw [e3, e2]
      exact ⟨fun a b c => by show fI (sI (sI ν1.1 11 0 _) 11 1 _) a b = _; rw [fI_sI, if_neg (fun z => c z.1), fI_sI, if_neg (fun z => c z.1)], fun _ _ => rfl, fun _ _ => rfl, fun _ _ => rfl, rfl, rfl⟩
    have ex3 : ν3.2 = ν.2 := by rw [e3, e2]; exact e1
    have v0 : fI ν3.1 11 0 = nI (256 * wTp Z 0 + wTp Z 1) := by rw [e3, e2]; show fI (sI (sI ν1.1 11 0 _) 11 1 _) 11 0 = _; rw [fI_sI, if_neg (by omega), fI_sI, if_pos ⟨rfl, rfl⟩]
    have v1 : fI ν3.1 11 1 = nI 0 := by rw [e3]; show fI (sI ν2.1 11 1 _) 11 1 = _; rw [fI_sI, if_pos ⟨rfl, rfl⟩]; rfl
    have r3 : xRk ν3.1 11 := by rw [e3, e2]; exact hs1.2.2.2.2.2.1
    clear e2 e3
    obtain ⟨kh1, kh2, kh3⟩ := xk_h (o := 11) (by decide) (by decide)
    -- people
    have people : ∀ ν4 : XN, XA (fun a => a = hK 11) ν3.1 ν4.1 → ν4.2 = ν.2 → (∀ c, isC (wP Z) c → fA ν4.1 (hK 11) c = nI (zH (onS (wP Z) (wTp Z)) c)) → (∀ k, k < plC (wP Z) * plR (wP Z) → wTp Z (2 + k) ≤ 99) → xw_X0_comesOn_170 (nI (onF (wP Z))) (nI 0) ν4 Q := by
      intro ν4 g4 e4 hh4 h99
      unfold xw_X0_comesOn_170
      intro X hX
      have key : ∀ m p (ν5 : XN), nP (wP Z) - p = m → p ≤ nP (wP Z) → XA (fun a => a = aK 11 ∨ a = tK' 11 ∨ a = kK 11) ν4.1 ν5.1 → ν5.2 = ν.2 → (∀ o, o < p → perOK (wP Z) (wTp Z) o = true) → (∀ o, o < p → fA ν5.1 (aK 11) o = nI (zA (onS (wP Z) (wTp Z)) o) ∧ fA ν5.1 (tK' 11) o = nI (zT (onS (wP Z) (wTp Z)) o) ∧ fA ν5.1 (kK 11) o = nI (zK (onS (wP Z) (wTp Z)) o)) → X (nI (onF (wP Z))) (nI p) ν5 := by
        intro m
        induction m with
        | zero =>
          intro p ν5 hm hp g5 e5 hpo hv
          have gf : XFr 11 ν.1 ν5.1 := g3.trans ((g4.g (o := 11) (fun a ha => by rw [ha]; exact kdiv.1)).1.trans (g5.g (o := 11) (fun a ha => by rcases ha with rfl | rfl | rfl; exact kdiv.2.1; exact kdiv.2.2.1; exact kdiv.2.2.2)).1)
          have hb5 : xPb ν5 b (wP Z) := hb.e gf.2.2.2.2.2 e5
          refine hX _ _ _ (xl_people hb5 ⟨fun _ => ?_, fun z => absurd ((nI_leI (by omega) (by omega)).mpr (by omega)) z⟩)
          have hok : onOK (wP Z) (wTp Z) (wTn Z) := ⟨hC0, z, z2, z3, h99, fun o ho => hpo o (by omega)⟩
          have rk5 : xRk ν5.1 11 := g5.rk (g4.rk r3)
          refine hy ν5 hok hP gf e5 ⟨onS_ok hP hok, ?_, ?_, fun c hc => ?_, fun o ho => hv o (by omega), rk5, fun k r hr => ?_⟩
          · rw [g5.1, g4.1]; exact v0
          · rw [g5.1, g4.1]; exact v1
          · rw [g5.2.2.1 _ (by unfold hK aK tK' kK; omega)]; exact hh4 c hc
          · have hr : ([] : List (Nat × Nat × Nat × Nat))[k]? = some r := hr
            simp at hr
        | succ m ih =>
          intro p ν5 hm hp g5 e5 hpo hv
          have gf : XFr 11 ν.1 ν5.1 := g3.trans ((g4.g (o := 11) (fun a ha => by rw [ha]; exact kdiv.1)).1.trans (g5.g (o := 11) (fun a ha => by rcases ha with rfl | rfl | rfl; exact kdiv.2.1; exact kdiv.2.2.1; exact kdiv.2.2.2)).1)
          have hb5 : xPb ν5 b (wP Z) := hb.e gf.2.2.2.2.2 e5
          have t5 : ∀ i, i < 1600 → tB (fA ν5.1 0 i) (wTp Z i) := by rw [gf.2.1 0 (by decide)]; exact ht
          refine hX _ _ _ (xl_people hb5 ⟨fun z => absurd ((nI_leI (by omega) (by omega)).mp z) (by omega), fun _ => ?_⟩)
          rw [i_4, pk_mul, nI_add]
          refine xl_personOn hb5 hP t5 hT2 (by omega) (fun o ho => (hv o ho).1) hpo (fun ν6 hok g6 e6 hv6 => ⟨fun _ => ?_, fun q => absurd q (by decide)⟩) (fun ν6 hok g6 e6 => ⟨fun q => absurd rfl q, fun _ => ?_⟩)
          · rw [nI_1]
            refine ih (p + 1) ν6 (by omega) (by omega) (g5.trans g6) (e6.trans e5) (fun o ho => ?_) (fun o ho => ?_)
            · by_cases w : o = p
              · rw [w]; exact hok
              · exact hpo o (by omega)
            · by_cases w : o = p
              · exact (hv6 o ho).2 w
              · have hvo := (hv6 o ho).1 (by omega)
                rw [hvo.1, hvo.2.1, hvo.2.2]; exact hv o (by omega)
          · refine hn ν6 (fun w => hok (w.2.2.2.2.2 p (by omega))) (gf.trans (g6.g (o := 11) (fun a ha => by rcases ha with rfl | rfl | rfl; exact kdiv.2.1; exact kdiv.2.2.1; exact kdiv.2.2.2)).1) (e6.trans e5) (g6.rk (g5.rk (g4.rk r3)))
      exact key _ 0 ν4 rfl (by omega) (XA.refl _ _) e4 (fun o ho => by omega) (fun o ho => by omega)
    unfold xw_X0_comesOn_110
    intro X hX
    have cells : ∀ m k (ν4 : XN), 64 - k = m → k ≤ 64 → XA (fun a => a = hK 11) ν3.1 ν4.1 → ν4.2 = ν.2 → (∀ c, c < k → isC (wP Z) c → fA ν4.1 (hK 11) c = nI (zH (onS (wP Z) (wTp Z)) c)) → (∀ i, i < rkC (wP Z) k → wTp Z (2 + i) ≤ 99) → X (nI (2 + rkC (wP Z) k)) (nI k) ν4 := by
      intro m
      induction m with
      | zero =>
        intro k ν4 hm hk g4 e4 hh4 h99
        have hk64 : k = 64 := by omega
        subst hk64
        refine hX _ _ _ ⟨fun _ => ?_, fun z => absurd ((nI_leI (by omega) (by omega)).mpr (by omega) : nI 64 ≤ nI 64) z⟩
        rw [rkC_64 hP] at h99 ⊢
        exact people ν4 g4 e4 (fun c hc => hh4 c (by have := isC_lt hP hc; omega) hc) h99
      | succ m ih =>
        intro k ν4 hm hk g4 e4 hh4 h99
        have gf : XFr 11 ν.1 ν4.1 := g3.trans (g4.g (o := 11) (fun a ha => by rw [ha]; exact kdiv.1)).1
        have hb4 : xPb ν4 b (wP Z) := hb.e gf.2.2.2.2.2 e4
        have t4 : ∀ i, i < 1600 → tB (fA ν4.1 0 i) (wTp Z i) := by rw [gf.2.1 0 (by decide)]; exact ht
        have hrs := rkC_s (P := wP Z) (k := k) (by omega)
        have hr49 : rkC (wP Z) (k + 1) ≤ plC (wP Z) * plR (wP Z) := by
          rw [← rkC_64 hP]
          unfold rkC
          exact (List.Sublist.filter _ (by
            rw [show (List.range 64).take 64 = List.range 64 from rfl]
            exact List.take_sublist _ _)).length_le
        refine hX _ _ _ ⟨fun z => absurd z (le_no 64 rfl (by decide) (by omega)), fun _ => ?_⟩
        unfold xw_X0_comesOn_161
        refine xl_isCellN hb4 (by omega) (fun hc => ⟨fun _ => ?_, fun q => absurd q (by decide)⟩) (fun hc => ⟨fun q => absurd rfl q, fun _ => ?_⟩)
        · rw [if_pos (show k % 8 < plC (wP Z) ∧ k / 8 < plR (wP Z) from hc)] at hrs
          have hra := rkC_at hP hc
          have bk := hT2 (2 + rkC (wP Z) k)
          refine xl_byteAt t4 (by omega) ?_
          rw [kh1, kh3, nI_clamp (show k < 2 ^ 31 by omega)]
          refine ⟨kh2, vp_in_nI (by omega) (by decide), ?_⟩
          intro ν5 e5
          have g5 : XA (fun a => a = hK 11) ν4.1 ν5.1 := by rw [e5]; exact XA.sA _ _ _ rfl
          have ex5 : ν5.2 = ν4.2 := by rw [e5]
          have t5 : ∀ i, i < 1600 → tB (fA ν5.1 0 i) (wTp Z i) := by rw [g5.2.2.1 0 (by unfold hK; omega)]; exact t4
          have v5 : ∀ c, c < k + 1 → isC (wP Z) c → fA ν5.1 (hK 11) c = nI (zH (onS (wP Z) (wTp Z)) c) := by
            intro c hck hcc
            rw [e5]
            show fA (sA ν4.1 (hK 11) k _) (hK 11) c = _
            rw [fA_sA]
            by_cases w : c = k
            · rw [if_pos ⟨rfl, w⟩, w]
              show _ = nI (wTp Z (2 + (plC (wP Z) * (k / 8) + k % 8)))
              rw [hra]
            · rw [if_neg (fun q => w q.2)]; exact hh4 c (by omega) hcc
          clear e5
          refine xl_byteAt t5 (by omega) ?_
          rw [i_99, nI_leI (by omega) (by omega)]
          refine ⟨fun z4 => ?_, fun z4 => ?_⟩
          · rw [nI_1, nI_1]
            have := ih (k + 1) ν5 (by omega) (by omega) (g4.trans g5) (ex5.trans e4) v5 (fun i hi => by
              rw [hrs] at hi
              by_cases w : i = rkC (wP Z) k
              · rw [w]; exact z4
              · exact h99 i (by omega))
            rw [hrs] at this
            rw [Nat.add_assoc]
            exact this
          · refine hn ν5 (fun w => z4 (w.2.2.2.2.1 _ (by omega))) (gf.trans (g5.g (o := 11) (fun a ha => by rw [ha]; exact kdiv.1)).1) (ex5.trans e4) (g5.rk (g4.rk r3))
        · rw [if_neg (show ¬ (k % 8 < plC (wP Z) ∧ k / 8 < plR (wP Z)) from hc), Nat.add_zero] at hrs
          rw [nI_1]
          have := ih (k + 1) ν4 (by omega) (by omega) g4 e4 (fun c hck hcc => by
            by_cases w : c = k
            · rw [w] at hcc; exact absurd hcc hc
            · exact hh4 c (by omega) hcc) (by rw [hrs]; exact h99)
          rw [hrs] at this
          exact this
    exact cells 64 0 ν3 rfl (by decide) (XA.refl _ _) ex3 (fun c hc => by omega) (fun i hi => by
      have : rkC (wP Z) 0 = 0 := rfl
      omega)
  · rw [if_neg hC0]
    exact ⟨fun _ => no (fun w => hC0 w.1), fun q => absurd rfl q⟩
theorem xa_on {ν : XN} {Z : Wd} {Q : Int32 → XN → Prop} (h : xAll ν Z) (hQ : ∀ ν', xAll ν' (opOn Z).2 → Q (opOn Z).1 ν') : xw_X0_on ν Q := by
  have hT := h.1.2.2.2.1
  have h1 := h.2.2.1.1
  have hA := h.taken
  unfold xw_X0_on xw_X0_taken
  intro ν1 e1
  have e1 : ν1 = (sI ν.1 0 2 (nI 0), ν.2) := e1
  rw [← e1] at hA
  rw [h1]
  refine xl_comesOn hA hT (fun ν2 hok hP g2 e2 hs2 => ⟨fun _ => ?_, fun q => absurd q (by decide)⟩) (fun ν2 hno g2 e2 hr2 => ⟨fun q => absurd rfl q, fun _ => ?_⟩)
  · rw [opOn_t hok] at hQ
    have hA2 := hA.fr g2 e2 ⟨by decide, by decide⟩ hs2.2.2.2.2.2.1
    refine xl_copy (by decide) (by decide) (by decide) (by decide) (by decide) hs2 (hA2.2.1.2.2.1 10 (by decide) (by decide)) h.cl h.1.np.1 (fun ν3 g3 e3 eB3 eP3 hs3 hz3 => ?_)
    intro ν4 e4
    subst e4
    have x : X0 [21] [] ν3.1 (sI ν3.1 0 21 0) := X0.sI _ _ (by decide)
    have hc3 : xCo ν3 (wP Z) (onS (wP Z) (wTp Z)) [] := (show xCo ν2 (wP Z) (wS Z) [] from ⟨hA2.2.1.1, hA2.2.1.2.1, hA2.2.1.2.2.1, hA2.2.1.2.2.2.1, (fun i s hi => by simp at hi), hA2.2.1.2.2.2.2.2⟩).fr g3 e3 ⟨by decide, by decide⟩ hs3.2.2.2.2.2.1 ⟨hs3, hz3⟩ (by decide)
    have hm3 := hA2.2.2.fr (s := onS (wP Z) (wTp Z)) g3 (by decide)
    refine hQ _ ⟨?_, x.co2 (by decide) (show ([] : List St).length ≤ 20 by simp) hc3, ?_⟩
    · obtain ⟨v1, v2, v3, v4, v5, v6, v7, v8, v9, v10⟩ := hA2.1
      exact ⟨v1, hs3.1, hok.2.2.2.1, v4, v5, v6, v7, by show ([] : List St).length ≤ 20; simp, fun s hs => (by cases hs), v10⟩
    · obtain ⟨p1, p2, p3, p4, p5, p6, p7⟩ := hm3
      exact ⟨⟨by rw [x.1 0 2 (Or.inr (by decide))]; exact p1.1, p1.2⟩, by rw [x.1 0 3 (Or.inr (by decide)), x.1 0 4 (Or.inr (by decide))]; exact p2, p3, ⟨by rw [x.1 0 18 (Or.inr (by decide))]; exact p4.1, p4.2⟩, by rw [fI_sI, if_pos ⟨rfl, rfl⟩]; rfl, p6, ⟨by rw [x.1 0 25 (Or.inr (by decide))]; exact p7.1, p7.2⟩⟩
  · rw [opOn_f hno] at hQ
    exact xl_no2 (hA.fr g2 e2 ⟨by decide, by decide⟩ hr2) (by decide) hQ
