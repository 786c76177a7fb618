/-! THE SYSTEM: names looked for; cells; what is fresh, what is known -/
theorem ixOf_at {ws : List (List Nat)} {w : List Nat} {i : Nat} (h : ws[i]? = some w) (hf : ∀ j : Nat, j < i → ws[j]? ≠ some w) : ixOf ws w = i ∧ i < ws.length := by
  have hl := (List.getElem?_eq_some_iff.mp h).1
  refine ⟨?_, hl⟩
  unfold ixOf
  rw [List.findIdx_eq hl]
  refine ⟨?_, fun j hj => ?_⟩
  · rw [decide_eq_true_iff]; exact (List.getElem?_eq_some_iff.mp h).2
  · rw [decide_eq_false_iff_not]
    intro z
    exact hf j hj (List.getElem?_eq_some_iff.mpr ⟨by omega, z⟩)
theorem ixOf_no {ws : List (List Nat)} {w : List Nat} (hf : ∀ j : Nat, ws[j]? ≠ some w) : ixOf ws w = ws.length := by
  unfold ixOf
  rw [List.findIdx_eq_length]
  intro x hx
  rw [decide_eq_false_iff_not]
  intro z
  obtain ⟨j, hj⟩ := List.getElem?_of_mem hx
  exact hf j (by rw [hj, z])
theorem ixOf_mem {ws : List (List Nat)} {w : List Nat} : w ∈ ws ↔ ixOf ws w < ws.length := by
  unfold ixOf
  rw [List.findIdx_lt_length]
  constructor
  · intro h; exact ⟨w, h, by rw [decide_eq_true_iff]⟩
  · rintro ⟨x, hx, hd⟩
    rw [decide_eq_true_iff] at hd
    rw [← hd]; exact hx
theorem xl_nfind {ν : XN} {la r c : Nat} {as : List Nat} {ws : List (List Nat)} {w : List Nat} {Q : Int32 → XN → Prop} (h : LRep ν.2 la as) (hn : NmR ν.2 c as ws) (hc : c = 8 ∨ c = 9) (hl : ws.length < 1000) (hr : SRep ν.2 r w)
    (hy : ixOf ws w < ws.length → Q (nI (ixOf ws w)) ν) (hno : ¬ ixOf ws w < ws.length → Q M1 ν) : xw_X7_find la r ν Q := by
  unfold xw_X7_find xw_X7_find_2
  intro X hX
  have key : ∀ m i, ws.length - i = m → i ≤ ws.length → (∀ j : Nat, j < i → ws[j]? ≠ some w) → X la r (nI i) ν := by
    intro m
    induction m with
    | zero =>
      intro i hm hi hf
      refine hX _ _ _ _ ⟨h.1, xl_size h ?_⟩
      rw [hn.1, nI_leI (by omega) (by omega)]
      refine ⟨fun _ => hno ?_, fun z => absurd (by omega) z⟩
      rw [ixOf_no (fun j => ?_)]
      · omega
      · rcases Nat.lt_or_ge j i with z | z
        · exact hf j z
        · rw [List.getElem?_eq_none (by omega)]
          intro z; cases z
    | succ m ih =>
      intro i hm hi hf
      have hw := List.getElem?_eq_getElem (show i < ws.length by omega)
      obtain ⟨a, sa, a1, a2, a3, a4⟩ := hn.2 i _ hw
      have hrc : rc ν.2 a = 8 ∨ rc ν.2 a = 9 := by
        rcases hc with z | z <;> rw [z] at a2
        · exact Or.inl (rcO a2 (by decide))
        · exact Or.inr (rcO a2 (by decide))
      refine hX _ _ _ _ ⟨h.1, xl_size h ?_⟩
      rw [hn.1, nI_leI (by omega) (by omega)]
      refine ⟨fun z => by omega, fun _ => ⟨h.1, xl_get h a1 ⟨a, rfl, hrc, hrc, sa, a3, a4.1, ?_⟩⟩⟩
      refine xl_eq a4 hr ?_
      by_cases z : ws[i] = w
      · rw [if_pos z]
        refine ⟨fun q => absurd q (by decide), fun _ => ?_⟩
        obtain ⟨q1, q2⟩ := ixOf_at (by rw [hw, z]) hf
        rw [← q1]
        exact hy (by omega)
      · rw [if_neg z, nI_1]
        refine ⟨fun _ => ih (i + 1) (by omega) (by omega) (fun j hj => ?_), fun q => absurd rfl q⟩
        by_cases v : j = i
        · rw [v, hw]
          intro u; cases u; exact z rfl
        · exact hf j (by omega)
  exact key _ 0 rfl (by omega) (fun j hj => by omega)
/-- the draft's lists, as they are read -/
theorem xDr.parts {M : Nat → Prop} {ρ : RS} {b n : Nat} {D : Dr} (h : xDr M ρ b D n) : rk ρ b = 2 ∧ rc ρ b = 2 ∧ (rI ρ b 0 = nI n ∧ rI ρ b 1 = nI (plC D.1) ∧ rI ρ b 2 = nI (plR D.1)) ∧ (∃ lt ta, rO ρ b 5 = some lt ∧ LRep ρ lt ta ∧ NmR ρ 8 ta (plT D.1)) ∧ (∃ lp pa, rO ρ b 6 = some lp ∧ LRep ρ lp pa ∧ NmR ρ 9 pa (plN D.1) ∧ PeR ρ pa D) ∧ ∃ ll aa, rO ρ b 7 = some ll ∧ LRep ρ ll aa ∧ aa.length = (plL D.1).length := by
  obtain ⟨ha, lt, lp, ll, ct, cp, cl, ta, pa, aa, N, hM, h1, h2, ⟨⟨t1, t2⟩, ⟨p1, p2, p3, p4⟩, ⟨a1, a2⟩, d1, d2⟩, h4, h5⟩ := h
  exact ⟨h1.1, rcO h1.1 (by decide), ⟨h1.2.1.1, h1.2.1.2.1, h1.2.1.2.2.1⟩, ⟨lt, ta, h1.2.2.2.1, t1.rep, t2⟩, ⟨lp, pa, h1.2.2.2.2.1, p1.rep, p2, p3⟩, ll, aa, h1.2.2.2.2.2, a1.rep, a2.1⟩
theorem xl_isNamed {M : Nat → Prop} {ν : XN} {b n r : Nat} {D : Dr} {w : List Nat} {Q : Int32 → XN → Prop} (h : xDr M ν.2 b D n) (hT : nT D.1 ≤ 5) (hP : nP D.1 ≤ 7) (hr : SRep ν.2 r w) (hy : w ∈ plT D.1 ∨ w ∈ plN D.1 → Q (nI 1) ν) (hn : ¬ (w ∈ plT D.1 ∨ w ∈ plN D.1) → Q (nI 0) ν) : xw_X1_isNamed b r ν Q := by
  obtain ⟨h1, h2, h3, ⟨lt, ta, t1, t2, t3⟩, ⟨lp, pa, p1, p2, p3, p4⟩, -⟩ := h.parts
  have lT : (plT D.1).length ≤ 5 := hT
  have lP : (plN D.1).length ≤ 7 := hP
  unfold xw_X1_isNamed
  refine ⟨h2, lt, t1, ?_⟩
  refine xl_nfind t2 t3 (Or.inl rfl) (by omega) hr (fun z => ⟨fun _ => hy (Or.inl (ixOf_mem.mpr z)), fun q => ?_⟩) (fun z => ⟨fun q => absurd rfl q, fun _ => ⟨h2, lp, p1, ?_⟩⟩)
  · have q : nI (ixOf (plT D.1) w) = M1 := q
    rw [nI_m1 (by omega)] at q
    exact q.elim
  · have zT : ¬ w ∈ plT D.1 := fun q => z (ixOf_mem.mp q)
    refine xl_nfind p2 p3 (Or.inr rfl) (by omega) hr (fun z2 => ⟨fun q => ?_, fun _ => hy (Or.inr (ixOf_mem.mpr z2))⟩) (fun z2 => ⟨fun _ => hn ?_, fun q => absurd rfl q⟩)
    · have q : nI (ixOf (plN D.1) w) = M1 := q
      rw [nI_m1 (by omega)] at q
      exact q.elim
    · rintro (q | q)
      · exact zT q
      · exact z2 (ixOf_mem.mp q)
theorem xl_fresh {M : Nat → Prop} {ν : XN} {t : Nat → Nat} {e a k m n b : Nat} {D : Dr} {Q : Nat → XN → Prop} {E : XN → Prop} (h : Tk ν.1 t e a) (hW : xWs ν) (hb : fR ν.1 1 6 = .ref b) (hD : xDr M ν.2 b D m) (hT : nT D.1 ≤ 5) (hP : nP D.1 ≤ 7) (hk : 3 ≤ k) (hn : 2 * nx t e a + 4 ≤ n)
    (hQ : ∀ ν' r w p, pNew D.1 t e a = .inl (w, p) → lk t e a < p → XTt ν.1 ν'.1 → Old ν.2 ν'.2 → Tk ν'.1 t e p → SRep ν'.2 r w → Q r ν')
    (hE : ∀ ν' q, pNew D.1 t e a = .inr q → XTt ν.1 ν'.1 → Old ν.2 ν'.2 → Bd2 ν'.1 q → E ν') : xw_X2_fresh ν k n Q E := by
  unfold xw_X2_fresh
  refine ⟨k, n, 0, 0, by omega, by omega, ?_⟩
  refine xl_name h hW hk hn (fun ν1 r w p hp hlt f1 o1 T1 fr1 s1 _ _ => ?_) (fun ν1 q hp f1 o1 d1 => ?_)
  · have D1 := hD.old o1
    have hpn : pNew D.1 t e a = if w ∈ plT D.1 ∨ w ∈ plN D.1 then .inr (3, lk t e a) else .inl (w, p) := by unfold pNew; rw [hp, pB_inlR]
    refine ⟨b, by rw [f1.2.2.2.2.2]; exact hb, D1.parts.2.1, ?_⟩
    refine xl_isNamed D1 hT hP s1 (fun z => ⟨fun q => absurd q (by decide), fun _ => ?_⟩) (fun z => ⟨fun _ => ?_, fun q => absurd rfl q⟩)
    · rw [if_pos z] at hpn
      rw [fr1, i_3]
      exact xl_wrong (fun ν' f' g' d' => hE ν' _ hpn (f1.trans f') (o1.trans (Old.eq g')) d')
    · rw [if_neg z] at hpn
      exact hQ ν1 r w p hpn hlt f1 o1 T1 s1
  · refine hE ν1 q ?_ f1 o1 d1
    unfold pNew
    rw [hp]; rfl
theorem xl_known {ν : XN} {t : Nat → Nat} {e a k n la c : Nat} {as : List Nat} {ws : List (List Nat)} {Q : Int32 → XN → Prop} {E : XN → Prop} (h : Tk ν.1 t e a) (hW : xWs ν) (hl : LRep ν.2 la as) (hN : NmR ν.2 c as ws) (hc : c = 8 ∨ c = 9) (hl9 : ws.length < 1000) (hk : 3 ≤ k) (hn : 2 * nx t e a + 4 ≤ n)
    (hQ : ∀ ν' i p, pOf ws t e a = .inl ((i, lk t e a), p) → i < ws.length → lk t e a < p → XTt ν.1 ν'.1 → Old ν.2 ν'.2 → Tk ν'.1 t e p → fI ν'.1 1 3 = nI (lk t e a) → Q (nI i) ν')
    (hE : ∀ ν' q, pOf ws t e a = .inr q → XTt ν.1 ν'.1 → Old ν.2 ν'.2 → Bd2 ν'.1 q → E ν') : xw_X2_known la ν k n Q E := by
  unfold xw_X2_known
  refine ⟨k, n, 0, 0, by omega, by omega, ?_⟩
  refine xl_name h hW hk hn (fun ν1 r w p hp hlt f1 o1 T1 fr1 s1 _ _ => ?_) (fun ν1 q hp f1 o1 d1 => ?_)
  · have hpn : pOf ws t e a = if ixOf ws w < ws.length then .inl ((ixOf ws w, lk t e a), p) else .inr (3, lk t e a) := by unfold pOf; rw [hp, pB_inlR]
    have N1 : NmR ν1.2 c as ws := hN.kp (by omega) o1.c2 (fun x z => z.elim) (fun x _ z => z)
    refine xl_nfind (hl.old o1) N1 hc hl9 s1 (fun z => ⟨fun _ => ?_, fun q => ?_⟩) (fun z => ⟨fun q => absurd rfl q, fun _ => ?_⟩)
    · rw [if_pos z] at hpn
      exact hQ ν1 _ p hpn z hlt f1 o1 T1 fr1
    · have q : nI (ixOf ws w) = M1 := q
      rw [nI_m1 (by omega)] at q
      exact q.elim
    · rw [if_neg z] at hpn
      rw [fr1, i_3]
      exact xl_wrong (fun ν' f' g' d' => hE ν' _ hpn (f1.trans f') (o1.trans (Old.eq g')) d')
  · refine hE ν1 q ?_ f1 o1 d1
    unfold pOf
    rw [hp]; rfl
theorem pNum_hi {lo hi v q b : Nat} {t : Nat → Nat} {e a : Nat} (h : pNum lo hi t e a = .inl ((v, q), b)) : v ≤ hi := by
  unfold pNum at h
  split at h
  · split at h
    · cases h
    · split at h
      · rename_i z
        cases h; exact z.2
      · cases h
  · cases h
theorem xl_cellP {M : Nat → Prop} {ν : XN} {t : Nat → Nat} {e a m b : Nat} {D : Dr} {Q : Int32 → XN → Prop} {E : XN → Prop} (h : Tk ν.1 t e a) (hb : fR ν.1 1 6 = .ref b) (hD : xDr M ν.2 b D m) (hC : 1 ≤ plC D.1 ∧ plC D.1 ≤ 8) (hR : 1 ≤ plR D.1 ∧ plR D.1 ≤ 8)
    (hQ : ∀ ν' c pl p, pCell D.1 t e a = .inl ((c, pl), p) → c < 1000 → a < p → XTt ν.1 ν'.1 → ν'.2 = ν.2 → Tk ν'.1 t e p → fI ν'.1 1 3 = nI pl → Q (nI c) ν')
    (hE : ∀ ν' q, pCell D.1 t e a = .inr q → XTt ν.1 ν'.1 → ν'.2 = ν.2 → Bd2 ν'.1 q → E ν') : xw_X2_cell ν Q E := by
  obtain ⟨h1, h2, ⟨h3, h4, h5⟩, -⟩ := hD.parts
  have ha := h.2.2.2.1
  unfold xw_X2_cell
  refine ⟨b, hb, h2, ?_⟩
  rw [h4, i_1, pk_sub (by omega), i_0]
  refine xl_number h (by decide) (by omega) (fun ν1 v p hp hv hlt f1 g1 T1 fr1 => ?_) (fun ν1 q hp f1 g1 d1 => ?_)
  · refine ⟨b, by rw [f1.2.2.2.2.2]; exact hb, by rw [g1]; exact h2, ?_⟩
    rw [g1, h5, pk_sub (by omega)]
    refine xl_number T1 (by decide) (by omega) (fun ν2 v2 p2 hp2 hv2 hlt2 f2 g2 T2 fr2 => ?_) (fun ν2 q hp2 f2 g2 d2 => ?_)
    · have hpn : pCell D.1 t e a = .inl ((8 * v2 + v, lk t e p), p2) := by unfold pCell; rw [hp, pB_inlR, hp2, pB_inlR]
      have b1 : v ≤ plC D.1 - 1 := pNum_hi hp
      have b2 : v2 ≤ plR D.1 - 1 := pNum_hi hp2
      rw [cell8 (c := v) (r := v2) (by omega) (by omega)]
      have l1 := (lk_spec (t := t) ha).1
      have l2 := (lk_spec (t := t) T1.2.2.2.1).1
      exact hQ ν2 _ _ p2 hpn (by omega) (by omega) (f1.trans f2) (g2.trans g1) T2 fr2
    · refine hE ν2 q ?_ (f1.trans f2) (g2.trans g1) d2
      unfold pCell
      rw [hp, pB_inlR, hp2]; rfl
  · refine hE ν1 q ?_ f1 g1 d1
    unfold pCell
    rw [hp]; rfl
