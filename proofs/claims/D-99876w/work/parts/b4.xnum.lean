/-! THE SYSTEM: numbers, words compared -/
theorem val_le : ∀ (l : List Nat), (∀ c ∈ l, 48 ≤ c ∧ c ≤ 57) → l.length ≤ 4 → val l < 10000 := by
  intro l hl h4
  have key : ∀ (l : List Nat) v, (∀ c ∈ l, 48 ≤ c ∧ c ≤ 57) → l.foldl (fun v c => 10 * v + (c - 48)) v < (v + 1) * 10 ^ l.length := by
    intro l
    induction l with
    | nil => intro v _; simp
    | cons c l ih =>
      intro v hc
      rw [List.foldl_cons]
      have h1 := ih (10 * v + (c - 48)) (fun d hd => hc d (List.mem_cons_of_mem _ hd))
      have h2 := hc c List.mem_cons_self
      refine Nat.lt_of_lt_of_le h1 ?_
      rw [List.length_cons, Nat.pow_succ, Nat.mul_comm (10 ^ l.length) 10, ← Nat.mul_assoc]
      exact Nat.mul_le_mul_right _ (by omega)
  have := key l 0 hl
  have h5 : 10 ^ l.length ≤ 10 ^ 4 := Nat.pow_le_pow_right (by decide) h4
  unfold val
  omega
theorem xl_number {ν : XN} {t : Nat → Nat} {e a lo hi : Nat} {Q : Int32 → XN → Prop} {E : XN → Prop} (h : Tk ν.1 t e a) (hlo : lo < 10000) (hhi : hi < 10000)
    (hQ : ∀ ν' v b, pNum lo hi t e a = .inl ((v, lk t e a), b) → v < 10000 → lk t e a < b → XTt ν.1 ν'.1 → ν'.2 = ν.2 → Tk ν'.1 t e b → fI ν'.1 1 3 = nI (lk t e a) → Q (nI v) ν')
    (hE : ∀ ν' q, pNum lo hi t e a = .inr q → XTt ν.1 ν'.1 → ν'.2 = ν.2 → Bd2 ν'.1 q → E ν') : xw_X2_number (nI lo) (nI hi) ν Q E := by
  obtain ⟨l1, l2, l3, l4⟩ := lk_spec (t := t) h.2.2.2.1
  have he := h.2.2.1
  have hT := h.mv l2
  have v2 : fI (sI ν.1 1 2 (nI (lk t e a))) 1 2 = nI (lk t e a) := hT.2.1
  unfold pNum at hQ hE
  unfold xw_X2_number
  refine xl_here h (xl_digit (fun z => h.t z) ?_)
  generalize hb : lk t e a = b at *
  by_cases hL : isDg (bt t e b) = true
  · rw [if_pos hL]
    obtain ⟨w1, w2, w3⟩ := dE_spec (t := t) l2
    have hbe : b < e := by
      unfold bt at hL
      split at hL
      · assumption
      · exact absurd hL (by decide)
    have hb1 : b < dE t e b := by
      have : dE t e b = dE t e (b + 1) := run_go hbe (by rw [bt_at hbe] at hL; exact hL)
      rw [this]
      have := (dE_spec (t := t) (show b + 1 ≤ e by omega)).1
      omega
    refine ⟨fun _ => ?_, fun q => absurd q (by decide)⟩
    refine xl_parted (t := t) (e := e) (a := b) hT (fun hp => ?_) (fun hp ν' f g d => hE ν' (1, b) (by rw [if_neg (fun q => by rw [hp] at q; cases q.2)]) ((XTt.at _ _).trans f) g d)
    intro ν6 e6
    have f6 : XTt ν.1 ν6.1 := by rw [e6]; exact (XTt.at _ _).trans (XTt.fr _ _)
    have g6 : ν6.2 = ν.2 := by rw [e6]
    have fr6 : fI ν6.1 1 3 = nI b := by rw [e6]; show fI (sI (sI ν.1 1 2 (nI b)) 1 3 (fI (sI ν.1 1 2 (nI b)) 1 2)) 1 3 = _; rw [fI_sI, if_pos ⟨rfl, rfl⟩]; exact v2
    have at6 : fI ν6.1 1 2 = nI b := by rw [e6]; show fI (sI (sI ν.1 1 2 (nI b)) 1 3 (fI (sI ν.1 1 2 (nI b)) 1 2)) 1 2 = _; rw [fI_sI, if_neg (by omega)]; exact v2
    clear e6
    rw [if_pos ⟨hL, hp⟩] at hQ hE
    unfold xw_X2_number_34
    intro X hX
    have hdg : ∀ c, b ≤ c → c < dE t e b → 48 ≤ t c ∧ t c ≤ 57 := fun c h1 h2 => by
      have := w3 c h1 h2
      unfold isDg at this
      rw [decide_eq_true_iff] at this
      exact this
    have hvl : ∀ c, b ≤ c → c ≤ dE t e b → c ≤ b + 4 → val (wd t b c) < 10000 := fun c h1 h2 h3 => by
      refine val_le _ (fun x hx => ?_) (by rw [wd_len]; omega)
      obtain ⟨j, hj⟩ := List.getElem?_of_mem hx
      have hjl := (List.getElem?_eq_some_iff.mp hj).1
      rw [wd_len] at hjl
      rw [wd_at hjl] at hj
      cases hj
      exact hdg (b + j) (by omega) (by omega)
    have key : ∀ m c (ν1 : XN), dE t e b - c = m → b ≤ c → c ≤ dE t e b → c ≤ b + 4 → XTt ν.1 ν1.1 → ν1.2 = ν.2 → fI ν1.1 1 3 = nI b → fI ν1.1 1 2 = nI c → X (nI lo) (nI hi) (nI (val (wd t b c))) ν1 := by
      intro m
      induction m with
      | zero =>
        intro c ν1 hm h1 h2 h3 f1 g1 fr1 at1
        have hc : c = dE t e b := by omega
        subst hc
        have T1 := h.to f1.r at1 w2
        have hv := hvl _ h1 h2 h3
        refine hX _ _ _ _ ?_
        rw [at1]
        refine xl_rby T1 (by omega) (xl_digit (fun z => h.t z) ?_)
        have hnl : ¬ isDg (bt t e (dE t e b)) = true := by
          have h5 := (run_spec isDg t e _ b rfl (by omega)).2.2.1
          intro q
          have hlt : dE t e b < e := by
            unfold bt at q
            split at q
            · assumption
            · exact absurd q (by decide)
          rw [bt_at hlt] at q
          exact h5 ⟨hlt, q⟩
        rw [if_neg hnl]
        refine ⟨fun _ => ?_, fun q => absurd rfl q⟩
        rw [if_neg (by omega)] at hQ hE
        unfold xw_X0_is
        rw [nI_ltI (by omega) (by omega), nI_ltI (by omega) (by omega)]
        have bad : ¬ (lo ≤ val (wd t b (dE t e b)) ∧ val (wd t b (dE t e b)) ≤ hi) → ((¬ (0 : Int32) = 0 → Q (nI (val (wd t b (dE t e b)))) ν1) ∧ ((0 : Int32) = 0 → (xw_X2_wrong 2 (fI ν1.1 1 3) ν1 (fun r18 ν17 => (r18 = 2 ∧ E ν17))))) := by
          intro hx
          rw [if_neg hx] at hE
          refine ⟨fun q => absurd rfl q, fun _ => ?_⟩
          rw [fr1]
          exact xl_wrong (fun ν' f g d => hE ν' (2, b) rfl (f1.trans f) (g.trans g1) d)
        refine ⟨fun z => bad (by omega), fun z => ⟨fun z2 => bad (by omega), fun z2 => ⟨fun _ => ?_, fun q => absurd q (by decide)⟩⟩⟩
        rw [if_pos (by omega)] at hQ
        exact hQ ν1 _ _ rfl hv hb1 f1 g1 T1 fr1
      | succ m ih =>
        intro c ν1 hm h1 h2 h3 f1 g1 fr1 at1
        have hce : c < e := by omega
        have T1 := h.to f1.r at1 (by omega)
        have hd := hdg c h1 (by omega)
        have hv := hvl c h1 (by omega) h3
        have htc := h.t hce
        refine hX _ _ _ _ ?_
        rw [at1]
        refine xl_rby T1 (by omega) (xl_digit (fun z => h.t z) ?_)
        rw [bt_at hce, if_pos (by unfold isDg; rw [decide_eq_true_iff]; exact hd)]
        refine ⟨fun q => absurd q (by decide), fun _ => ?_⟩
        rw [at1, fr1, pk_sub h1, i_4, nI_eq (by omega) (by omega)]
        refine ⟨fun z => xl_rby T1 (by omega) ?_, fun z => ?_⟩
        · intro ν2 e2
          subst e2
          have hby : byX t e c = nI (t c) := by unfold byX; rw [if_pos hce]
          have ev : (10 : Int32) * nI (val (wd t b c)) + byX t e c - 48 = nI (val (wd t b (c + 1))) := by
            rw [hby, i_10, i_48, pk_mul, nI_add, pk_sub (by omega), wd_snoc h1, val_app]
            congr 1; omega
          rw [ev, at1, nI_1]
          refine ih (c + 1) _ (by omega) (by omega) (by omega) (by omega) (f1.trans (XTt.at _ _)) g1 ?_ ?_
          · rw [fI_sI, if_neg (by omega)]; exact fr1
          · rw [fI_sI, if_pos ⟨rfl, rfl⟩]
        · rw [if_pos (by omega)] at hE
          have hc4 : c = b + 4 := by omega
          rw [hc4]
          exact xl_wrong (fun ν' f g d => hE ν' (1, b + 4) rfl (f1.trans f) (g.trans g1) d)
    have h0 := key _ b ν6 rfl (by omega) (by omega) (by omega) f6 g6 fr6 at6
    rw [wd_nil (Nat.le_refl b)] at h0
    exact h0
  · rw [if_neg hL]
    rw [if_neg (fun q => hL q.1)] at hE
    refine ⟨fun q => absurd rfl q, fun _ => ?_⟩
    show xw_X2_wrong 1 (fI (sI ν.1 1 2 (nI b)) 1 2) _ _
    rw [v2]
    exact xl_wrong (fun ν' f g d => hE ν' (1, b) rfl ((XTt.at _ _).trans f) g d)
theorem SRep.inj {ρ : RS} {a : Nat} {w w' : List Nat} (h : SRep ρ a w) (g : SRep ρ a w') : w = w' := by
  obtain ⟨-, -, ⟨va, h3, -, h5, h6⟩, h7, h8⟩ := h
  obtain ⟨-, -, ⟨vb, g3, -, g5, g6⟩, g7, g8⟩ := g
  rw [h3] at g3
  cases g3
  apply List.ext_getElem?
  intro i
  rcases Nat.lt_or_ge i w.length with z | z
  · have hx := List.getElem?_eq_getElem z
    have hy := List.getElem?_eq_getElem (show i < w'.length by omega)
    have e1 := h6 i _ hx
    have e2 := g6 i _ hy
    rw [e1] at e2
    have b1 := h8 _ (List.mem_of_getElem? hx)
    have b2 := g8 _ (List.mem_of_getElem? hy)
    rw [nI_eq (by omega) (by omega)] at e2
    rw [hx, hy, e2]
  · rw [List.getElem?_eq_none z, List.getElem?_eq_none (by omega)]
theorem xl_eq {ν : XN} {a b : Nat} {w w' : List Nat} {Q : Int32 → XN → Prop} (h : SRep ν.2 a w) (g : SRep ν.2 b w') (hQ : Q (nI (if w = w' then 1 else 0)) ν) : xw_J6_equals a b ν Q := by
  unfold xw_J6_equals
  refine ⟨fun z => ?_, fun z => ?_⟩
  · obtain ⟨h1, h2, ⟨va, h3, h4, h5, h6⟩, h7, h8⟩ := h
    obtain ⟨g1, g2, ⟨vb, g3, g4, g5, g6⟩, g7, g8⟩ := g
    refine ⟨g1, fun z => absurd z (by decide), fun _ => ⟨g1, fun z => absurd z (by decide), fun _ => ⟨h1, g1, fun z => ?_, fun _ => ?_⟩⟩⟩
    · rw [h2, g2] at z; exact absurd rfl z
    · unfold xw_J6_equals_36
      refine ⟨h1, g1, vb, g3, va, h3, ?_⟩
      unfold xw_J9_equals
      have e1 : Int32.ofNat (rn ν.2 va) = nI w.length := by show nI (rn ν.2 va) = _; rw [h5]
      have e2 : Int32.ofNat (rn ν.2 vb) = nI w'.length := by show nI (rn ν.2 vb) = _; rw [g5]
      rw [e1, e2, nI_eq (by omega) (by omega)]
      refine ⟨h4, g4, fun q => ⟨fun _ => ?_, fun q2 => absurd rfl q2⟩, fun q => ?_⟩
      · rw [if_neg (fun w => q (by rw [w]))] at hQ; exact hQ
      · unfold xw_J9_equals_9
        intro X hX
        have key : ∀ m i, w.length - i = m → i ≤ w.length → (∀ j, j < i → w[j]? = w'[j]?) → X va vb (nI i) ν := by
          intro m
          induction m with
          | zero =>
            intro i hm hi hv
            refine hX _ _ _ _ ?_
            rw [e1, nI_leI (by omega) (by omega)]
            refine ⟨h4, fun _ => ⟨fun q2 => absurd q2 (by decide), fun _ => ?_⟩, fun q2 => absurd (by omega) q2⟩
            have : w = w' := by
              apply List.ext_getElem?
              intro j
              rcases Nat.lt_or_ge j i with v | v
              · exact hv j v
              · rw [List.getElem?_eq_none (by omega), List.getElem?_eq_none (by omega)]
            rw [if_pos this] at hQ; exact hQ
          | succ m ih =>
            intro i hm hi hv
            have hx := List.getElem?_eq_getElem (show i < w.length by omega)
            have hy := List.getElem?_eq_getElem (show i < w'.length by omega)
            have b1 := h8 _ (List.mem_of_getElem? hx)
            have b2 := g8 _ (List.mem_of_getElem? hy)
            refine hX _ _ _ _ ?_
            rw [e1, nI_leI (by omega) (by omega), nI_clamp (by omega), h6 i _ hx, g6 i _ hy, nI_eq (by omega) (by omega), h5, g5]
            refine ⟨h4, fun q2 => by omega, fun _ => ⟨h4, vp_in_nI (by omega) (by omega), g4, vp_in_nI (by omega) (by omega), fun q2 => ?_, fun q2 => ⟨fun _ => ?_, fun q3 => absurd rfl q3⟩⟩⟩
            · rw [nI_1]
              refine ih (i + 1) (by omega) (by omega) (fun j hj => ?_)
              by_cases v : j = i
              · rw [v, hx, hy, q2]
              · exact hv j (by omega)
            · rw [if_neg (fun v => q2 (by subst v; rfl))] at hQ; exact hQ
        exact key _ 0 rfl (by omega) (fun j hj => by omega)
  · subst z
    rw [if_pos (h.inj g)] at hQ; exact hQ
theorem xl_find {ν : XN} {r b : Nat} {w : List Nat} {ws : List (List Nat)} {Q : Int32 → XN → Prop} (h : SRep ν.2 r w) (g : ARep ν.2 b ws) (hl : ws.length < 1000) (hs : ∀ i : Nat, ws[i]? = some w → (∀ j : Nat, j < i → ws[j]? ≠ some w) → Q (nI i) ν) (hn : (∀ j : Nat, ws[j]? ≠ some w) → Q M1 ν) : xw_X0_find r b ν Q := by
  obtain ⟨g1, g2, g3⟩ := g
  have e1 : Int32.ofNat (rn ν.2 b) = nI ws.length := by show nI (rn ν.2 b) = _; rw [g2]
  unfold xw_X0_find xw_X0_find_2
  intro X hX
  have key : ∀ m i, ws.length - i = m → i ≤ ws.length → (∀ j : Nat, j < i → ws[j]? ≠ some w) → X r b (nI i) ν := by
    intro m
    induction m with
    | zero =>
      intro i hm hi hv
      refine hX _ _ _ _ ?_
      rw [e1, nI_leI (by omega) (by omega)]
      refine ⟨g1, fun _ => hn (fun j => ?_), fun q => absurd (by omega) q⟩
      rcases Nat.lt_or_ge j i with v | v
      · exact hv j v
      · rw [List.getElem?_eq_none (by omega)]; simp
    | succ m ih =>
      intro i hm hi hv
      have hx := List.getElem?_eq_getElem (show i < ws.length by omega)
      obtain ⟨sa, s1, s2⟩ := g3 i _ hx
      refine hX _ _ _ _ ?_
      rw [e1, nI_leI (by omega) (by omega), nI_clamp (by omega), g2]
      refine ⟨g1, fun q => by omega, fun _ => ⟨g1, vp_in_nI (by omega) (by omega), sa, s1, s2.1, xl_eq s2 h ?_⟩⟩
      by_cases z : ws[i] = w
      · rw [if_pos z]
        exact ⟨fun q => absurd q (by decide), fun _ => hs i (by rw [hx, z]) hv⟩
      · rw [if_neg z]
        refine ⟨fun _ => ?_, fun q => absurd rfl q⟩
        rw [nI_1]
        refine ih (i + 1) (by omega) (by omega) (fun j hj => ?_)
        by_cases v : j = i
        · rw [v, hx]; simpa using z
        · exact hv j (by omega)
  exact key _ 0 rfl (by omega) (fun j hj => by omega)
