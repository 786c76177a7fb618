/-! THE SYSTEM: reading of words -/
theorem up2_2 {σ : FS} {o k : Nat} {v w : Int32} : sI (sI σ o k v) o k w = sI σ o k w := by
  have : (fun o' k' => if o' = o ∧ k' = k then w else (if o' = o ∧ k' = k then v else fI σ o' k')) = fun o' k' => if o' = o ∧ k' = k then w else fI σ o' k' := by
    funext o' k'
    split <;> rfl
  show (up2 (up2 σ.1 o k v) o k w, σ.2) = (up2 σ.1 o k w, σ.2)
  congr 1
def Tk (σ : FS) (t : Nat → Nat) (e a : Nat) : Prop := fI σ 1 1 = nI e ∧ fI σ 1 2 = nI a ∧ e ≤ 1600 ∧ a ≤ e ∧ ∀ i, i < 1600 → tB (fA σ 0 i) (t i)
/-- only at and from of the reader and the fault change -/
def XTt (σ σ' : FS) : Prop := (∀ o k, (o = 1 → k ≠ 2 ∧ k ≠ 3) → o ≠ 2 → fI σ' o k = fI σ o k) ∧ fA σ' = fA σ ∧ fB σ' = fB σ ∧ fP σ' = fP σ ∧ fL σ' = fL σ ∧ fR σ' = fR σ
theorem XTt.refl (σ : FS) : XTt σ σ := ⟨fun _ _ _ _ => rfl, rfl, rfl, rfl, rfl, rfl⟩
theorem XTt.trans {σ σ' σ'' : FS} (h : XTt σ σ') (g : XTt σ' σ'') : XTt σ σ'' := ⟨fun o k a b => (g.1 o k a b).trans (h.1 o k a b), g.2.1.trans h.2.1, g.2.2.1.trans h.2.2.1, g.2.2.2.1.trans h.2.2.2.1, g.2.2.2.2.1.trans h.2.2.2.2.1, g.2.2.2.2.2.trans h.2.2.2.2.2⟩
theorem XTt.at (σ : FS) (v : Int32) : XTt σ (sI σ 1 2 v) := ⟨fun o k a _ => by rw [fI_sI, if_neg (fun q => (a q.1).1 q.2)], rfl, rfl, rfl, rfl, rfl⟩
theorem XTt.fr (σ : FS) (v : Int32) : XTt σ (sI σ 1 3 v) := ⟨fun o k a _ => by rw [fI_sI, if_neg (fun q => (a q.1).2 q.2)], rfl, rfl, rfl, rfl, rfl⟩
theorem XTt.bd (σ : FS) (k : Nat) (v : Int32) : XTt σ (sI σ 2 k v) := ⟨fun o k' _ b => by rw [fI_sI, if_neg (fun q => b q.1)], rfl, rfl, rfl, rfl, rfl⟩
/-- nothing but reader and fault -/
def XRr (σ σ' : FS) : Prop := (∀ o k, o ≠ 1 → o ≠ 2 → fI σ' o k = fI σ o k) ∧ (fI σ' 1 1 = fI σ 1 1 ∧ fI σ' 1 5 = fI σ 1 5) ∧ fA σ' = fA σ ∧ fB σ' = fB σ ∧ fP σ' = fP σ ∧ fL σ' = fL σ ∧ fR σ' = fR σ
theorem XTt.r {σ σ' : FS} (h : XTt σ σ') : XRr σ σ' := ⟨fun o k a b => h.1 o k (fun z => absurd z a) b, ⟨h.1 1 1 (fun _ => ⟨by decide, by decide⟩) (by decide), h.1 1 5 (fun _ => ⟨by decide, by decide⟩) (by decide)⟩, h.2⟩
theorem XRr.refl (σ : FS) : XRr σ σ := (XTt.refl σ).r
theorem XRr.trans {σ σ' σ'' : FS} (h : XRr σ σ') (g : XRr σ' σ'') : XRr σ σ'' := ⟨fun o k a b => (g.1 o k a b).trans (h.1 o k a b), ⟨g.2.1.1.trans h.2.1.1, g.2.1.2.trans h.2.1.2⟩, g.2.2.1.trans h.2.2.1, g.2.2.2.1.trans h.2.2.2.1, g.2.2.2.2.1.trans h.2.2.2.2.1, g.2.2.2.2.2.1.trans h.2.2.2.2.2.1, g.2.2.2.2.2.2.trans h.2.2.2.2.2.2⟩
theorem XRr.op (σ : FS) (v : Int32) : XRr σ (sI σ 1 4 v) := ⟨fun o k a _ => by rw [fI_sI, if_neg (fun q => a q.1)], ⟨by rw [fI_sI, if_neg (by omega)], by rw [fI_sI, if_neg (by omega)]⟩, rfl, rfl, rfl, rfl, rfl⟩
def Bd2 (σ : FS) (q : Nat × Nat) : Prop := fI σ 2 6 = nI q.1 ∧ fI σ 2 7 = nI q.2
theorem Tk.to {σ σ' : FS} {t : Nat → Nat} {e a b : Nat} (h : Tk σ t e a) (f : XRr σ σ') (h2 : fI σ' 1 2 = nI b) (hb : b ≤ e) : Tk σ' t e b := ⟨by rw [f.2.1.1]; exact h.1, h2, h.2.2.1, hb, by rw [f.2.2.1]; exact h.2.2.2.2⟩
theorem Tk.mv {σ : FS} {t : Nat → Nat} {e a b : Nat} (h : Tk σ t e a) (hb : b ≤ e) : Tk (sI σ 1 2 (nI b)) t e b := h.to (XTt.at σ _).r (by rw [fI_sI, if_pos ⟨rfl, rfl⟩]) hb
def byX (t : Nat → Nat) (e a : Nat) : Int32 := if a < e then nI (t a) else M1
theorem byX_eq {t : Nat → Nat} {e a c : Nat} (h : a < e → t a < 256) (hc : c < 256) : (byX t e a = nI c) = (bt t e a = c) := by
  unfold byX bt
  by_cases z : a < e
  · rw [if_pos z, if_pos z, nI_eq (by have := h z; omega) (by omega)]
  · rw [if_neg z, if_neg z, m1_nI (by omega)]
    apply propext
    constructor
    · intro q; exact q.elim
    · intro q; omega
theorem Tk.t {σ : FS} {t : Nat → Nat} {e a : Nat} (h : Tk σ t e a) {i : Nat} (hi : i < e) : t i < 256 := (h.2.2.2.2 i (by have := h.2.2.1; omega)).2
theorem xl_rby {ν : XN} {t : Nat → Nat} {e a b : Nat} {Q : Int32 → XN → Prop} (h : Tk ν.1 t e a) (hb : b < 2 ^ 31) (hQ : Q (byX t e b) ν) : xw_X2_byteAt (nI b) ν Q := by
  have he := h.2.2.1
  unfold xw_X2_byteAt
  rw [h.1, i_0, nI_ltI hb (by omega), nI_leI (by omega) hb]
  unfold byX at hQ
  refine ⟨fun z => by omega, fun _ => ⟨fun z => ?_, fun z => ⟨vp_in_nI (by omega) (by decide), ?_⟩⟩⟩
  · rw [if_neg (by omega)] at hQ; exact hQ
  · rw [nI_clamp hb, i_255, (h.2.2.2.2 b (by omega)).and]
    rw [if_pos (by omega)] at hQ; exact hQ
theorem xl_here {ν : XN} {t : Nat → Nat} {e a : Nat} {Q : Int32 → XN → Prop} (h : Tk ν.1 t e a) (hQ : Q (byX t e (lk t e a)) (sI ν.1 1 2 (nI (lk t e a)), ν.2)) : xw_X2_here ν Q := by
  unfold xw_X2_here xw_X2_here_0
  intro X hX
  have he := h.2.2.1
  have key : ∀ m b, lk t e a - b = m → a ≤ b → b ≤ lk t e a → X (sI ν.1 1 2 (nI b), ν.2) := by
    intro m
    obtain ⟨l1, l2, l3, l4⟩ := lk_spec (t := t) h.2.2.2.1
    induction m with
    | zero =>
      intro b hm h1 h2
      have hb : b = lk t e a := by omega
      subst hb
      have hT := h.mv l2
      have hby : ∀ c, c < 256 → (byX t e (lk t e a) = nI c) = (bt t e (lk t e a) = c) := fun c hc => byX_eq (fun z => h.t z) hc
      refine hX _ ?_
      rw [hT.2.1]
      refine xl_rby hT (by omega) ?_
      rw [i_32, i_10, hby 32 (by decide)]
      unfold isBl at l3
      rw [decide_eq_false_iff_not] at l3
      refine ⟨fun z => absurd (Or.inr z) l3, fun _ => ?_⟩
      show xw_X2_byteAt (fI (sI ν.1 1 2 (nI (lk t e a))) 1 2) _ _
      rw [hT.2.1]
      refine xl_rby hT (by omega) ?_
      rw [hby 10 (by decide)]
      refine ⟨fun _ => ?_, fun z => absurd (Or.inl z) l3⟩
      show xw_X2_byteAt (fI (sI ν.1 1 2 (nI (lk t e a))) 1 2) _ _
      rw [hT.2.1]
      exact xl_rby hT (by omega) hQ
    | succ m ih =>
      intro b hm h1 h2
      have hbe : b < e := by omega
      have hT := h.mv (show b ≤ e by omega)
      have hbl := l4 b h1 (by omega)
      have htb := h.t hbe
      have hby : byX t e b = nI (t b) := by unfold byX; rw [if_pos hbe]
      unfold isBl at hbl
      rw [decide_eq_true_iff] at hbl
      have nx : xw_X2_here_26 X (sI ν.1 1 2 (nI b), ν.2) Q := by
        unfold xw_X2_here_26
        intro ν7 e7
        subst e7
        show X (sI (sI ν.1 1 2 (nI b)) 1 2 (fI (sI ν.1 1 2 (nI b)) 1 2 + 1), ν.2)
        rw [hT.2.1, nI_1, up2_2]
        exact ih (b + 1) (by omega) (by omega) (by omega)
      refine hX _ ?_
      rw [hT.2.1]
      refine xl_rby hT (by omega) ?_
      rw [i_32, i_10, hby, nI_eq (by omega) (by omega)]
      refine ⟨fun _ => nx, fun z => ?_⟩
      show xw_X2_byteAt (fI (sI ν.1 1 2 (nI b)) 1 2) _ _
      rw [hT.2.1]
      refine xl_rby hT (by omega) ?_
      rw [hby, nI_eq (by omega) (by omega)]
      exact ⟨fun z2 => by omega, fun _ => nx⟩
  obtain ⟨l1, l2, l3, l4⟩ := lk_spec (t := t) h.2.2.2.1
  have h0 := key _ a rfl (Nat.le_refl _) l1
  have e0 : (sI ν.1 1 2 (nI a), ν.2) = ν := by
    have : sI ν.1 1 2 (nI a) = ν.1 := by
      show (up2 ν.1.1 1 2 (nI a), ν.1.2) = ν.1
      have : up2 ν.1.1 1 2 (nI a) = ν.1.1 := by
        funext o k
        show (if o = 1 ∧ k = 2 then nI a else fI ν.1 o k) = fI ν.1 o k
        split
        · rename_i q; rw [q.1, q.2]; exact h.2.1.symm
        · rfl
      rw [this]
    rw [this]
  rw [e0] at h0
  exact h0
theorem xl_letter {ν : XN} {t : Nat → Nat} {e a : Nat} {Q : Int32 → XN → Prop} (h : a < e → t a < 256) (hQ : Q (nI (if isLt (bt t e a) = true then 1 else 0)) ν) : xw_X0_isLetter (byX t e a) ν Q := by
  unfold xw_X0_isLetter
  unfold isLt at hQ
  unfold byX bt at *
  by_cases z : a < e
  · have := h z
    rw [if_pos z] at hQ ⊢
    rw [i_97, i_122, nI_ltI (by omega) (by omega), nI_ltI (by omega) (by omega)]
    refine ⟨fun q => ?_, fun q => ⟨fun q2 => ?_, fun q2 => ?_⟩⟩
    · rw [decide_eq_false (by omega)] at hQ; exact hQ
    · rw [decide_eq_false (by omega)] at hQ; exact hQ
    · rw [decide_eq_true (by omega)] at hQ; exact hQ
  · rw [if_neg z] at hQ ⊢
    exact ⟨fun _ => hQ, fun q => absurd (by decide) q⟩
theorem xl_digit {ν : XN} {t : Nat → Nat} {e a : Nat} {Q : Int32 → XN → Prop} (h : a < e → t a < 256) (hQ : Q (nI (if isDg (bt t e a) = true then 1 else 0)) ν) : xw_X0_isDigit (byX t e a) ν Q := by
  unfold xw_X0_isDigit
  unfold isDg at hQ
  unfold byX bt at *
  by_cases z : a < e
  · have := h z
    rw [if_pos z] at hQ ⊢
    rw [i_48, i_57, nI_ltI (by omega) (by omega), nI_ltI (by omega) (by omega)]
    refine ⟨fun q => ?_, fun q => ⟨fun q2 => ?_, fun q2 => ?_⟩⟩
    · rw [decide_eq_false (by omega)] at hQ; exact hQ
    · rw [decide_eq_false (by omega)] at hQ; exact hQ
    · rw [decide_eq_true (by omega)] at hQ; exact hQ
  · rw [if_neg z] at hQ ⊢
    exact ⟨fun _ => hQ, fun q => absurd (by decide) q⟩
theorem xl_wrong {ν : XN} {q1 q2 : Nat} {E : XN → Prop} (hE : ∀ ν', XTt ν.1 ν'.1 → ν'.2 = ν.2 → Bd2 ν'.1 (q1, q2) → E ν') : xw_X2_wrong (nI q1) (nI q2) ν (fun r ν1 => (r = 2 ∧ E ν1)) := by
  unfold xw_X2_wrong
  intro ν1 e1 ν3 e3
  refine ⟨rfl, hE ν3 ?_ (by rw [e3, e1]) ?_⟩
  · rw [e3, e1]; exact (XTt.bd _ _ _).trans (XTt.bd _ _ _)
  · rw [e3, e1]
    exact ⟨by rw [fI_sI, if_neg (by omega), fI_sI, if_pos ⟨rfl, rfl⟩], by rw [fI_sI, if_pos ⟨rfl, rfl⟩]⟩
theorem xl_parted {ν : XN} {t : Nat → Nat} {e a : Nat} {Q E : XN → Prop} (h : Tk ν.1 t e a) (hQ : prt t a = false → Q ν) (hE : prt t a = true → ∀ ν', XTt ν.1 ν'.1 → ν'.2 = ν.2 → Bd2 ν'.1 (1, a) → E ν') : xw_X2_parted ν Q E := by
  have he := h.2.2.1
  have ha := h.2.2.2.1
  have bad : prt t a = true → xw_X2_parted_32 ν Q E := by
    intro hp
    unfold xw_X2_parted_32
    rw [h.2.1]
    exact xl_wrong (hE hp)
  unfold xw_X2_parted
  rw [h.2.1]
  unfold prt at hQ bad
  rcases Nat.eq_zero_or_pos a with z | z
  · subst z
    have e1 : nI 0 - 1 = M1 := by decide
    rw [e1]
    have hm : ∀ R : Int32 → XN → Prop, R M1 ν → xw_X2_byteAt M1 ν R := fun R hR => by
      unfold xw_X2_byteAt
      exact ⟨fun _ => hR, fun q => absurd (by decide) q⟩
    refine hm _ ?_
    unfold xw_X0_isLetter
    refine ⟨fun _ => ⟨fun q => absurd rfl q, fun _ => ?_⟩, fun q => absurd (by decide) q⟩
    rw [h.2.1, e1]
    refine hm _ ?_
    unfold xw_X0_isDigit
    exact ⟨fun _ => ⟨fun _ => hQ rfl, fun q => absurd rfl q⟩, fun q => absurd (by decide) q⟩
  · rw [i_1, pk_sub (by omega)]
    have hlt : a - 1 < e := by omega
    have hb : bt t e (a - 1) = t (a - 1) := by unfold bt; rw [if_pos hlt]
    refine xl_rby h (by omega) (xl_letter (fun q => h.t q) ?_)
    rw [hb]
    rw [decide_eq_true z, Bool.true_and] at hQ bad
    by_cases w : isLt (t (a - 1)) = true
    · rw [if_pos w]
      rw [w, Bool.true_or] at bad
      exact ⟨fun _ => bad rfl, fun q => absurd q (by decide)⟩
    · rw [if_neg w]
      have w' : isLt (t (a - 1)) = false := by simpa using w
      rw [w', Bool.false_or] at hQ bad
      refine ⟨fun q => absurd rfl q, fun _ => ?_⟩
      rw [h.2.1, pk_sub (by omega)]
      refine xl_rby h (by omega) (xl_digit (fun q => h.t q) ?_)
      rw [hb]
      by_cases v : isDg (t (a - 1)) = true
      · rw [if_pos v]
        exact ⟨fun q => absurd q (by decide), fun _ => bad v⟩
      · rw [if_neg v]
        exact ⟨fun _ => hQ (by simpa using v), fun q => absurd rfl q⟩
theorem xl_must {ν : XN} {t : Nat → Nat} {e a c : Nat} {Q E : XN → Prop} (h : Tk ν.1 t e a) (hc : c < 256) (hQ : ∀ ν', bt t e (lk t e a) = c → XTt ν.1 ν'.1 → ν'.2 = ν.2 → Tk ν'.1 t e (lk t e a + 1) → Q ν') (hE : ∀ ν', ¬ bt t e (lk t e a) = c → XTt ν.1 ν'.1 → ν'.2 = ν.2 → Bd2 ν'.1 (1, lk t e a) → E ν') : xw_X2_must (nI c) ν Q E := by
  obtain ⟨l1, l2, l3, l4⟩ := lk_spec (t := t) h.2.2.2.1
  have he := h.2.2.1
  have hT := h.mv l2
  unfold xw_X2_must
  refine xl_here h ?_
  rw [byX_eq (fun z => h.t z) hc]
  have v2 : fI (sI ν.1 1 2 (nI (lk t e a))) 1 2 = nI (lk t e a) := hT.2.1
  refine ⟨fun z => ?_, fun z => ?_⟩
  · intro ν3 e3
    have hlt : lk t e a < e := by
      unfold bt at z
      split at z
      · assumption
      · omega
    refine hQ ν3 z ?_ (by rw [e3]) ?_
    · rw [e3]; exact (XTt.at _ _).trans (XTt.at _ _)
    · rw [e3]
      show Tk (sI (sI ν.1 1 2 (nI (lk t e a))) 1 2 (fI (sI ν.1 1 2 (nI (lk t e a))) 1 2 + 1)) t e _
      rw [v2, nI_1]
      exact hT.mv (by omega)
  · show xw_X2_wrong 1 (fI (sI ν.1 1 2 (nI (lk t e a))) 1 2) _ _
    rw [v2]
    exact xl_wrong (fun ν' f g b => hE ν' z ((XTt.at _ _).trans f) g b)
theorem xl_takes {ν : XN} {t : Nat → Nat} {e a c : Nat} {Q : Int32 → XN → Prop} (h : Tk ν.1 t e a) (hc : c < 256) (hy : ∀ ν', bt t e (lk t e a) = c → XTt ν.1 ν'.1 → ν'.2 = ν.2 → Tk ν'.1 t e (lk t e a + 1) → Q (nI 1) ν') (hn : ∀ ν', ¬ bt t e (lk t e a) = c → XTt ν.1 ν'.1 → ν'.2 = ν.2 → Tk ν'.1 t e (lk t e a) → Q (nI 0) ν') : xw_X2_takes (nI c) ν Q := by
  obtain ⟨l1, l2, l3, l4⟩ := lk_spec (t := t) h.2.2.2.1
  have he := h.2.2.1
  have hT := h.mv l2
  have v2 : fI (sI ν.1 1 2 (nI (lk t e a))) 1 2 = nI (lk t e a) := hT.2.1
  unfold xw_X2_takes
  refine xl_here h ?_
  rw [byX_eq (fun z => h.t z) hc]
  unfold xw_X2_takes_13 xw_X2_takes_28
  refine ⟨fun z => ⟨fun _ => ?_, fun q => absurd rfl q⟩, fun z => ⟨fun q => absurd q (by decide), fun _ => ?_⟩⟩
  · intro ν3 e3
    refine ⟨nb_0, hn ν3 z ?_ (by rw [e3]) ?_⟩
    · rw [e3]; exact (XTt.at _ _).trans (XTt.at _ _)
    · rw [e3]
      show Tk (sI (sI ν.1 1 2 (nI (lk t e a))) 1 2 (fI (sI ν.1 1 2 (nI (lk t e a))) 1 2 + 0)) t e _
      rw [v2, Int32.add_zero]
      exact hT.mv l2
  · intro ν3 e3
    have hlt : lk t e a < e := by
      unfold bt at z
      split at z
      · assumption
      · omega
    refine ⟨nb_1, hy ν3 z ?_ (by rw [e3]) ?_⟩
    · rw [e3]; exact (XTt.at _ _).trans (XTt.at _ _)
    · rw [e3]
      show Tk (sI (sI ν.1 1 2 (nI (lk t e a))) 1 2 (fI (sI ν.1 1 2 (nI (lk t e a))) 1 2 + 1)) t e _
      rw [v2, nI_1]
      exact hT.mv (by omega)
