/-! THE SYSTEM: words, numbers -/
theorem coder0 {n : Nat} : Int8.toInt32 (Int32.toInt8 ((Int32.toUInt32 (nI n - nI n) >>> (Int32.toUInt32 (31 : Int32) &&& Int32.toUInt32 31)).toInt32)) = nI 0 := by
  rw [Int32.sub_self]; decide
theorem xl_valueOf {ν : XN} {ca k n : Nat} {w : List Nat} {Q : Nat → XN → Prop} (h1 : rk ν.2 ca = 103) (h2 : rn ν.2 ca = w.length) (h3 : ∀ (i : Nat) c, w[i]? = some c → rI ν.2 ca i = nI c) (h4 : 1 ≤ w.length) (h5 : w.length < 2000) (h6 : ∀ c ∈ w, c < 128) (hk : 2 ≤ k) (hn : w.length + 4 ≤ n)
    (hQ : ∀ ν' r, ν'.1 = ν.1 → Old ν.2 ν'.2 → SRep ν'.2 r w → rk ν'.2 r = 11 → rk ν.2 r = 0 → rI ν'.2 r 2 = nI 0 ∧ rI ν'.2 r 3 = nI 0 → Q r ν') : xw_J6_valueOf ca ν k n Q := by
  unfold xw_J6_valueOf
  refine ⟨k - 1, n - 4, by omega, by omega, fun q1 hq1 ν3 e3 => ⟨k - 1, n - 4, 0, 0, by omega, by omega, ?_⟩⟩
  subst e3
  have n1 : ca ≠ q1 := fun z => by rw [z, hq1] at h1; cases h1
  have kca : rk (tN ν.2 q1 11 0) ca = 103 := by rw [rk_tN, if_neg n1]; exact h1
  have nca : rn (tN ν.2 q1 11 0) ca = w.length := by rw [rn_tN, if_neg n1]; exact h2
  have ica : rI (tN ν.2 q1 11 0) ca = rI ν.2 ca := by rw [rI_tN, if_neg n1]
  have kq1 : rk (tN ν.2 q1 11 0) q1 = 11 := by rw [rk_tN, if_pos rfl]
  have iq1 : rI (tN ν.2 q1 11 0) q1 = fun _ => 0 := by rw [rI_tN, if_pos rfl]
  have c3 : Chg (fun a => a = q1) ν.2 (tN ν.2 q1 11 0) := Chg.tN _ _ _ hq1
  generalize hρ3 : tN ν.2 q1 11 0 = ρ3 at *
  unfold xw_J6_init
  refine ⟨rcO kca (by decide), k - 1, n - 4, 0, 0, by omega, by omega, ?_⟩
  have en : Int32.ofNat (rn ρ3 ca) = nI w.length := by show nI (rn ρ3 ca) = _; rw [nca]
  show xw_J6_init_2 q1 ca 0 (Int32.ofNat (rn ρ3 ca)) none _ _ _ _
  rw [en]
  unfold xw_J6_init_2
  refine ⟨fun _ => ⟨fun z => absurd z (by decide), fun _ => ⟨k - 1, n - 4, 0, 0, by omega, by omega, ?_⟩⟩, fun z => ?_⟩
  rotate_left
  · rw [i_0, nI_eq (by omega) (by omega)] at z; omega
  unfold xw_J7_compress
  rw [nI_clamp (by omega)]
  refine ⟨?_, by omega, k - 2, n - 4 - w.length, by omega, by omega, fun q3 hq3 ν5 e5 => ?_⟩
  · rw [i_0, nI_ltI (by omega) (by omega)]; omega
  subst e5
  have hq3 : rk ρ3 q3 = 0 := hq3
  have n2 : ca ≠ q3 := fun z => by rw [z, hq3] at kca; cases kca
  have n3 : q1 ≠ q3 := fun z => by rw [z, hq3] at kq1; cases kq1
  have z3 : rk ν.2 q3 = 0 := by
    rcases Nat.eq_zero_or_pos (rk ν.2 q3) with z | z
    · exact z
    · have := (c3.1 q3 (by omega)).1; omega
  have kca5 : rk (tN ρ3 q3 102 w.length) ca = 103 := by rw [rk_tN, if_neg n2]; exact kca
  have nca5 : rn (tN ρ3 q3 102 w.length) ca = w.length := by rw [rn_tN, if_neg n2]; exact nca
  have ica5 : rI (tN ρ3 q3 102 w.length) ca = rI ν.2 ca := by rw [rI_tN, if_neg n2]; exact ica
  have kq15 : rk (tN ρ3 q3 102 w.length) q1 = 11 := by rw [rk_tN, if_neg n3]; exact kq1
  have iq15 : rI (tN ρ3 q3 102 w.length) q1 = fun _ => 0 := by rw [rI_tN, if_neg n3]; exact iq1
  have kq3 : rk (tN ρ3 q3 102 w.length) q3 = 102 := by rw [rk_tN, if_pos rfl]
  have nq3 : rn (tN ρ3 q3 102 w.length) q3 = w.length := by rw [rn_tN, if_pos rfl]
  have c5 : Chg (fun a => a = q1 ∨ a = q3) ν.2 (tN ρ3 q3 102 w.length) := (c3.wide (fun a _ h => Or.inl h)).trans (Chg.tN _ _ _ hq3)
  show xw_J7_compress_2 ca 0 q3 0 (nI w.length) (ν.1, tN ρ3 q3 102 w.length) _
  generalize hρ5 : tN ρ3 q3 102 w.length = ρ5 at *
  unfold xw_J7_compress_2 xw_J7_compress_2_3
  intro X hX
  have key : ∀ m i (ρ : RS), w.length - i = m → i ≤ w.length → Chg (fun a => a = q3) ρ5 ρ → (∀ j c, j < i → w[j]? = some c → rI ρ q3 j = nI c) → X ca (nI i) q3 (nI i) (nI w.length) (nI i) (ν.1, ρ) := by
    intro m
    induction m with
    | zero =>
      intro i ρ hm hi hc hv
      have hi2 : i = w.length := by omega
      have ec : Eqa ρ5 ρ q1 := hc.2 q1 (by rw [kq15]; decide) n3
      have k3 := hc.1 q3 (by rw [kq3]; decide)
      refine hX _ _ _ _ _ _ _ ⟨fun _ => ⟨fun _ => ?_, fun z => absurd rfl z⟩, fun z => absurd ((nI_leI (by omega) (by omega)).mpr (by omega)) z⟩
      unfold xw_J7_coderFromArrayLen
      have er : Int32.ofNat (rn ρ q3) = nI w.length := by show nI (rn ρ q3) = _; rw [k3.2, nq3]
      show rc ρ q3 = 102 ∧ _
      have e9 := @coder0 w.length
      refine ⟨rcO (by rw [k3.1]; exact kq3) (by decide), ?_⟩
      show narrow .byte (.int (Int8.toInt32 (Int32.toInt8 ((Int32.toUInt32 (nI w.length - Int32.ofNat (rn ρ q3)) >>> (Int32.toUInt32 (31 : Int32) &&& Int32.toUInt32 31)).toInt32)))) = _ ∧ _
      rw [er, e9]
      refine ⟨rfl, by rw [ec.1]; exact kq15, rfl, rfl, ?_⟩
      intro ν25 e25
      subst e25
      refine ⟨by show rk ρ q1 = 11; rw [ec.1]; exact kq15, ?_⟩
      intro ν30 e30
      subst e30
      have cF : Chg (fun a => a = q1 ∨ a = q3) ν.2 (tO (tI ρ q1 1 (nI 0)) q1 0 (some q3)) := ((c5.trans (hc.wide (fun a _ h => Or.inr h))).trans (Chg.tI _ _ _ (Or.inl rfl))).trans (Chg.tO _ _ _ (Or.inl rfl))
      have i1 : ∀ k', rI ρ q1 k' = 0 := fun k' => by rw [ec.2.2.1 k', iq15]
      refine hQ _ q1 rfl ((Old.refl ν.2).chg cF (fun a ha => by rcases ha with z | z; rw [z]; exact hq1; rw [z]; exact z3)) ⟨rcO (by show rk ρ q1 = 11; rw [ec.1]; exact kq15) (by decide), ?_, ⟨q3, by rw [rO_tO, if_pos ⟨rfl, rfl⟩], rcO (by show rk ρ q3 = 102; rw [k3.1]; exact kq3) (by decide), by show rn ρ q3 = _; rw [k3.2]; exact nq3, fun j c hj => ?_⟩, h5, h6⟩ (by show rk ρ q1 = 11; rw [ec.1]; exact kq15) hq1 ⟨?_, ?_⟩
      · show rI (tI ρ q1 1 (nI 0)) q1 1 = _
        rw [rI_tI, if_pos ⟨rfl, rfl⟩]
      · show rI (tI ρ q1 1 (nI 0)) q3 j = _
        rw [rI_tI, if_neg (fun q => n3 q.1.symm)]
        exact hv j c (by have := (List.getElem?_eq_some_iff.mp hj).1; omega) hj
      · show rI (tI ρ q1 1 (nI 0)) q1 2 = _
        rw [rI_tI, if_neg (by omega)]; exact i1 2
      · show rI (tI ρ q1 1 (nI 0)) q1 3 = _
        rw [rI_tI, if_neg (by omega)]; exact i1 3
    | succ m ih =>
      intro i ρ hm hi hc hv
      have hx := List.getElem?_eq_getElem (show i < w.length by omega)
      have hc128 := h6 _ (List.mem_of_getElem? hx)
      have ec : Eqa ρ5 ρ ca := hc.2 ca (by rw [kca5]; decide) n2
      have k3 := hc.1 q3 (by rw [kq3]; decide)
      have vi : rI ρ ca i = nI w[i] := by rw [ec.2.2.1 i, ica5]; exact h3 i _ hx
      refine hX _ _ _ _ _ _ _ ⟨fun z => absurd ((nI_leI (by omega) (by omega)).mp z) (by omega), fun _ => ?_⟩
      show rc ρ ca = 103 ∧ vp_in (nI i) (rn ρ ca) ∧ _
      refine ⟨rcO (by rw [ec.1]; exact kca5) (by decide), by rw [ec.2.1, nca5]; exact vp_in_nI (by omega) (by omega), ?_⟩
      rw [nI_clamp (by omega)]
      show (rI ρ ca i ≤ 255 → _) ∧ (¬ rI ρ ca i ≤ 255 → _)
      rw [vi, i_255, nI_leI (by omega) (by omega)]
      refine ⟨fun _ => ⟨by rw [k3.1]; exact kq3, by rw [k3.2, nq3]; exact vp_in_nI (by omega) (by omega), ?_⟩, fun z => absurd (by omega) z⟩
      intro ν3 e3
      subst e3
      show X ca (nI i + 1) q3 (nI i + 1) (nI w.length) (nI i + 1) (ν.1, tI ρ q3 i (vp_nar .byte (Int8.toInt32 (Int32.toInt8 (nI w[i])))))
      rw [(fits_byte _ hc128).2, nI_1]
      refine ih (i + 1) _ (by omega) (by omega) (hc.trans (Chg.tI _ _ _ rfl)) (fun j c hj hjw => ?_)
      rw [rI_tI]
      by_cases q : j = i
      · subst q
        rw [hx] at hjw
        cases hjw
        rw [if_pos ⟨rfl, rfl⟩]
      · rw [if_neg (fun v => q v.2)]; exact hv j c (by omega) hjw
  exact key _ 0 ρ5 rfl (by omega) (Chg.refl _ _) (fun j c hj => by omega)
theorem chr_ok : ∀ c, c < 128 → vp_nar .char (UInt32.toInt32 (Int32.toUInt32 (sb c) % 65536)) = nI c := by decide +kernel
theorem xl_word {ν : XN} {t : Nat → Nat} {e a k n : Nat} {Q : Nat → XN → Prop} {E : XN → Prop} (h : Tk ν.1 t e a) (hk : isLt (bt t e (lk t e a)) = true → 3 ≤ k) (hn : isLt (bt t e (lk t e a)) = true → 2 * (wE t e (lk t e a) - lk t e a) + 4 ≤ n)
    (hQ : ∀ ν' r, isLt (bt t e (lk t e a)) = true → prt t (lk t e a) = false → XTt ν.1 ν'.1 → Old ν.2 ν'.2 → Tk ν'.1 t e (wE t e (lk t e a)) → fI ν'.1 1 3 = nI (lk t e a) → SRep ν'.2 r (wd t (lk t e a) (wE t e (lk t e a))) → rk ν'.2 r = 11 → rk ν.2 r = 0 → rI ν'.2 r 2 = nI 0 ∧ rI ν'.2 r 3 = nI 0 → Q r ν')
    (hE : ∀ ν', ¬ (isLt (bt t e (lk t e a)) = true ∧ prt t (lk t e a) = false) → XTt ν.1 ν'.1 → ν'.2 = ν.2 → Bd2 ν'.1 (1, lk t e a) → E ν') : xw_X2_word_2 ν k n Q E := by
  obtain ⟨l1, l2, l3, l4⟩ := lk_spec (t := t) h.2.2.2.1
  have he := h.2.2.1
  have hT := h.mv l2
  have v2 : fI (sI ν.1 1 2 (nI (lk t e a))) 1 2 = nI (lk t e a) := hT.2.1
  unfold xw_X2_word_2
  refine xl_here h (xl_letter (fun z => h.t z) ?_)
  generalize hb : lk t e a = b at *
  by_cases hL : isLt (bt t e b) = true
  · rw [if_pos hL]
    have hk := hk hL
    have hn := hn hL
    obtain ⟨w1, w2, w3, w4⟩ := wE_spec hL
    refine ⟨fun _ => ?_, fun q => absurd q (by decide)⟩
    refine xl_parted (t := t) (e := e) (a := b) hT (fun hp => ?_) (fun hp ν' f g d => hE ν' (fun q => by rw [hp] at q; cases q.2) ((XTt.at _ _).trans f) g d)
    intro ν6 e6
    have f6 : XTt ν.1 ν6.1 := by rw [e6]; exact (XTt.at _ _).trans (XTt.fr _ _)
    have g6 : ν6.2 = ν.2 := by rw [e6]
    have fr6 : fI ν6.1 1 3 = nI b := by rw [e6]; show fI (sI (sI ν.1 1 2 (nI b)) 1 3 (fI (sI ν.1 1 2 (nI b)) 1 2)) 1 3 = _; rw [fI_sI, if_pos ⟨rfl, rfl⟩]; exact v2
    have at6 : fI ν6.1 1 2 = nI b := by rw [e6]; show fI (sI (sI ν.1 1 2 (nI b)) 1 3 (fI (sI ν.1 1 2 (nI b)) 1 2)) 1 2 = _; rw [fI_sI, if_neg (by omega)]; exact v2
    clear e6
    unfold xw_X2_word_2_32
    intro X hX
    have key : ∀ m c (ν1 : XN), wE t e b - c = m → b ≤ c → c ≤ wE t e b → XTt ν.1 ν1.1 → ν1.2 = ν.2 → fI ν1.1 1 3 = nI b → fI ν1.1 1 2 = nI c → X ν1 k n := by
      intro m
      induction m with
      | zero =>
        intro c ν1 hm h1 h2 f1 g1 fr1 at1
        have hc : c = wE t e b := by omega
        subst hc
        have T1 := h.to f1.r at1 w2
        refine hX _ _ _ ?_
        rw [at1]
        refine xl_rby T1 (by omega) (xl_letter (fun z => h.t z) ?_)
        have hnl : ¬ isLt (bt t e (wE t e b)) = true := by
          have := run_spec isLt t e _ b rfl (by omega)
          have h3 := this.2.2.1
          intro q
          have hlt := bt_lt q
          rw [bt_at hlt] at q
          exact h3 ⟨hlt, q⟩
        rw [if_neg hnl]
        refine ⟨fun _ => ?_, fun q => absurd rfl q⟩
        rw [at1, fr1, pk_sub (by omega), i_0, nI_ltI (by omega) (by omega), nI_clamp (by omega)]
        refine ⟨by omega, by omega, k - 1, n - (wE t e b - b), by omega, by omega, fun q17 hq ν19 e19 => ?_⟩
        have hq0 : rk ν.2 q17 = 0 := by rw [← g1]; exact hq
        -- the letters are copied
        unfold xw_X2_word_2_76
        intro Y hY
        have f19 : ν19.1 = ν1.1 := by rw [e19]
        have k19 : rk ν19.2 q17 = 103 := by rw [e19]; show rk (tN ν1.2 q17 103 _) q17 = _; rw [rk_tN, if_pos rfl]
        have n19 : rn ν19.2 q17 = wE t e b - b := by rw [e19]; show rn (tN ν1.2 q17 103 _) q17 = _; rw [rn_tN, if_pos rfl]
        have c19 : Chg (fun a => a = q17) ν.2 ν19.2 := by rw [e19, ← g1]; exact Chg.tN _ _ _ hq
        clear e19
        have cp : ∀ m2 i (ν2 : XN), wE t e b - b - i = m2 → i ≤ wE t e b - b → ν2.1 = ν1.1 → rk ν2.2 q17 = 103 → rn ν2.2 q17 = wE t e b - b → Chg (fun a => a = q17) ν.2 ν2.2 → (∀ j, j < i → rI ν2.2 q17 j = nI (t (b + j))) → Y q17 (nI (b + i)) ν2 (k - 1) (n - (wE t e b - b)) := by
          intro m2
          induction m2 with
          | zero =>
            intro i ν2 hm2 hi e2 k2 n2 c2 hv
            refine hY _ _ _ _ _ ?_
            rw [e2, at1, nI_leI (by omega) (by omega)]
            refine ⟨fun _ => ⟨k - 1, n - (wE t e b - b), 0, 0, by omega, by omega, ?_⟩, fun z => absurd (by omega) z⟩
            refine xl_valueOf (w := wd t b (wE t e b)) k2 (by rw [n2, wd_len]) (fun j c hj => ?_) (by rw [wd_len]; omega) (by rw [wd_len]; omega) (fun c hc => ?_) (by omega) (by rw [wd_len]; omega) (fun ν3 r e3 o3 s3 kr zr hr => ?_)
            · have hjl := (List.getElem?_eq_some_iff.mp hj).1
              rw [wd_len] at hjl
              rw [wd_at hjl] at hj
              cases hj
              exact hv j (by omega)
            · obtain ⟨j, hj⟩ := List.getElem?_of_mem hc
              have hjl := (List.getElem?_eq_some_iff.mp hj).1
              rw [wd_len] at hjl
              rw [wd_at hjl] at hj
              cases hj
              have := w4 (b + j) (by omega) (by omega)
              unfold isLt at this
              rw [decide_eq_true_iff] at this
              omega
            · have o2 : Old ν.2 ν2.2 := (Old.refl _).chg c2 (fun a ha => by rw [ha]; exact hq0)
              refine hQ ν3 r hL hp (by rw [e3, e2]; exact f1) (o2.trans o3) (by rw [e3, e2]; exact T1) (by rw [e3, e2]; exact fr1) s3 kr (o2.z zr) hr
          | succ m2 ih2 =>
            intro i ν2 hm2 hi e2 k2 n2 c2 hv
            have hlt : b + i < e := by omega
            have hl := w4 (b + i) (by omega) (by omega)
            unfold isLt at hl
            rw [decide_eq_true_iff] at hl
            have hby := (h.2.2.2.2 (b + i) (by omega)).1
            refine hY _ _ _ _ _ ?_
            rw [e2, at1, fr1, nI_leI (by omega) (by omega), pk_sub (show b ≤ b + i by omega), Nat.add_sub_cancel_left, nI_clamp (show i < 2 ^ 31 by omega), nI_clamp (show b + i < 2 ^ 31 by omega), f1.2.1, hby, chr_ok _ (by omega), n2]
            refine ⟨fun z => by omega, fun _ => ⟨vp_in_nI (by omega) (by decide), k2, vp_in_nI (by omega) (by omega), ?_⟩⟩
            intro ν3 e3
            subst e3
            rw [nI_1]
            refine ih2 (i + 1) _ (by omega) (by omega) rfl k2 n2 (c2.trans (Chg.tI _ _ _ rfl)) (fun j hj => ?_)
            show rI (tI ν2.2 q17 i _) q17 j = _
            rw [rI_tI]
            by_cases q : j = i
            · rw [if_pos ⟨rfl, q⟩, q]
            · rw [if_neg (fun v => q v.2)]; exact hv j (by omega)
        have h0 := cp _ 0 ν19 rfl (by omega) f19 k19 n19 c19 (fun j hj => by omega)
        rw [f19, fr1]
        exact h0
      | succ m ih =>
        intro c ν1 hm h1 h2 f1 g1 fr1 at1
        have hce : c < e := by omega
        have T1 := h.to f1.r at1 (by omega)
        have hl := w4 c h1 (by omega)
        refine hX _ _ _ ?_
        rw [at1]
        refine xl_rby T1 (by omega) (xl_letter (fun z => h.t z) ?_)
        rw [bt_at hce, if_pos hl]
        refine ⟨fun q => absurd q (by decide), fun _ => ?_⟩
        intro ν2 e2
        subst e2
        rw [at1, nI_1]
        refine ih (c + 1) _ (by omega) (by omega) (by omega) (f1.trans (XTt.at _ _)) g1 ?_ ?_
        · rw [fI_sI, if_neg (by omega)]; exact fr1
        · rw [fI_sI, if_pos ⟨rfl, rfl⟩]
    exact key _ b ν6 rfl (by omega) (by omega) f6 g6 fr6 at6
  · rw [if_neg hL]
    refine ⟨fun q => absurd rfl q, fun _ => ?_⟩
    show xw_X2_wrong 1 (fI (sI ν.1 1 2 (nI b)) 1 2) _ _
    rw [v2]
    exact xl_wrong (fun ν' f g d => hE ν' (fun q => hL q.1) ((XTt.at _ _).trans f) g d)
