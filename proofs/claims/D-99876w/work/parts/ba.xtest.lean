/-! THE SYSTEM: facts joined -/
theorem lpL_end {F : Nat → PR (List Nat)} {w : List Nat} {o : Nat} {t : Nat → Nat} {e : Nat} {a : Nat} (h : isW w t e (lk t e a) = false) : ∀ (f : Nat) (cs : List Nat), lpL F w o t e f cs a = .inl (cs, lk t e a)
  | 0, cs => rfl
  | f + 1, cs => by
    simp only [lpL]
    rw [if_neg (by rw [h]; decide)]
theorem lpL_nx {F : Nat → PR (List Nat)} {w : List Nat} {o : Nat} {t : Nat → Nat} {e : Nat} (hA : adv e F) {f : Nat} {cs ds : List Nat} {a b : Nat} (ha : a ≤ e) (h : lpL F w o t e f cs a = .inl (ds, b)) : nx t e a ≤ nx t e b + (b - a) := by
  obtain ⟨l1, l2, -, -⟩ := lk_spec (t := t) ha
  cases f with
  | zero =>
    simp only [lpL] at h
    cases h
    rw [nx_lk ha]; omega
  | succ f =>
    simp only [lpL] at h
    split at h
    · rename_i hw
      obtain ⟨w1, w2, -, -⟩ := wE_spec (isW_iff.mp hw).1
      obtain ⟨xx, bb, y1, y2⟩ := pB_ok h
      have y3 := hA _ xx bb w2 y1
      have y4 := adv_lpL hA _ _ _ _ _ y3.2 y2
      unfold nx
      omega
    · cases h
      rw [nx_lk ha]; omega
theorem xl_bothV {al : Nat → Bool} {b0 d e r cx bc bs gc gs : Nat} {t : Nat → Nat} {sp : Nat → PR (List Nat)} {AT FC : XN → Nat → Nat → (Nat → XN → Prop) → (XN → Prop) → Prop} (hA : ElT al b0 d t e r cx 0 bc bs gc gs sp (FC)) (hv : adv e sp) (hbc : 10 ≤ bc ∧ bc ≤ 40) (hbs : 40 ≤ bs ∧ bs ≤ 300) (hgc : 40 ≤ gc) (hgs : 200 ≤ gs) : ElT al b0 (d + 1) t e r cx 2 (bc - 10) (bs - 40) (gc + 10) (gs + 40) (fun a => pB (sp a) (fun cs b => lpL sp (str 86) 10 t e (e + 1 - b) cs b)) (xw_X2_both AT FC) := by
  intro ν a k n Q E hR hb1 hb2 hQ hE
  have hT := hR.1
  have ha : a ≤ e := hT.2.2.2.1
  have he : e ≤ 1600 := hT.2.2.1
  have hkn : 20 ≤ k ∧ 100 ≤ n := by
    cases hw : pB (sp a) (fun cs b => lpL sp (str 86) 10 t e (e + 1 - b) cs b) with
    | inl cb =>
      obtain ⟨cs, b⟩ := cb
      have h1 := hb1 cs b hw
      obtain ⟨xx, bb, y1, y2⟩ := pB_ok hw
      have y3 := hv _ xx bb ha y1
      have y4 := adv_lpL hv _ _ _ _ _ y3.2 y2
      omega
    | inr q =>
      have h1 := hb2 q hw
      omega
  unfold xw_X2_both
  refine ⟨k - 1, n - 2, by omega, by omega, fun q1 hq1 ν3 e3 => ⟨2, 5, k - 3, n - 7, by omega, by omega, ?_⟩⟩
  have k3 : rk ν3.2 q1 = 18 := by rw [e3]; show rk (tN ν.2 q1 18 0) q1 = 18; rw [rk_tN, if_pos rfl]
  have f3 : ν3.1 = ν.1 := by rw [e3]
  have c3 : Chg (fun a => a = q1) ν.2 ν3.2 := by rw [e3]; exact Chg.tN _ _ _ hq1
  clear e3
  refine xl_fcNew (o := 10) (by decide) k3 (by omega) (by omega) (fun ν9 la e9 hC9 c9 z9 => ?_)
  have cc9 := c3.trans c9
  have o9 : Old ν.2 ν9.2 := (Old.refl _).chg cc9 (fun x hx => by rw [hx]; exact hq1)
  have f9 : ν9.1 = ν.1 := e9.trans f3
  have x9 : XTt ν.1 ν9.1 := by rw [f9]; exact XTt.refl _
  have R9 : Rd ν9 t e a r cx b0 := hR.mv x9 o9 (by rw [f9]; exact hT)
  have zz9 : ∀ x, LSt ν9.2 la x → rk ν.2 x = 0 := fun x hx => (Old.refl ν.2).chg c3 (fun y hy => by rw [hy]; exact hq1) |>.z (z9 x hx)
  refine ⟨rcO hC9.1 (by decide), ?_⟩
  -- the loop
  have loop : ∀ (X : Nat → XN → Nat → Nat → Prop), (∀ (x1 : Nat) (ν : XN) (k n : Nat), (∀ b36, fR ν.1 900 17 = .ref b36 → (∃ k40 n41 k42 n43, k40 + k42 ≤ k ∧ n41 + n43 ≤ n ∧ xw_X2_passes b36 ν k40 n41 (fun r39 ν38 => ((r39 = 0 → Q x1 ν38) ∧ (¬ r39 = 0 → (rc ν38.2 x1 = 18 ∧ (∃ k49 n50 k51 n52, k49 + k51 ≤ k42 ∧ n50 + n52 ≤ n43 ∧ FC ν38 k49 n50 (fun r48 ν47 => (∃ b55, (rO ν38.2 x1 0) = some b55 ∧ (rc ν47.2 b55 = 7 ∧ (∃ k60 n61 k62 n63, k60 + k62 ≤ k51 ∧ n61 + n63 ≤ n52 ∧ xw_J2_add b55 r48 ν47 k60 n61 (fun r58 ν57 => X x1 ν57 k62 n63))))) E))))) E)) → X x1 ν k n) →
      ∀ (f a1 p1 : Nat) (cs as c0 : List Nat) (b c : Nat) (N : Nat → Prop) (ν1 : XN) (k1 n1 : Nat), e + 1 - a1 ≤ f → a1 ≤ e → a < a1 → a ≤ p1 → p1 ≤ a1 → lk t e p1 = lk t e a1 → as.length + 1 ≤ a1 - a → Rd ν1 t e p1 r cx b0 → XTt ν.1 ν1.1 → FcR ν1.2 q1 la 10 (b :: as) c → FcI al b0 d ν.2 N ν1.2 q1 la b 10 as c0 cs → (∀ cs' b', lpL sp (str 86) 10 t e f cs a1 = .inl (cs', b') → pB (sp a) (fun cs b => lpL sp (str 86) 10 t e (e + 1 - b) cs b) = .inl (cs', b') ∧ 62 * (b' - a1) + 3 ≤ k1 ∧ 420 * (b' - a1) + 2 * nx t e b' + lcB (as.length + 1) c + 4 ≤ n1 + 0 * nx t e a1) → (∀ q, lpL sp (str 86) 10 t e f cs a1 = .inr q → pB (sp a) (fun cs b => lpL sp (str 86) 10 t e (e + 1 - b) cs b) = .inr q ∧ 62 * (e - a1) + gc ≤ k1 ∧ 420 * (e - a1) + gs + lcB (as.length + 1) c ≤ n1 + 0 * nx t e a1) → X q1 ν1 k1 n1 := by
    intro X hX f
    induction f with
    | zero =>
      intro a1 p1 cs as c0 b c N ν1 k1 n1 hf hae _ _ _ _ _ _ _ _ _ _ _
      omega
    | succ f ih =>
      intro a1 p1 cs as c0 b c N ν1 k1 n1 hf hae haa hap hpa hlk hlen hR1 hx1 hC hI hy hn
      have hT1 := hR1.1
      have hp1 : p1 ≤ e := hT1.2.2.2.1
      obtain ⟨l1, l2, l3, l4⟩ := lk_spec (t := t) hae
      have hnx : nx t e p1 = nx t e a1 := by unfold nx; rw [hlk]
      have hnle := nx_le (t := t) hae
      obtain ⟨i1, i2, i4, i5, i6⟩ := hI
      have g4 := hC.2.2.2
      have hlc := g4.2.2.2
      simp only [List.length_cons] at hlc
      have hkn1 : 3 ≤ k1 ∧ 2 * nx t e a1 + 4 ≤ n1 := by
        cases hw : lpL sp (str 86) 10 t e (f + 1) cs a1 with
        | inl cb =>
          obtain ⟨cs', b'⟩ := cb
          have h1 := hy cs' b' hw
          have h2 := lpL_nx hv hae hw
          have h3 := adv_lpL hv _ _ _ _ _ hae hw
          omega
        | inr q =>
          have h1 := hn q hw
          omega
      refine hX _ _ _ _ (fun b36 hb36 => ?_)
      obtain ⟨mA, m1, m2⟩ := hR1.2.2.2.1.1 17 (by decide)
      rw [hb36] at m1
      cases m1
      rw [cW_t.2.1] at m2
      refine ⟨3, 2 * nx t e a1 + 4, k1 - 3, n1 - (2 * nx t e a1 + 4), by omega, by omega, ?_⟩
      refine xl_pasW hT1 m2 (by omega) (by omega) (fun ν2 hw f2 o2 T2 _ => ⟨fun z => absurd z (by decide), fun _ => ?_⟩) (fun ν2 a' hw hnb f2 o2 T2 u1 u2 u3 => ⟨fun _ => ?_, fun z => absurd rfl z⟩) (fun ν2 hL hp f2 o2 d2 => ?_)
      · -- one more
        rw [hlk] at hw T2
        obtain ⟨w1, w2, -, -⟩ := wE_spec (isW_iff.mp hw).1
        have hnw : nx t e a1 = wE t e (lk t e a1) - lk t e a1 := rfl
        generalize hW : wE t e (lk t e a1) = W at *
        simp only [lpL] at hy hn
        rw [if_pos hw, hW] at hy hn
        have hR2 : Rd ν2 t e W r cx b0 := hR1.mv f2 o2 T2
        have kq2 : rk ν2.2 q1 = 18 := by rw [(o2 q1 (by rw [hC.1]; decide)).1]; exact hC.1
        refine ⟨rcO kq2 (by decide), ?_⟩
        cases hs2 : sp W with
        | inr q2 =>
          rw [hs2] at hn
          obtain ⟨w3, w4, w5⟩ := hn q2 rfl
          refine ⟨k1 - 3, n1 - (2 * nx t e a1 + 4), 0, 0, by omega, by omega, ?_⟩
          refine hA ν2 _ _ _ _ _ hR2 (fun cs' b' hh => by rw [hs2] at hh; cases hh) (fun q' hh => ⟨by omega, by omega⟩) (fun ν' x N' cs' b' p' hh => by rw [hs2] at hh; cases hh) (fun ν' q' hh f' o' d' => ?_)
          rcases hh with hh | ⟨cs', b', hh, -⟩
          · rw [hs2] at hh
            cases hh
            exact hE ν' _ (Or.inl w3) (hx1.r.trans (f2.r.trans f')) (i6.trans (o2.trans o')) d'
          · rw [hs2] at hh; cases hh
        | inl cb =>
          obtain ⟨ds, b2⟩ := cb
          rw [hs2] at hy hn
          simp only [pB_inlR] at hy hn
          obtain ⟨⟨v1, v2⟩, v3⟩ := hv _ ds b2 w2 hs2
          have gk := grw_ok (c := c) (m := as.length + 1) (by omega) (by omega) (by omega)
          have hcb : 4 * (grw c (as.length + 1) - c) + lcB (as.length + 1 + 1) (grw c (as.length + 1)) ≤ lcB (as.length + 1) c + 8 := by
            unfold lcB; omega
          have hn2 := nx_le (t := t) v3
          have hkk : 62 * (b2 - W) + 4 ≤ k1 + bc ∧ 420 * (b2 - W) + 0 * nx t e b2 + lcB (as.length + 1) c + 8 + (2 * nx t e a1 + 4) ≤ n1 + bs := by
            cases hw : lpL sp (str 86) 10 t e f (cs ++ ds ++ [10]) b2 with
            | inl cb =>
              obtain ⟨cs', b'⟩ := cb
              have h1 := hy cs' b' hw
              have h2 := lpL_nx hv v3 hw
              have h3 := adv_lpL hv _ _ _ _ _ v3 hw
              omega
            | inr q =>
              have h1 := hn q hw
              omega
          refine ⟨62 * (b2 - W) - bc, 420 * (b2 - W) + 0 * nx t e b2 - bs, k1 - 3 - (62 * (b2 - W) - bc), n1 - (2 * nx t e a1 + 4) - (420 * (b2 - W) + 0 * nx t e b2 - bs), by omega, by omega, ?_⟩
          refine hA ν2 _ _ _ _ _ hR2 (fun cs' b' hh => ?_) (fun q' hh => by rw [hs2] at hh; cases hh) (fun ν' x N' cs' b' p' hh f' o' T' u1 u2 u3 V' z' => ?_) (fun ν' q' hh f' o' d' => ?_)
          · rw [hs2] at hh
            cases hh
            omega
          · rw [hs2] at hh
            cases hh
            have o1' : Old ν1.2 ν'.2 := o2.trans o'
            have eq2 := o2 q1 (by rw [hC.1]; decide)
            have eq := o1' q1 (by rw [hC.1]; decide)
            have kq : rk ν'.2 q1 = 18 := by rw [eq.1]; exact hC.1
            have hlst : ∀ y, LSt ν1.2 la y → rk ν1.2 y ≠ 0 := fun y hy => by rcases LSt.k g4 hy with v | v <;> rw [v] <;> decide
            have L' : LC ν'.2 la (b :: as) c := g4.mv (fun y hy => o1' y (hlst y hy)) (fun y hy => (o1' y (rc_rk (by have := g4.2.2.2.2.2.2.2 y hy; omega))).1)
            have S' : ∀ y, LSt ν'.2 la y → LSt ν1.2 la y := by
              intro y hy
              rcases hy with z | z
              · exact Or.inl z
              · rw [(o1' la (hlst la (Or.inl rfl))).2.2.2.2] at z; exact Or.inr z
            have xc : 1 ≤ rc ν'.2 x ∧ rc ν'.2 x < 23 := by have := VT.isT V'.v; omega
            refine ⟨la, by rw [eq2.2.2.2.2]; exact hC.2.1, rcO L'.1 (by decide), 1, 4 * (grw c (as.length + 1) - c), k1 - 3 - (62 * (b2 - W) - bc) - 1, n1 - (2 * nx t e a1 + 4) - (420 * (b2 - W) + 0 * nx t e b2 - bs) - 4 * (grw c (as.length + 1) - c), by omega, by omega, ?_⟩
            refine xl_add L' xc (by simp only [List.length_cons]; omega) (by omega) (by simp only [List.length_cons]; omega) (fun ν4 e4 L4 c4 z4 => ?_)
            have f4 : XTt ν'.1 ν4.1 := by rw [e4]; exact XTt.refl _
            have new' : ∀ y, LSt ν'.2 la y → rk ν.2 y = 0 := fun y hy => i5 y (S' y hy)
            have o4 : Old ν.2 ν4.2 := (i6.trans o1').chg c4 new'
            have hx4 : XTt ν.1 ν4.1 := ((hx1.trans f2).trans f').trans f4
            have T4 : Tk ν4.1 t e p' := by rw [e4]; exact T'
            have R4 : Rd ν4 t e p' r cx b0 := hR.mv hx4 o4 T4
            simp only [List.length_cons] at L4
            have nQ : ¬ LSt ν'.2 la q1 := fun w => by rcases LSt.k L' w with v | v <;> rw [kq] at v <;> cases v
            have eq4 := c4.2 q1 (by rw [kq]; decide) nQ
            have C4 : FcR ν4.2 q1 la 10 (b :: (as ++ [x])) (grw c (as.length + 1)) := ⟨by rw [eq4.1]; exact kq, by rw [eq4.2.2.2.2, eq.2.2.2.2]; exact hC.2.1, by rw [eq4.2.2.1, eq.2.2.1]; exact hC.2.2.1, L4⟩
            have nN : ∀ y, N y → rk ν'.2 y ≠ 0 ∧ ¬ LSt ν'.2 la y := fun y hy => ⟨by rw [(o1' y (i1 y hy).1).1]; exact (i1 y hy).1, fun w => (i1 y hy).2.1 (S' y w)⟩
            have z1' : ∀ y, N' y → rk ν1.2 y = 0 := fun y hy => o2.z (z' y hy)
            have nN' : ∀ y, N' y → rk ν'.2 y ≠ 0 ∧ ¬ LSt ν'.2 la y := fun y hy => ⟨V'.1 y hy, fun w => hlst y (S' y w) (z1' y hy)⟩
            have sN : Sme N ν'.2 ν4.2 := c4.sme nN
            have sN' : Sme N' ν'.2 ν4.2 := c4.sme nN'
            refine ih b2 p' (cs ++ ds ++ [10]) (as ++ [x]) c0 b (grw c (as.length + 1)) (fun y => N y ∨ N' y) ν4 _ _ (by omega) v3 (by omega) (by omega) u2 u3 (by simp; omega) R4 hx4 C4 ?_ (fun cs' b' hh => ?_) (fun q' hh => ?_)
            · refine ⟨fun y hy => ?_, fun ρ' hs => ?_, i4, fun y hy => ?_, o4⟩
              · rcases hy with w | w
                · refine ⟨by rw [(c4.1 y (nN y w).1).1]; exact (nN y w).1, fun u => ?_, (i1 y w).2.2.1, (i1 y w).2.2.2⟩
                  rcases z4 y u with v | v
                  · exact (nN y w).2 v
                  · exact (nN y w).1 v
                · have h1 := z1' y w
                  refine ⟨by rw [(c4.1 y (nN' y w).1).1]; exact (nN' y w).1, fun u => ?_, (fun u => by rw [u, hC.1] at h1; cases h1), i6.z h1⟩
                  rcases z4 y u with v | v
                  · exact (nN' y w).2 v
                  · exact (nN' y w).1 v
              · obtain ⟨y1, y2⟩ := i2 ρ' (fun y hy => Eqa.trans (o1' y (i1 y hy).1) ((sN y hy).trans (hs y (Or.inl hy))))
                have y3 := V'.2 ρ' (fun y hy => (sN' y hy).trans (hs y (Or.inr hy)))
                refine ⟨y1, ?_⟩
                rw [List.map_append]
                exact jn.snoc (o := 10) y3 (by decide) (by decide) y2
              · rcases z4 y hy with v | v
                · exact new' y v
                · exact (i6.trans o1').z v
            · obtain ⟨w3, w4, w5⟩ := hy cs' b' hh
              have h3 := adv_lpL hv _ _ _ _ _ v3 hh
              refine ⟨w3, by omega, ?_⟩
              simp only [List.length_append, List.length_singleton]
              omega
            · obtain ⟨w3, w4, w5⟩ := hn q' hh
              refine ⟨w3, by omega, ?_⟩
              simp only [List.length_append, List.length_singleton]
              omega
          · rcases hh with hh | ⟨cs', b', hh, hq', hL', hp'⟩
            · rw [hs2] at hh; cases hh
            · rw [hs2] at hh
              cases hh
              have hend := lpL_end (F := sp) (w := str 86) (o := 10) (isW_no hp') f (cs ++ ds ++ [10])
              obtain ⟨w3, -, -⟩ := hy _ _ hend
              refine hE ν' q' (Or.inr ⟨_, _, w3, ?_, ?_, ?_⟩) (hx1.r.trans (f2.r.trans f')) (i6.trans (o2.trans o')) d'
              · rw [lk_lk v3]; exact hq'
              · rw [lk_lk v3]; exact hL'
              · rw [lk_lk v3]; exact hp'
      · -- no more
        rw [hlk] at hw u2 u3
        have hend := lpL_end (F := sp) (w := str 86) (o := 10) hw (f + 1) cs
        obtain ⟨w3, -, -⟩ := hy _ _ hend
        obtain ⟨V, Z⟩ := FcI.v (c := c) (by decide) ⟨i1, i2, i4, i5, i6⟩ hC
        have V2 : TTs al b0 (d + 1) (fun x => N x ∨ x = q1 ∨ LSt ν1.2 la x) ν2.2 q1 cs := V.mv (fun y hy => o2 y (V.1 y hy))
        refine hQ ν2 q1 _ cs _ a' w3 (hx1.trans f2) (i6.trans o2) T2 (by omega) u2 ?_ V2 Z
        rw [lk_lk hae]; exact u3
      · -- a word that is not parted
        rw [hlk] at hL hp d2
        have hend := lpL_end (F := sp) (w := str 86) (o := 10) (isW_no hp) (f + 1) cs
        obtain ⟨w3, -, -⟩ := hy _ _ hend
        refine hE ν2 _ (Or.inr ⟨_, _, w3, ?_, ?_, ?_⟩) (hx1.r.trans f2.r) (i6.trans o2) d2
        · rw [lk_lk hae]
        · rw [lk_lk hae]; exact hL
        · rw [lk_lk hae]; exact hp
  cases hs : sp a with
  | inr q =>
    have hsp : pB (sp a) (fun cs b => lpL sp (str 86) 10 t e (e + 1 - b) cs b) = .inr q := by rw [hs]; rfl
    obtain ⟨w1, w2⟩ := hb2 q hsp
    refine ⟨k - 3, n - 7, 0, 0, by omega, by omega, ?_⟩
    refine hA ν9 a _ _ _ _ R9 (fun cs' b' hh => by rw [hs] at hh; cases hh) (fun q' hh => ⟨by omega, by omega⟩) (fun ν' x N' cs' b' p' hh => by rw [hs] at hh; cases hh) (fun ν' q' hh f' o' d' => ?_)
    rcases hh with hh | ⟨cs', b', hh, -⟩
    · rw [hs] at hh
      cases hh
      exact hE ν' _ (Or.inl hsp) (x9.r.trans f') (o9.trans o') d'
    · rw [hs] at hh; cases hh
  | inl cb =>
    obtain ⟨cs1, b1⟩ := cb
    obtain ⟨⟨v1, v2⟩, v3⟩ := hv _ cs1 b1 ha hs
    have hsp : pB (sp a) (fun cs b => lpL sp (str 86) 10 t e (e + 1 - b) cs b) = lpL sp (str 86) 10 t e (e + 1 - b1) cs1 b1 := by rw [hs]; rfl
    have hn1 := nx_le (t := t) v3
    have hkk : 62 * (b1 - a) + 10 ≤ k + bc ∧ 420 * (b1 - a) + 0 * nx t e b1 + 30 ≤ n + bs := by
      cases hw : lpL sp (str 86) 10 t e (e + 1 - b1) cs1 b1 with
      | inl cb =>
        obtain ⟨cs', b'⟩ := cb
        have h1 := hb1 cs' b' (hsp.trans hw)
        have h2 := lpL_nx hv v3 hw
        have h3 := adv_lpL hv _ _ _ _ _ v3 hw
        omega
      | inr q =>
        have h1 := hb2 q (hsp.trans hw)
        omega
    refine ⟨62 * (b1 - a) - bc, 420 * (b1 - a) + 0 * nx t e b1 - bs, k - 3 - (62 * (b1 - a) - bc), n - 7 - (420 * (b1 - a) + 0 * nx t e b1 - bs), by omega, by omega, ?_⟩
    refine hA ν9 a _ _ _ _ R9 (fun cs' b' hh => ?_) (fun q' hh => by rw [hs] at hh; cases hh) (fun ν' x N' cs' b' p' hh f' o' T' u1 u2 u3 V' z' => ?_) (fun ν' q' hh f' o' d' => ?_)
    · rw [hs] at hh
      cases hh
      omega
    · rw [hs] at hh
      cases hh
      have g4 := hC9.2.2.2
      have eq := o' q1 (by rw [hC9.1]; decide)
      have kq : rk ν'.2 q1 = 18 := by rw [eq.1]; exact hC9.1
      have hlst : ∀ y, LSt ν9.2 la y → rk ν9.2 y ≠ 0 := fun y hy => by rcases LSt.k g4 hy with v | v <;> rw [v] <;> decide
      have L' : LC ν'.2 la [] 2 := g4.mv (fun y hy => o' y (hlst y hy)) (fun y hy => by cases hy)
      have S' : ∀ y, LSt ν'.2 la y → LSt ν9.2 la y := by
        intro y hy
        rcases hy with z | z
        · exact Or.inl z
        · rw [(o' la (hlst la (Or.inl rfl))).2.2.2.2] at z; exact Or.inr z
      have xc : 1 ≤ rc ν'.2 x ∧ rc ν'.2 x < 23 := by have := VT.isT V'.v; omega
      refine ⟨la, hC9.2.1, rcO L'.1 (by decide), 1, 0, k - 3 - (62 * (b1 - a) - bc) - 1, n - 7 - (420 * (b1 - a) + 0 * nx t e b1 - bs), by omega, by omega, ?_⟩
      refine xl_add L' xc (by decide) (by decide) (by decide) (fun ν4 e4 L4 c4 z4 => ?_)
      have f4 : XTt ν'.1 ν4.1 := by rw [e4]; exact XTt.refl _
      have new' : ∀ y, LSt ν'.2 la y → rk ν.2 y = 0 := fun y hy => zz9 y (S' y hy)
      have o4 : Old ν.2 ν4.2 := (o9.trans o').chg c4 new'
      have hx4 : XTt ν.1 ν4.1 := (x9.trans f').trans f4
      have T4 : Tk ν4.1 t e p' := by rw [e4]; exact T'
      have R4 : Rd ν4 t e p' r cx b0 := hR.mv hx4 o4 T4
      have nQ : ¬ LSt ν'.2 la q1 := fun w => by rcases LSt.k L' w with v | v <;> rw [kq] at v <;> cases v
      have eq4 := c4.2 q1 (by rw [kq]; decide) nQ
      have C4 : FcR ν4.2 q1 la 10 [x] 2 := ⟨by rw [eq4.1]; exact kq, by rw [eq4.2.2.2.2, eq.2.2.2.2]; exact hC9.2.1, by rw [eq4.2.2.1, eq.2.2.1]; exact hC9.2.2.1, L4⟩
      have nN' : ∀ y, N' y → rk ν'.2 y ≠ 0 ∧ ¬ LSt ν'.2 la y := fun y hy => ⟨V'.1 y hy, fun w => hlst y (S' y w) (z' y hy)⟩
      have sN' : Sme N' ν'.2 ν4.2 := c4.sme nN'
      unfold xw_X2_both_23
      intro X hX
      refine loop X hX (e + 1 - b1) b1 p' cs1 [] cs1 x 2 N' ν4 _ _ (Nat.le_refl _) v3 v1 u1 u2 u3 (by simp; omega) R4 hx4 C4 ⟨fun y hy => ?_, fun ρ' hs' => ⟨V'.2 ρ' (fun y hy => (sN' y hy).trans (hs' y hy)), rfl⟩, hq1, fun y hy => ?_, o4⟩ (fun cs' b' hh => ?_) (fun q' hh => ?_)
      · have h1 : rk ν9.2 y = 0 := z' y hy
        refine ⟨by rw [(c4.1 y (nN' y hy).1).1]; exact (nN' y hy).1, fun u => ?_, (fun u => by rw [u, hC9.1] at h1; cases h1), o9.z h1⟩
        rcases z4 y u with v | v
        · exact (nN' y hy).2 v
        · exact (nN' y hy).1 v
      · rcases z4 y hy with v | v
        · exact new' y v
        · exact (o9.trans o').z v
      · obtain ⟨w2, w3⟩ := hb1 cs' b' (hsp.trans hh)
        have h2 := adv_lpL hv _ _ _ _ _ v3 hh
        have : lcB 1 2 = 8 := rfl
        exact ⟨hsp.trans hh, by omega, by show _ + lcB 1 2 + 4 ≤ _; omega⟩
      · obtain ⟨w2, w3⟩ := hb2 q' (hsp.trans hh)
        have : lcB 1 2 = 8 := rfl
        exact ⟨hsp.trans hh, by omega, by show _ + lcB 1 2 ≤ _; omega⟩
    · rcases hh with hh | ⟨cs', b', hh, hq', hL', hp'⟩
      · rw [hs] at hh; cases hh
      · rw [hs] at hh
        cases hh
        have hend := lpL_end (F := sp) (w := str 86) (o := 10) (isW_no hp') (e + 1 - b1) cs1
        refine hE ν' q' (Or.inr ⟨_, _, hsp.trans hend, ?_, ?_, ?_⟩) (x9.r.trans f') (o9.trans o') d'
        · rw [lk_lk v3]; exact hq'
        · rw [lk_lk v3]; exact hL'
        · rw [lk_lk v3]; exact hp'
theorem xl_testV {al : Nat → Bool} {b0 d e r cx bc bs gc gs : Nat} {t : Nat → Nat} {sp : Nat → PR (List Nat)} {AT FC : XN → Nat → Nat → (Nat → XN → Prop) → (XN → Prop) → Prop} (hA : ElT al b0 d t e r cx 2 bc bs gc gs sp (xw_X2_both AT FC)) (hv : adv e sp) (hbc : 10 ≤ bc ∧ bc ≤ 40) (hbs : 40 ≤ bs ∧ bs ≤ 300) (hgc : 40 ≤ gc) (hgs : 200 ≤ gs) : ElT al b0 (d + 1) t e r cx 4 (bc - 10) (bs - 40) (gc + 10) (gs + 40) (fun a => pB (sp a) (fun cs b => lpL sp (str 87) 11 t e (e + 1 - b) cs b)) (xw_X2_test AT FC) := by
  intro ν a k n Q E hR hb1 hb2 hQ hE
  have hT := hR.1
  have ha : a ≤ e := hT.2.2.2.1
  have he : e ≤ 1600 := hT.2.2.1
  have hkn : 20 ≤ k ∧ 100 ≤ n := by
    cases hw : pB (sp a) (fun cs b => lpL sp (str 87) 11 t e (e + 1 - b) cs b) with
    | inl cb =>
      obtain ⟨cs, b⟩ := cb
      have h1 := hb1 cs b hw
      obtain ⟨xx, bb, y1, y2⟩ := pB_ok hw
      have y3 := hv _ xx bb ha y1
      have y4 := adv_lpL hv _ _ _ _ _ y3.2 y2
      omega
    | inr q =>
      have h1 := hb2 q hw
      omega
  unfold xw_X2_test
  refine ⟨k - 1, n - 2, by omega, by omega, fun q1 hq1 ν3 e3 => ⟨2, 5, k - 3, n - 7, by omega, by omega, ?_⟩⟩
  have k3 : rk ν3.2 q1 = 18 := by rw [e3]; show rk (tN ν.2 q1 18 0) q1 = 18; rw [rk_tN, if_pos rfl]
  have f3 : ν3.1 = ν.1 := by rw [e3]
  have c3 : Chg (fun a => a = q1) ν.2 ν3.2 := by rw [e3]; exact Chg.tN _ _ _ hq1
  clear e3
  refine xl_fcNew (o := 11) (by decide) k3 (by omega) (by omega) (fun ν9 la e9 hC9 c9 z9 => ?_)
  have cc9 := c3.trans c9
  have o9 : Old ν.2 ν9.2 := (Old.refl _).chg cc9 (fun x hx => by rw [hx]; exact hq1)
  have f9 : ν9.1 = ν.1 := e9.trans f3
  have x9 : XTt ν.1 ν9.1 := by rw [f9]; exact XTt.refl _
  have R9 : Rd ν9 t e a r cx b0 := hR.mv x9 o9 (by rw [f9]; exact hT)
  have zz9 : ∀ x, LSt ν9.2 la x → rk ν.2 x = 0 := fun x hx => (Old.refl ν.2).chg c3 (fun y hy => by rw [hy]; exact hq1) |>.z (z9 x hx)
  refine ⟨rcO hC9.1 (by decide), ?_⟩
  -- the loop
  have loop : ∀ (X : Nat → XN → Nat → Nat → Prop), (∀ (x1 : Nat) (ν : XN) (k n : Nat), (∀ b36, fR ν.1 900 16 = .ref b36 → (∃ k40 n41 k42 n43, k40 + k42 ≤ k ∧ n41 + n43 ≤ n ∧ xw_X2_passes b36 ν k40 n41 (fun r39 ν38 => ((r39 = 0 → Q x1 ν38) ∧ (¬ r39 = 0 → (rc ν38.2 x1 = 18 ∧ (∃ k49 n50 k51 n52, k49 + k51 ≤ k42 ∧ n50 + n52 ≤ n43 ∧ xw_X2_both AT FC ν38 k49 n50 (fun r48 ν47 => (∃ b55, (rO ν38.2 x1 0) = some b55 ∧ (rc ν47.2 b55 = 7 ∧ (∃ k60 n61 k62 n63, k60 + k62 ≤ k51 ∧ n61 + n63 ≤ n52 ∧ xw_J2_add b55 r48 ν47 k60 n61 (fun r58 ν57 => X x1 ν57 k62 n63))))) E))))) E)) → X x1 ν k n) →
      ∀ (f a1 p1 : Nat) (cs as c0 : List Nat) (b c : Nat) (N : Nat → Prop) (ν1 : XN) (k1 n1 : Nat), e + 1 - a1 ≤ f → a1 ≤ e → a < a1 → a ≤ p1 → p1 ≤ a1 → lk t e p1 = lk t e a1 → as.length + 1 ≤ a1 - a → Rd ν1 t e p1 r cx b0 → XTt ν.1 ν1.1 → FcR ν1.2 q1 la 11 (b :: as) c → FcI al b0 d ν.2 N ν1.2 q1 la b 11 as c0 cs → (∀ cs' b', lpL sp (str 87) 11 t e f cs a1 = .inl (cs', b') → pB (sp a) (fun cs b => lpL sp (str 87) 11 t e (e + 1 - b) cs b) = .inl (cs', b') ∧ 62 * (b' - a1) + 3 ≤ k1 ∧ 420 * (b' - a1) + 4 * nx t e b' + lcB (as.length + 1) c + 4 ≤ n1 + 2 * nx t e a1) → (∀ q, lpL sp (str 87) 11 t e f cs a1 = .inr q → pB (sp a) (fun cs b => lpL sp (str 87) 11 t e (e + 1 - b) cs b) = .inr q ∧ 62 * (e - a1) + gc ≤ k1 ∧ 420 * (e - a1) + gs + lcB (as.length + 1) c ≤ n1 + 2 * nx t e a1) → X q1 ν1 k1 n1 := by
    intro X hX f
    induction f with
    | zero =>
      intro a1 p1 cs as c0 b c N ν1 k1 n1 hf hae _ _ _ _ _ _ _ _ _ _ _
      omega
    | succ f ih =>
      intro a1 p1 cs as c0 b c N ν1 k1 n1 hf hae haa hap hpa hlk hlen hR1 hx1 hC hI hy hn
      have hT1 := hR1.1
      have hp1 : p1 ≤ e := hT1.2.2.2.1
      obtain ⟨l1, l2, l3, l4⟩ := lk_spec (t := t) hae
      have hnx : nx t e p1 = nx t e a1 := by unfold nx; rw [hlk]
      have hnle := nx_le (t := t) hae
      obtain ⟨i1, i2, i4, i5, i6⟩ := hI
      have g4 := hC.2.2.2
      have hlc := g4.2.2.2
      simp only [List.length_cons] at hlc
      have hkn1 : 3 ≤ k1 ∧ 2 * nx t e a1 + 4 ≤ n1 := by
        cases hw : lpL sp (str 87) 11 t e (f + 1) cs a1 with
        | inl cb =>
          obtain ⟨cs', b'⟩ := cb
          have h1 := hy cs' b' hw
          have h2 := lpL_nx hv hae hw
          have h3 := adv_lpL hv _ _ _ _ _ hae hw
          omega
        | inr q =>
          have h1 := hn q hw
          omega
      refine hX _ _ _ _ (fun b36 hb36 => ?_)
      obtain ⟨mA, m1, m2⟩ := hR1.2.2.2.1.1 16 (by decide)
      rw [hb36] at m1
      cases m1
      rw [cW_t.1] at m2
      refine ⟨3, 2 * nx t e a1 + 4, k1 - 3, n1 - (2 * nx t e a1 + 4), by omega, by omega, ?_⟩
      refine xl_pasW hT1 m2 (by omega) (by omega) (fun ν2 hw f2 o2 T2 _ => ⟨fun z => absurd z (by decide), fun _ => ?_⟩) (fun ν2 a' hw hnb f2 o2 T2 u1 u2 u3 => ⟨fun _ => ?_, fun z => absurd rfl z⟩) (fun ν2 hL hp f2 o2 d2 => ?_)
      · -- one more
        rw [hlk] at hw T2
        obtain ⟨w1, w2, -, -⟩ := wE_spec (isW_iff.mp hw).1
        have hnw : nx t e a1 = wE t e (lk t e a1) - lk t e a1 := rfl
        generalize hW : wE t e (lk t e a1) = W at *
        simp only [lpL] at hy hn
        rw [if_pos hw, hW] at hy hn
        have hR2 : Rd ν2 t e W r cx b0 := hR1.mv f2 o2 T2
        have kq2 : rk ν2.2 q1 = 18 := by rw [(o2 q1 (by rw [hC.1]; decide)).1]; exact hC.1
        refine ⟨rcO kq2 (by decide), ?_⟩
        cases hs2 : sp W with
        | inr q2 =>
          rw [hs2] at hn
          obtain ⟨w3, w4, w5⟩ := hn q2 rfl
          refine ⟨k1 - 3, n1 - (2 * nx t e a1 + 4), 0, 0, by omega, by omega, ?_⟩
          refine hA ν2 _ _ _ _ _ hR2 (fun cs' b' hh => by rw [hs2] at hh; cases hh) (fun q' hh => ⟨by omega, by omega⟩) (fun ν' x N' cs' b' p' hh => by rw [hs2] at hh; cases hh) (fun ν' q' hh f' o' d' => ?_)
          rcases hh with hh | ⟨cs', b', hh, -⟩
          · rw [hs2] at hh
            cases hh
            exact hE ν' _ (Or.inl w3) (hx1.r.trans (f2.r.trans f')) (i6.trans (o2.trans o')) d'
          · rw [hs2] at hh; cases hh
        | inl cb =>
          obtain ⟨ds, b2⟩ := cb
          rw [hs2] at hy hn
          simp only [pB_inlR] at hy hn
          obtain ⟨⟨v1, v2⟩, v3⟩ := hv _ ds b2 w2 hs2
          have gk := grw_ok (c := c) (m := as.length + 1) (by omega) (by omega) (by omega)
          have hcb : 4 * (grw c (as.length + 1) - c) + lcB (as.length + 1 + 1) (grw c (as.length + 1)) ≤ lcB (as.length + 1) c + 8 := by
            unfold lcB; omega
          have hn2 := nx_le (t := t) v3
          have hkk : 62 * (b2 - W) + 4 ≤ k1 + bc ∧ 420 * (b2 - W) + 2 * nx t e b2 + lcB (as.length + 1) c + 8 + (2 * nx t e a1 + 4) ≤ n1 + bs := by
            cases hw : lpL sp (str 87) 11 t e f (cs ++ ds ++ [11]) b2 with
            | inl cb =>
              obtain ⟨cs', b'⟩ := cb
              have h1 := hy cs' b' hw
              have h2 := lpL_nx hv v3 hw
              have h3 := adv_lpL hv _ _ _ _ _ v3 hw
              omega
            | inr q =>
              have h1 := hn q hw
              omega
          refine ⟨62 * (b2 - W) - bc, 420 * (b2 - W) + 2 * nx t e b2 - bs, k1 - 3 - (62 * (b2 - W) - bc), n1 - (2 * nx t e a1 + 4) - (420 * (b2 - W) + 2 * nx t e b2 - bs), by omega, by omega, ?_⟩
          refine hA ν2 _ _ _ _ _ hR2 (fun cs' b' hh => ?_) (fun q' hh => by rw [hs2] at hh; cases hh) (fun ν' x N' cs' b' p' hh f' o' T' u1 u2 u3 V' z' => ?_) (fun ν' q' hh f' o' d' => ?_)
          · rw [hs2] at hh
            cases hh
            omega
          · rw [hs2] at hh
            cases hh
            have o1' : Old ν1.2 ν'.2 := o2.trans o'
            have eq2 := o2 q1 (by rw [hC.1]; decide)
            have eq := o1' q1 (by rw [hC.1]; decide)
            have kq : rk ν'.2 q1 = 18 := by rw [eq.1]; exact hC.1
            have hlst : ∀ y, LSt ν1.2 la y → rk ν1.2 y ≠ 0 := fun y hy => by rcases LSt.k g4 hy with v | v <;> rw [v] <;> decide
            have L' : LC ν'.2 la (b :: as) c := g4.mv (fun y hy => o1' y (hlst y hy)) (fun y hy => (o1' y (rc_rk (by have := g4.2.2.2.2.2.2.2 y hy; omega))).1)
            have S' : ∀ y, LSt ν'.2 la y → LSt ν1.2 la y := by
              intro y hy
              rcases hy with z | z
              · exact Or.inl z
              · rw [(o1' la (hlst la (Or.inl rfl))).2.2.2.2] at z; exact Or.inr z
            have xc : 1 ≤ rc ν'.2 x ∧ rc ν'.2 x < 23 := by have := VT.isT V'.v; omega
            refine ⟨la, by rw [eq2.2.2.2.2]; exact hC.2.1, rcO L'.1 (by decide), 1, 4 * (grw c (as.length + 1) - c), k1 - 3 - (62 * (b2 - W) - bc) - 1, n1 - (2 * nx t e a1 + 4) - (420 * (b2 - W) + 2 * nx t e b2 - bs) - 4 * (grw c (as.length + 1) - c), by omega, by omega, ?_⟩
            refine xl_add L' xc (by simp only [List.length_cons]; omega) (by omega) (by simp only [List.length_cons]; omega) (fun ν4 e4 L4 c4 z4 => ?_)
            have f4 : XTt ν'.1 ν4.1 := by rw [e4]; exact XTt.refl _
            have new' : ∀ y, LSt ν'.2 la y → rk ν.2 y = 0 := fun y hy => i5 y (S' y hy)
            have o4 : Old ν.2 ν4.2 := (i6.trans o1').chg c4 new'
            have hx4 : XTt ν.1 ν4.1 := ((hx1.trans f2).trans f').trans f4
            have T4 : Tk ν4.1 t e p' := by rw [e4]; exact T'
            have R4 : Rd ν4 t e p' r cx b0 := hR.mv hx4 o4 T4
            simp only [List.length_cons] at L4
            have nQ : ¬ LSt ν'.2 la q1 := fun w => by rcases LSt.k L' w with v | v <;> rw [kq] at v <;> cases v
            have eq4 := c4.2 q1 (by rw [kq]; decide) nQ
            have C4 : FcR ν4.2 q1 la 11 (b :: (as ++ [x])) (grw c (as.length + 1)) := ⟨by rw [eq4.1]; exact kq, by rw [eq4.2.2.2.2, eq.2.2.2.2]; exact hC.2.1, by rw [eq4.2.2.1, eq.2.2.1]; exact hC.2.2.1, L4⟩
            have nN : ∀ y, N y → rk ν'.2 y ≠ 0 ∧ ¬ LSt ν'.2 la y := fun y hy => ⟨by rw [(o1' y (i1 y hy).1).1]; exact (i1 y hy).1, fun w => (i1 y hy).2.1 (S' y w)⟩
            have z1' : ∀ y, N' y → rk ν1.2 y = 0 := fun y hy => o2.z (z' y hy)
            have nN' : ∀ y, N' y → rk ν'.2 y ≠ 0 ∧ ¬ LSt ν'.2 la y := fun y hy => ⟨V'.1 y hy, fun w => hlst y (S' y w) (z1' y hy)⟩
            have sN : Sme N ν'.2 ν4.2 := c4.sme nN
            have sN' : Sme N' ν'.2 ν4.2 := c4.sme nN'
            refine ih b2 p' (cs ++ ds ++ [11]) (as ++ [x]) c0 b (grw c (as.length + 1)) (fun y => N y ∨ N' y) ν4 _ _ (by omega) v3 (by omega) (by omega) u2 u3 (by simp; omega) R4 hx4 C4 ?_ (fun cs' b' hh => ?_) (fun q' hh => ?_)
            · refine ⟨fun y hy => ?_, fun ρ' hs => ?_, i4, fun y hy => ?_, o4⟩
              · rcases hy with w | w
                · refine ⟨by rw [(c4.1 y (nN y w).1).1]; exact (nN y w).1, fun u => ?_, (i1 y w).2.2.1, (i1 y w).2.2.2⟩
                  rcases z4 y u with v | v
                  · exact (nN y w).2 v
                  · exact (nN y w).1 v
                · have h1 := z1' y w
                  refine ⟨by rw [(c4.1 y (nN' y w).1).1]; exact (nN' y w).1, fun u => ?_, (fun u => by rw [u, hC.1] at h1; cases h1), i6.z h1⟩
                  rcases z4 y u with v | v
                  · exact (nN' y w).2 v
                  · exact (nN' y w).1 v
              · obtain ⟨y1, y2⟩ := i2 ρ' (fun y hy => Eqa.trans (o1' y (i1 y hy).1) ((sN y hy).trans (hs y (Or.inl hy))))
                have y3 := V'.2 ρ' (fun y hy => (sN' y hy).trans (hs y (Or.inr hy)))
                refine ⟨y1, ?_⟩
                rw [List.map_append]
                exact jn.snoc (o := 11) y3 (by decide) (by decide) y2
              · rcases z4 y hy with v | v
                · exact new' y v
                · exact (i6.trans o1').z v
            · obtain ⟨w3, w4, w5⟩ := hy cs' b' hh
              have h3 := adv_lpL hv _ _ _ _ _ v3 hh
              refine ⟨w3, by omega, ?_⟩
              simp only [List.length_append, List.length_singleton]
              omega
            · obtain ⟨w3, w4, w5⟩ := hn q' hh
              refine ⟨w3, by omega, ?_⟩
              simp only [List.length_append, List.length_singleton]
              omega
          · rcases hh with hh | ⟨cs', b', hh, hq', hL', hp'⟩
            · rw [hs2] at hh; cases hh
            · rw [hs2] at hh
              cases hh
              have hend := lpL_end (F := sp) (w := str 87) (o := 11) (isW_no hp') f (cs ++ ds ++ [11])
              obtain ⟨w3, -, -⟩ := hy _ _ hend
              refine hE ν' q' (Or.inr ⟨_, _, w3, ?_, ?_, ?_⟩) (hx1.r.trans (f2.r.trans f')) (i6.trans (o2.trans o')) d'
              · rw [lk_lk v3]; exact hq'
              · rw [lk_lk v3]; exact hL'
              · rw [lk_lk v3]; exact hp'
      · -- no more
        rw [hlk] at hw u2 u3
        have hend := lpL_end (F := sp) (w := str 87) (o := 11) hw (f + 1) cs
        obtain ⟨w3, -, -⟩ := hy _ _ hend
        obtain ⟨V, Z⟩ := FcI.v (c := c) (by decide) ⟨i1, i2, i4, i5, i6⟩ hC
        have V2 : TTs al b0 (d + 1) (fun x => N x ∨ x = q1 ∨ LSt ν1.2 la x) ν2.2 q1 cs := V.mv (fun y hy => o2 y (V.1 y hy))
        refine hQ ν2 q1 _ cs _ a' w3 (hx1.trans f2) (i6.trans o2) T2 (by omega) u2 ?_ V2 Z
        rw [lk_lk hae]; exact u3
      · -- a word that is not parted
        rw [hlk] at hL hp d2
        have hend := lpL_end (F := sp) (w := str 87) (o := 11) (isW_no hp) (f + 1) cs
        obtain ⟨w3, -, -⟩ := hy _ _ hend
        refine hE ν2 _ (Or.inr ⟨_, _, w3, ?_, ?_, ?_⟩) (hx1.r.trans f2.r) (i6.trans o2) d2
        · rw [lk_lk hae]
        · rw [lk_lk hae]; exact hL
        · rw [lk_lk hae]; exact hp
  cases hs : sp a with
  | inr q =>
    have hsp : pB (sp a) (fun cs b => lpL sp (str 87) 11 t e (e + 1 - b) cs b) = .inr q := by rw [hs]; rfl
    obtain ⟨w1, w2⟩ := hb2 q hsp
    refine ⟨k - 3, n - 7, 0, 0, by omega, by omega, ?_⟩
    refine hA ν9 a _ _ _ _ R9 (fun cs' b' hh => by rw [hs] at hh; cases hh) (fun q' hh => ⟨by omega, by omega⟩) (fun ν' x N' cs' b' p' hh => by rw [hs] at hh; cases hh) (fun ν' q' hh f' o' d' => ?_)
    rcases hh with hh | ⟨cs', b', hh, -⟩
    · rw [hs] at hh
      cases hh
      exact hE ν' _ (Or.inl hsp) (x9.r.trans f') (o9.trans o') d'
    · rw [hs] at hh; cases hh
  | inl cb =>
    obtain ⟨cs1, b1⟩ := cb
    obtain ⟨⟨v1, v2⟩, v3⟩ := hv _ cs1 b1 ha hs
    have hsp : pB (sp a) (fun cs b => lpL sp (str 87) 11 t e (e + 1 - b) cs b) = lpL sp (str 87) 11 t e (e + 1 - b1) cs1 b1 := by rw [hs]; rfl
    have hn1 := nx_le (t := t) v3
    have hkk : 62 * (b1 - a) + 10 ≤ k + bc ∧ 420 * (b1 - a) + 2 * nx t e b1 + 30 ≤ n + bs := by
      cases hw : lpL sp (str 87) 11 t e (e + 1 - b1) cs1 b1 with
      | inl cb =>
        obtain ⟨cs', b'⟩ := cb
        have h1 := hb1 cs' b' (hsp.trans hw)
        have h2 := lpL_nx hv v3 hw
        have h3 := adv_lpL hv _ _ _ _ _ v3 hw
        omega
      | inr q =>
        have h1 := hb2 q (hsp.trans hw)
        omega
    refine ⟨62 * (b1 - a) - bc, 420 * (b1 - a) + 2 * nx t e b1 - bs, k - 3 - (62 * (b1 - a) - bc), n - 7 - (420 * (b1 - a) + 2 * nx t e b1 - bs), by omega, by omega, ?_⟩
    refine hA ν9 a _ _ _ _ R9 (fun cs' b' hh => ?_) (fun q' hh => by rw [hs] at hh; cases hh) (fun ν' x N' cs' b' p' hh f' o' T' u1 u2 u3 V' z' => ?_) (fun ν' q' hh f' o' d' => ?_)
    · rw [hs] at hh
      cases hh
      omega
    · rw [hs] at hh
      cases hh
      have g4 := hC9.2.2.2
      have eq := o' q1 (by rw [hC9.1]; decide)
      have kq : rk ν'.2 q1 = 18 := by rw [eq.1]; exact hC9.1
      have hlst : ∀ y, LSt ν9.2 la y → rk ν9.2 y ≠ 0 := fun y hy => by rcases LSt.k g4 hy with v | v <;> rw [v] <;> decide
      have L' : LC ν'.2 la [] 2 := g4.mv (fun y hy => o' y (hlst y hy)) (fun y hy => by cases hy)
      have S' : ∀ y, LSt ν'.2 la y → LSt ν9.2 la y := by
        intro y hy
        rcases hy with z | z
        · exact Or.inl z
        · rw [(o' la (hlst la (Or.inl rfl))).2.2.2.2] at z; exact Or.inr z
      have xc : 1 ≤ rc ν'.2 x ∧ rc ν'.2 x < 23 := by have := VT.isT V'.v; omega
      refine ⟨la, hC9.2.1, rcO L'.1 (by decide), 1, 0, k - 3 - (62 * (b1 - a) - bc) - 1, n - 7 - (420 * (b1 - a) + 2 * nx t e b1 - bs), by omega, by omega, ?_⟩
      refine xl_add L' xc (by decide) (by decide) (by decide) (fun ν4 e4 L4 c4 z4 => ?_)
      have f4 : XTt ν'.1 ν4.1 := by rw [e4]; exact XTt.refl _
      have new' : ∀ y, LSt ν'.2 la y → rk ν.2 y = 0 := fun y hy => zz9 y (S' y hy)
      have o4 : Old ν.2 ν4.2 := (o9.trans o').chg c4 new'
      have hx4 : XTt ν.1 ν4.1 := (x9.trans f').trans f4
      have T4 : Tk ν4.1 t e p' := by rw [e4]; exact T'
      have R4 : Rd ν4 t e p' r cx b0 := hR.mv hx4 o4 T4
      have nQ : ¬ LSt ν'.2 la q1 := fun w => by rcases LSt.k L' w with v | v <;> rw [kq] at v <;> cases v
      have eq4 := c4.2 q1 (by rw [kq]; decide) nQ
      have C4 : FcR ν4.2 q1 la 11 [x] 2 := ⟨by rw [eq4.1]; exact kq, by rw [eq4.2.2.2.2, eq.2.2.2.2]; exact hC9.2.1, by rw [eq4.2.2.1, eq.2.2.1]; exact hC9.2.2.1, L4⟩
      have nN' : ∀ y, N' y → rk ν'.2 y ≠ 0 ∧ ¬ LSt ν'.2 la y := fun y hy => ⟨V'.1 y hy, fun w => hlst y (S' y w) (z' y hy)⟩
      have sN' : Sme N' ν'.2 ν4.2 := c4.sme nN'
      unfold xw_X2_test_23
      intro X hX
      refine loop X hX (e + 1 - b1) b1 p' cs1 [] cs1 x 2 N' ν4 _ _ (Nat.le_refl _) v3 v1 u1 u2 u3 (by simp; omega) R4 hx4 C4 ⟨fun y hy => ?_, fun ρ' hs' => ⟨V'.2 ρ' (fun y hy => (sN' y hy).trans (hs' y hy)), rfl⟩, hq1, fun y hy => ?_, o4⟩ (fun cs' b' hh => ?_) (fun q' hh => ?_)
      · have h1 : rk ν9.2 y = 0 := z' y hy
        refine ⟨by rw [(c4.1 y (nN' y hy).1).1]; exact (nN' y hy).1, fun u => ?_, (fun u => by rw [u, hC9.1] at h1; cases h1), o9.z h1⟩
        rcases z4 y u with v | v
        · exact (nN' y hy).2 v
        · exact (nN' y hy).1 v
      · rcases z4 y hy with v | v
        · exact new' y v
        · exact (o9.trans o').z v
      · obtain ⟨w2, w3⟩ := hb1 cs' b' (hsp.trans hh)
        have h2 := adv_lpL hv _ _ _ _ _ v3 hh
        have : lcB 1 2 = 8 := rfl
        exact ⟨hsp.trans hh, by omega, by show _ + lcB 1 2 + 4 ≤ _; omega⟩
      · obtain ⟨w2, w3⟩ := hb2 q' (hsp.trans hh)
        have : lcB 1 2 = 8 := rfl
        exact ⟨hsp.trans hh, by omega, by show _ + lcB 1 2 ≤ _; omega⟩
    · rcases hh with hh | ⟨cs', b', hh, hq', hL', hp'⟩
      · rw [hs] at hh; cases hh
      · rw [hs] at hh
        cases hh
        have hend := lpL_end (F := sp) (w := str 87) (o := 11) (isW_no hp') (e + 1 - b1) cs1
        refine hE ν' q' (Or.inr ⟨_, _, hsp.trans hend, ?_, ?_, ?_⟩) (x9.r.trans f') (o9.trans o') d'
        · rw [lk_lk v3]; exact hq'
        · rw [lk_lk v3]; exact hL'
        · rw [lk_lk v3]; exact hp'
