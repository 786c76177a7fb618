/-! THE CONSTRUCTORS' ROWS, third part (written by gen_c3.py) -/
section XNW3
variable {κ : Cx} {S : Adr} {A : Nat → Prop} {mc ms : Nat} {Q : State → Prop} {cc : ByteArray} {own : String} {n : Nat} {ν : XN} {k0 n0 : Nat} {lv : List (Option Value)} {st : List Value}
theorem c0x_newaJ (pc : Nat) {i : Int32} {N k n1 : Nat} (hi : ¬ i < 0) (hN : i.toNatClampNeg = N) (hb4 : N ≤ 10000000) (h : c0XCx κ cc own S A n mc ms) (hk : k + 1 ≤ k0) (hn1 : n1 + N ≤ n0) (d : decode cc pc = .ok (.newarray .long, 2))
    (K : ∀ q, rk ν.2 q = 0 → ∀ ν1, ν1 = (ν.1, tN ν.2 q 104 N) → c0XG κ S A mc ms Q (pc + 2) (ν1, k, n1) lv (.ref q :: st)) : c0XG κ S A mc ms Q pc (ν, k0, n0) lv (.int i :: st) := by
  intro H locs ls cells slots ha b cc1
  have ha : c0XI S A ν H ∧ cells + k0 ≤ mc ∧ slots + n0 ≤ ms := ha
  have hR : cxR κ = rmX n mc ms := h.2.2.2.2.2.1
  have hA0 : A H.size := h.2.2.2.1 _ b.1
  have z1c : cells + 1 ≤ (cxR κ).cells := by rw [hR]; show _ ≤ mc; have := ha.2.1; omega
  have z1s : slots + N ≤ (cxR κ).slots := by rw [hR]; show _ ≤ ms; have := ha.2.2; omega
  refine va_newaK h.1.1 h.1.2.1 (atype := .long) (h.1.2.2.2 _ q422) rfl d rfl hi hN (by show N * 8 ≤ 536870912; omega) z1c z1s rfl fun H1 cA e1 z1 o1 hAr hNm => ?_
  obtain rfl : cA = S.2.2.2 4 := Option.some.inj (hNm.symm.trans (h.2.1.1.2 3 _ rfl).2)
  have hx := ha.1.newC (H1 := H1) (c := 104) (n := N) hA0 o1 ⟨Or.inr (by omega), by omega, by omega⟩ (c0x_sz h b) (fun d' r' hd' hr' => by
    have := (List.getElem?_eq_some_iff.mp hr').1
    have : d' < 22 := this
    omega) (fun t' ht' => by
    obtain rfl : t' = 4 := by omega
    rw [e1]
    show _ = some (vp_cell _ (rn (tN ν.2 H.size 104 N) H.size, .inr (.inl (rL (tN ν.2 H.size 104 N) H.size))))
    simp [rn, rL, tN, vp_cell, defaultValue, newarray.typeOf])
  refine K H.size hx.1 _ rfl H1 locs ls (cells + 1) (slots + N) ⟨hx.2, by have := ha.2.1; show cells + 1 + k ≤ mc; omega, by have := ha.2.2; show slots + N + n1 ≤ ms; omega⟩ ⟨Nat.le_trans b.1 (by omega), fun x h1 h2 => (o1 x (Nat.lt_of_lt_of_le h1 b.1)).trans (b.2.1 x h1 h2), b.2.2⟩ cc1
theorem c0x_newaS (pc : Nat) {i : Int32} {N k n1 idx : Nat} (hi : ¬ i < 0) (hN : i.toNatClampNeg = N) (hb4 : N ≤ 100000000) (h : c0XCx κ cc own S A n mc ms) (hq : Cond.classLink own idx RX5 ∈ lw_all) (hk : k + 1 ≤ k0) (hn1 : n1 + N ≤ n0) (d : decode cc pc = .ok (.anewarray idx, 3))
    (K : ∀ q, rk ν.2 q = 0 → ∀ ν1, ν1 = (ν.1, tN ν.2 q 106 N) → c0XG κ S A mc ms Q (pc + 3) (ν1, k, n1) lv (.ref q :: st)) : c0XG κ S A mc ms Q pc (ν, k0, n0) lv (.int i :: st) := by
  intro H locs ls cells slots ha b cc1
  have ha : c0XI S A ν H ∧ cells + k0 ≤ mc ∧ slots + n0 ≤ ms := ha
  subst hN
  have hR : cxR κ = rmX n mc ms := h.2.2.2.2.2.1
  have hA0 : A H.size := h.2.2.2.1 _ b.1
  have z1c : cells + 1 ≤ (cxR κ).cells := by rw [hR]; show _ ≤ mc; have := ha.2.1; omega
  have z1s : slots + i.toNatClampNeg ≤ (cxR κ).slots := by rw [hR]; show _ ≤ ms; have := ha.2.2; omega
  refine W.anew h.1.1 h.1.2.1 h.1.2.2.1 (h.1.2.2.2 _ hq) (va_AO.use h.2.1.2.2.2.1.2.2.1) rfl d rfl hi (by omega) z1c z1s fun cA kA comp f1 f2 f3 f4 => ?_
  obtain ⟨-, -, -, -, -, j4⟩ := (h.2.1.1.2 4 _ rfl).2
  obtain rfl : cA = S.2.2.2 6 := Option.some.inj (f1.symm.trans j4)
  generalize hH1 : H.push ({ cls := S.2.2.2 6, slots := Array.replicate i.toNatClampNeg .null, vm := .none } : Cell) = H1
  have z1 : H1.size = H.size + 1 := by rw [← hH1, Array.size_push]
  have e1 : H1[H.size]? = some (arrV (S.2.2.2 6) i.toNatClampNeg (fun _ => .null)) := by rw [← hH1, Array.getElem?_push_size, ← arrV_new]
  have o1 : ∀ q : Nat, q < H.size → H1[q]? = H[q]? := fun q hq => by rw [← hH1, Array.getElem?_push, if_neg (Nat.ne_of_lt hq)]
  have hx := ha.1.newC (H1 := H1) (c := 106) (n := i.toNatClampNeg) hA0 o1 ⟨Or.inr (by omega), by omega, by omega⟩ (c0x_sz h b) (fun d' r' hd' hr' => by
    have := (List.getElem?_eq_some_iff.mp hr').1
    have : d' < 22 := this
    omega) (fun t' ht' => by
    obtain rfl : t' = 6 := by omega
    rw [e1]
    show _ = some (vp_cell _ (rn (tN ν.2 H.size 106 i.toNatClampNeg) H.size, .inr (.inr (.inr (.inr (rO (tN ν.2 H.size 106 i.toNatClampNeg) H.size))))))
    simp [rn, rO, tN, vp_cell_q, va_rf])
  refine K H.size hx.1 _ rfl H1 locs ls (cells + 1) (slots + i.toNatClampNeg) ⟨hx.2, by have := ha.2.1; show cells + 1 + k ≤ mc; omega, by have := ha.2.2; show slots + i.toNatClampNeg + n1 ≤ ms; omega⟩ ⟨Nat.le_trans b.1 (by omega), fun x h1 h2 => (o1 x (Nat.lt_of_lt_of_le h1 b.1)).trans (b.2.1 x h1 h2), b.2.2⟩ cc1
theorem c0ra_aast6 (pc : Nat) {a v : Nat} {i : Int32} (ht : rk ν.2 a = 106) (hv : rc ν.2 v = 6) (hi : vp_in i (rn ν.2 a)) (h : c0XCx κ cc own S A n mc ms) (d : decode cc pc = .ok (.aastore, 1)) (K : ∀ ν1, ν1 = (ν.1, tO ν.2 a (Int32.toNatClampNeg i) (some v)) → c0XG κ S A mc ms Q (pc + 1) (ν1, k0, n0) lv st) : c0XG κ S A mc ms Q pc (ν, k0, n0) lv (.ref v :: .int i :: .ref a :: st) := by
  intro H locs ls cells slots ha b c
  have ha : c0XI S A ν H ∧ cells + k0 ≤ mc ∧ slots + n0 ≤ ms := ha
  have hrc : rc ν.2 a = 106 := rc_of ht (by decide)
  have hne : rk ν.2 a ≠ 0 := by omega
  have hP := c0x_rarr ha.1.2.1 (t := 6) hrc
  have hlt : i.toNatClampNeg < rn ν.2 a := Nat.not_le.mp fun q => hi (Or.inr q)
  have h0 : ¬ i < 0 := fun q => hi (Or.inl q)
  have hr : xcl[5]? = some (RX5, TX5, 9) := rfl
  obtain ⟨cellV, g1, g2, g3, -⟩ := ha.1.2.1.1 v 5 _ hv hr
  have hcls := (h.2.1.1.1 5 _ hr).2
  obtain ⟨kV, hkV, -⟩ := hcls.2
  obtain ⟨kA, comp, j1, j2, j3, -⟩ := (h.2.1.1.2 4 _ rfl).2
  obtain ⟨kC, hkC, -⟩ := Vm.findClass_spec j3
  have hcc : comp = S.1.1 5 := Option.some.inj (j3.symm.trans hcls.1)
  have hasg : (cxS κ).vm.assignable (S.1.1 5) comp = true := by rw [hcc]; exact va_assign hcls
  refine W.aast h.1.1 h.1.2.1 (hP 0 _ rfl) (fun q h => by cases h) (fun h => by cases h) j1 j2 rfl hkC ⟨h0, by show _ < (arrV _ _ _).slots.size; rw [arrV_size]; exact hlt⟩ g1 (fun q h => by rw [g3] at h; cases h) (by rw [g2]; exact hkV) (by rw [g2]; exact hasg) rfl rfl d fun H1 e z oq => ?_
  refine K _ rfl H1 _ ls cells slots ⟨ha.1.raw hne oq rfl (tO_o _ _ _ _) (fun c' r' hc' hr' => ?_) (fun t' ht' => ?_), ha.2⟩ (b.put z oq ((ha.1.2.2.1 a hne).2.1 (by omega))) c
  · have := (List.getElem?_eq_some_iff.mp hr').1
    have : c' < 22 := this
    omega
  · obtain rfl : t' = 6 := by omega
    rw [e]
    show some ((vp_cell _ (rn ν.2 a, .inr (.inr (.inr (.inr (rO ν.2 a)))))).setSlot _ _) = some (vp_cell _ (rn ν.2 a, .inr (.inr (.inr (.inr (rO (tO ν.2 a _ _) a))))))
    rw [vp_cell_q, vp_cell_q, arrV_store]
    congr 2
    funext q
    by_cases hq : q = i.toNatClampNeg
    · subst hq; simp [rO, tO, up2, updV, va_rf]
    · simp [rO, tO, up2, updV, hq]
end XNW3
