/-! THE SYSTEM's ROWS: arrays and new cells -/
section XA
variable {κ : Cx} {S : Adr} {A : Nat → Prop} {mc ms : Nat} {Q : State → Prop} {cc : ByteArray} {own : String} {n : Nat} {ν : XN} {k0 n0 : Nat} {lv : List (Option Value)} {st : List Value}
theorem x_arr {H : Heap} {σ : FS} (hF : FM xT S xcl σ H) {a t : Nat} (ht : (xT.2.2.2 a).1 = t) (h0 : t ≠ 0) : va_P S.1 xcl [(S.2.2.1 a, .inl (S.2.2.2 t, acont xT S σ a))] H := by
  intro k q hk
  match k, hk with
  | 0, hk =>
    cases hk
    subst ht
    exact hF.2 a h0
  | k + 1, hk => cases hk
theorem x_rarr {H : Heap} {ρ : RS} (hF : RM S ρ H) {a t : Nat} (ht : rc ρ a = 100 + t) : va_P S.1 xcl [(a, .inl (S.2.2.2 t, rcont ρ a t))] H := by
  intro k q hk
  match k, hk with
  | 0, hk => cases hk; exact hF.2 a t ht
  | k + 1, hk => cases hk
theorem x_cI {σ : FS} {a t : Nat} (ht : (xT.2.2.2 a).1 = t) (h : t = 1 ∨ t = 2 ∨ t = 3 ∨ t = 5) : acont xT S σ a = (xlen a, .inl (fA σ a)) := by
  unfold acont xlen
  rw [ht]
  rcases h with rfl | rfl | rfl | rfl <;> rfl
theorem x_cJ {σ : FS} {a : Nat} (ht : (xT.2.2.2 a).1 = 4) : acont xT S σ a = (xlen a, .inr (.inl (fB σ a))) := by
  unfold acont xlen
  rw [ht]; rfl
theorem x_c6 {σ : FS} {a : Nat} (ht : (xT.2.2.2 a).1 = 6) : acont xT S σ a = (xlen a, .inr (.inr (.inr (.inr (fun i => some (S.2.1 (fP σ a i))))))) := by
  unfold acont xlen
  rw [ht]; rfl
theorem x_c7 {σ : FS} {a t : Nat} (ht : (xT.2.2.2 a).1 = t) (h : t = 7 ∨ t = 8) : acont xT S σ a = (xlen a, .inr (.inr (.inr (.inr (fun i => some (S.2.2.1 (fP σ a i))))))) := by
  unfold acont xlen
  rw [ht]
  rcases h with rfl | rfl <;> rfl
theorem xa_iald (pc : Nat) {a : Nat} {i : Int32} (ht : xok 1 a) (hi : vp_in i (xlen a)) (h : XCx κ cc own S A n mc ms) (d : decode cc pc = .ok (.iaload, 1)) (K : XG κ S A mc ms Q (pc + 1) (ν, k0, n0) lv (.int (fA ν.1 a (Int32.toNatClampNeg i)) :: st)) : XG κ S A mc ms Q pc (ν, k0, n0) lv (.int i :: .ref (S.2.2.1 a) :: st) := by
  intro H locs ls cells slots ha b c
  have ha : XI S A ν H ∧ cells + k0 ≤ mc ∧ slots + n0 ≤ ms := ha
  have hP := x_arr ha.1.1 ht (by decide)
  rw [x_cI ht (Or.inl rfl)] at hP
  exact va_iald h.1.1 h.1.2.1 h.2.1.1 hP 0 0 rfl rfl hi d (K H locs ls cells slots ha b c)
theorem xa_bald (pc : Nat) {a : Nat} {i : Int32} (ht : xok 2 a) (hi : vp_in i (xlen a)) (h : XCx κ cc own S A n mc ms) (d : decode cc pc = .ok (.baload, 1)) (K : XG κ S A mc ms Q (pc + 1) (ν, k0, n0) lv (.int (fA ν.1 a (Int32.toNatClampNeg i)) :: st)) : XG κ S A mc ms Q pc (ν, k0, n0) lv (.int i :: .ref (S.2.2.1 a) :: st) := by
  intro H locs ls cells slots ha b c
  have ha : XI S A ν H ∧ cells + k0 ≤ mc ∧ slots + n0 ≤ ms := ha
  have hP := x_arr ha.1.1 ht (by decide)
  rw [x_cI ht (Or.inr (Or.inl rfl))] at hP
  exact va_bald h.1.1 h.1.2.1 h.2.1.1 hP 0 1 rfl rfl hi d (K H locs ls cells slots ha b c)
theorem xa_lald (pc : Nat) {a : Nat} {i : Int32} (ht : xok 4 a) (hi : vp_in i (xlen a)) (h : XCx κ cc own S A n mc ms) (d : decode cc pc = .ok (.laload, 1)) (K : XG κ S A mc ms Q (pc + 1) (ν, k0, n0) lv (.long (fB ν.1 a (Int32.toNatClampNeg i)) :: st)) : XG κ S A mc ms Q pc (ν, k0, n0) lv (.int i :: .ref (S.2.2.1 a) :: st) := by
  intro H locs ls cells slots ha b c
  have ha : XI S A ν H ∧ cells + k0 ≤ mc ∧ slots + n0 ≤ ms := ha
  have hP := x_arr ha.1.1 ht (by decide)
  rw [x_cJ ht] at hP
  exact va_lald h.1.1 h.1.2.1 h.2.1.1 hP 0 3 rfl rfl hi d (K H locs ls cells slots ha b c)
theorem xa_aald6 (pc : Nat) {a : Nat} {i : Int32} (ht : xok 6 a) (hi : vp_in i (xlen a)) (h : XCx κ cc own S A n mc ms) (d : decode cc pc = .ok (.aaload, 1)) (K : XG κ S A mc ms Q (pc + 1) (ν, k0, n0) lv (.ref (S.2.1 (fP ν.1 a (Int32.toNatClampNeg i))) :: st)) : XG κ S A mc ms Q pc (ν, k0, n0) lv (.int i :: .ref (S.2.2.1 a) :: st) := by
  intro H locs ls cells slots ha b c
  have ha : XI S A ν H ∧ cells + k0 ≤ mc ∧ slots + n0 ≤ ms := ha
  have hP := x_arr ha.1.1 ht (by decide)
  rw [x_c6 ht] at hP
  have hlt : i.toNatClampNeg < xlen a := Nat.not_le.mp fun q => hi (Or.inr q)
  exact W.aald (v := .ref (S.2.1 (fP ν.1 a (Int32.toNatClampNeg i)))) (ty := .object RX5) h.1.1 h.1.2.1 (hP 0 _ rfl) ((h.2.1.1.2 4 _ rfl).1 (xlen a) (fun j => va_rf (some (S.2.1 (fP ν.1 a j))))) rfl (fun q => by cases q) (by show ¬ (i < 0 ∨ (arrV _ _ _).slots.size ≤ _); rw [arrV_size]; exact hi) (by show (arrV _ _ _).slots[_]? = _; rw [arrV_read _ _ hlt]; rfl) rfl rfl d (K H locs ls cells slots ha b c)
theorem xa_aald7 (pc : Nat) {a : Nat} {i : Int32} (ht : xok 7 a) (hi : vp_in i (xlen a)) (h : XCx κ cc own S A n mc ms) (d : decode cc pc = .ok (.aaload, 1)) (K : XG κ S A mc ms Q (pc + 1) (ν, k0, n0) lv (.ref (S.2.2.1 (fP ν.1 a (Int32.toNatClampNeg i))) :: st)) : XG κ S A mc ms Q pc (ν, k0, n0) lv (.int i :: .ref (S.2.2.1 a) :: st) := by
  intro H locs ls cells slots ha b c
  have ha : XI S A ν H ∧ cells + k0 ≤ mc ∧ slots + n0 ≤ ms := ha
  have hP := x_arr ha.1.1 ht (by decide)
  rw [x_c7 ht (Or.inl rfl)] at hP
  have hlt : i.toNatClampNeg < xlen a := Nat.not_le.mp fun q => hi (Or.inr q)
  exact W.aald (v := .ref (S.2.2.1 (fP ν.1 a (Int32.toNatClampNeg i)))) (ty := .array .int) h.1.1 h.1.2.1 (hP 0 _ rfl) ((h.2.1.1.2 5 _ rfl).1 (xlen a) (fun j => va_rf (some (S.2.2.1 (fP ν.1 a j))))) rfl (fun q => by cases q) (by show ¬ (i < 0 ∨ (arrV _ _ _).slots.size ≤ _); rw [arrV_size]; exact hi) (by show (arrV _ _ _).slots[_]? = _; rw [arrV_read _ _ hlt]; rfl) rfl rfl d (K H locs ls cells slots ha b c)
theorem xa_aald8 (pc : Nat) {a : Nat} {i : Int32} (ht : xok 8 a) (hi : vp_in i (xlen a)) (h : XCx κ cc own S A n mc ms) (d : decode cc pc = .ok (.aaload, 1)) (K : XG κ S A mc ms Q (pc + 1) (ν, k0, n0) lv (.ref (S.2.2.1 (fP ν.1 a (Int32.toNatClampNeg i))) :: st)) : XG κ S A mc ms Q pc (ν, k0, n0) lv (.int i :: .ref (S.2.2.1 a) :: st) := by
  intro H locs ls cells slots ha b c
  have ha : XI S A ν H ∧ cells + k0 ≤ mc ∧ slots + n0 ≤ ms := ha
  have hP := x_arr ha.1.1 ht (by decide)
  rw [x_c7 ht (Or.inr rfl)] at hP
  have hlt : i.toNatClampNeg < xlen a := Nat.not_le.mp fun q => hi (Or.inr q)
  exact W.aald (v := .ref (S.2.2.1 (fP ν.1 a (Int32.toNatClampNeg i)))) (ty := .array (.array .int)) h.1.1 h.1.2.1 (hP 0 _ rfl) ((h.2.1.1.2 6 _ rfl).1 (xlen a) (fun j => va_rf (some (S.2.2.1 (fP ν.1 a j))))) rfl (fun q => by cases q) (by show ¬ (i < 0 ∨ (arrV _ _ _).slots.size ≤ _); rw [arrV_size]; exact hi) (by show (arrV _ _ _).slots[_]? = _; rw [arrV_read _ _ hlt]; rfl) rfl rfl d (K H locs ls cells slots ha b c)
theorem xa_iast (pc : Nat) {a : Nat} {i : Int32} {x : Int32} (ht : xok 1 a) (hi : vp_in i (xlen a)) (h : XCx κ cc own S A n mc ms) (d : decode cc pc = .ok (.iastore, 1)) (K : ∀ ν1, ν1 = (sA ν.1 a (Int32.toNatClampNeg i) x, ν.2) → XG κ S A mc ms Q (pc + 1) (ν1, k0, n0) lv st) : XG κ S A mc ms Q pc (ν, k0, n0) lv (.int x :: .int i :: .ref (S.2.2.1 a) :: st) := by
  intro H locs ls cells slots ha b c
  have ha : XI S A ν H ∧ cells + k0 ≤ mc ∧ slots + n0 ≤ ms := ha
  have hP := x_arr ha.1.1 ht (by decide)
  have hz : (xT.2.2.2 a).1 ≠ 0 := by rw [show (xT.2.2.2 a).1 = 1 from ht]; decide
  rw [x_cI ht (Or.inl rfl)] at hP
  refine W.iast h.1.1 h.1.2.1 (hP 0 _ rfl) ((h.2.1.1.2 0 _ rfl).1 (xlen a) (fun j => .int (fA ν.1 a j))) (fun q => by cases q) (by show ¬ (i < 0 ∨ (arrV _ _ _).slots.size ≤ _); rw [arrV_size]; exact hi) rfl rfl d fun H1 e z oq => ?_
  refine K _ rfl H1 _ ls cells slots ⟨ha.1.keyed ha.1.2.2.2 (ha.1.1.putC h.2.2.1 hz ?_ oq (fun _ _ => rfl) acont_sA) (Or.inr ⟨a, hz, rfl⟩) oq, ha.2⟩ (b.put z oq (h.2.2.1.2.2.2.2 a hz)) c
  rw [e, x_cI ht (Or.inl rfl), fA_upd, show (xT.2.2.2 a).1 = 1 from ht]
  rw [vp_cell_i, vp_cell_i, arrV_store]
  congr 2
  funext q
  by_cases hq : q = i.toNatClampNeg
  · subst hq; simp [upd, updV]
  · simp [upd, updV, hq]
theorem xa_bast (pc : Nat) {a : Nat} {i : Int32} {x : Int32} (ht : xok 2 a) (hi : vp_in i (xlen a)) (h : XCx κ cc own S A n mc ms) (d : decode cc pc = .ok (.bastore, 1)) (K : ∀ ν1, ν1 = (sA ν.1 a (Int32.toNatClampNeg i) (vp_nar .byte x), ν.2) → XG κ S A mc ms Q (pc + 1) (ν1, k0, n0) lv st) : XG κ S A mc ms Q pc (ν, k0, n0) lv (.int x :: .int i :: .ref (S.2.2.1 a) :: st) := by
  intro H locs ls cells slots ha b c
  have ha : XI S A ν H ∧ cells + k0 ≤ mc ∧ slots + n0 ≤ ms := ha
  have hP := x_arr ha.1.1 ht (by decide)
  have hz : (xT.2.2.2 a).1 ≠ 0 := by rw [show (xT.2.2.2 a).1 = 2 from ht]; decide
  rw [x_cI ht (Or.inr (Or.inl rfl))] at hP
  refine W.bast h.1.1 h.1.2.1 (hP 0 _ rfl) ((h.2.1.1.2 1 _ rfl).1 (xlen a) (fun j => .int (fA ν.1 a j))) (fun q => by cases q) (by show ¬ (i < 0 ∨ (arrV _ _ _).slots.size ≤ _); rw [arrV_size]; exact hi) rfl rfl d fun H1 e z oq => ?_
  refine K _ rfl H1 _ ls cells slots ⟨ha.1.keyed ha.1.2.2.2 (ha.1.1.putC h.2.2.1 hz ?_ oq (fun _ _ => rfl) acont_sA) (Or.inr ⟨a, hz, rfl⟩) oq, ha.2⟩ (b.put z oq (h.2.2.1.2.2.2.2 a hz)) c
  rw [e, x_cI ht (Or.inr (Or.inl rfl)), fA_upd, show (xT.2.2.2 a).1 = 2 from ht]
  rw [vp_cell_i, vp_cell_i, arrV_store]
  congr 2
  funext q
  by_cases hq : q = i.toNatClampNeg
  · subst hq; simp [upd, updV, vp_nar]; try rfl
  · simp [upd, updV, hq]
theorem xa_last (pc : Nat) {a : Nat} {i : Int32} {x : Int64} (ht : xok 4 a) (hi : vp_in i (xlen a)) (h : XCx κ cc own S A n mc ms) (d : decode cc pc = .ok (.lastore, 1)) (K : ∀ ν1, ν1 = (sB ν.1 a (Int32.toNatClampNeg i) x, ν.2) → XG κ S A mc ms Q (pc + 1) (ν1, k0, n0) lv st) : XG κ S A mc ms Q pc (ν, k0, n0) lv (.long x :: .int i :: .ref (S.2.2.1 a) :: st) := by
  intro H locs ls cells slots ha b c
  have ha : XI S A ν H ∧ cells + k0 ≤ mc ∧ slots + n0 ≤ ms := ha
  have hP := x_arr ha.1.1 ht (by decide)
  have hz : (xT.2.2.2 a).1 ≠ 0 := by rw [show (xT.2.2.2 a).1 = 4 from ht]; decide
  rw [x_cJ ht] at hP
  refine W.last h.1.1 h.1.2.1 (hP 0 _ rfl) ((h.2.1.1.2 3 _ rfl).1 (xlen a) (fun j => .long (fB ν.1 a j))) (fun q => by cases q) (by show ¬ (i < 0 ∨ (arrV _ _ _).slots.size ≤ _); rw [arrV_size]; exact hi) rfl rfl d fun H1 e z oq => ?_
  refine K _ rfl H1 _ ls cells slots ⟨ha.1.keyed ha.1.2.2.2 (ha.1.1.putC h.2.2.1 hz ?_ oq (fun _ _ => rfl) acont_sB) (Or.inr ⟨a, hz, rfl⟩) oq, ha.2⟩ (b.put z oq (h.2.2.1.2.2.2.2 a hz)) c
  rw [e, x_cJ ht, fB_upd, show (xT.2.2.2 a).1 = 4 from ht]
  rw [vp_cell_l, vp_cell_l, arrV_store]
  congr 2
  funext q
  by_cases hq : q = i.toNatClampNeg
  · subst hq; simp [vp_updL, updV]
  · simp [vp_updL, updV, hq]
theorem x_fP_upd (σ : FS) (a i v : Nat) : fP (sP σ a i v) a = fun j => if j = i then v else fP σ a j := by
  funext j
  by_cases e : j = i <;> simp [fP, sP, up2, e]
theorem xa_aast6 (pc : Nat) {a o : Nat} {i : Int32} (ht : xok 6 a) (ho : xT.1 o = 5) (hi : vp_in i (xlen a)) (h : XCx κ cc own S A n mc ms) (d : decode cc pc = .ok (.aastore, 1)) (K : ∀ ν1, ν1 = (sP ν.1 a (Int32.toNatClampNeg i) o, ν.2) → XG κ S A mc ms Q (pc + 1) (ν1, k0, n0) lv st) : XG κ S A mc ms Q pc (ν, k0, n0) lv (.ref (S.2.1 o) :: .int i :: .ref (S.2.2.1 a) :: st) := by
  intro H locs ls cells slots ha b c
  have ha : XI S A ν H ∧ cells + k0 ≤ mc ∧ slots + n0 ≤ ms := ha
  have hP := x_arr ha.1.1 ht (by decide)
  have hz : (xT.2.2.2 a).1 ≠ 0 := by rw [show (xT.2.2.2 a).1 = 6 from ht]; decide
  rw [x_c6 ht] at hP
  have hlt : i.toNatClampNeg < xlen a := Nat.not_le.mp fun q => hi (Or.inr q)
  have h0 : ¬ i < 0 := fun q => hi (Or.inl q)
  obtain ⟨cellV, g1, g2, g3, -⟩ := ha.1.1.1 o (RX5, TX5, 9) (by rw [ho]; rfl)
  rw [ho] at g2
  have hcls := (h.2.1.1.1 5 _ rfl).2
  obtain ⟨kA, comp, k1, k2, k3, -⟩ := (h.2.1.1.2 4 _ rfl).2
  have hcomp : comp = S.1.1 5 := Option.some.inj (k3.symm.trans hcls.1)
  subst hcomp
  obtain ⟨kC, hkC, -⟩ := hcls.2
  refine W.aast h.1.1 h.1.2.1 (hP 0 _ rfl) (fun q h => by cases h) (fun h => by cases h) k1 k2 rfl hkC ⟨h0, by show _ < (arrV _ _ _).slots.size; rw [arrV_size]; exact hlt⟩ g1 (fun q h => by rw [g3] at h; cases h) (by rw [g2]; exact hkC) (by rw [g2]; exact va_assign hcls) rfl rfl d fun H1 e z oq => ?_
  refine K _ rfl H1 _ ls cells slots ⟨ha.1.keyed ha.1.2.2.2 (ha.1.1.putC h.2.2.1 hz ?_ oq (fun _ _ => rfl) acont_sP) (Or.inr ⟨a, hz, rfl⟩) oq, ha.2⟩ (b.put z oq (h.2.2.1.2.2.2.2 a hz)) c
  rw [e, x_c6 ht, x_fP_upd, show (xT.2.2.2 a).1 = 6 from ht]
  rw [vp_cell_q, vp_cell_q, arrV_store]
  congr 2
  funext q
  by_cases hq : q = i.toNatClampNeg
  · subst hq; simp [updV, va_rf]
  · simp [updV, hq]
theorem xa_aast7 (pc : Nat) {a o : Nat} {i : Int32} (ht : xok 7 a) (ho : xok 1 o) (hi : vp_in i (xlen a)) (h : XCx κ cc own S A n mc ms) (d : decode cc pc = .ok (.aastore, 1)) (K : ∀ ν1, ν1 = (sP ν.1 a (Int32.toNatClampNeg i) o, ν.2) → XG κ S A mc ms Q (pc + 1) (ν1, k0, n0) lv st) : XG κ S A mc ms Q pc (ν, k0, n0) lv (.ref (S.2.2.1 o) :: .int i :: .ref (S.2.2.1 a) :: st) := by
  intro H locs ls cells slots ha b c
  have ha : XI S A ν H ∧ cells + k0 ≤ mc ∧ slots + n0 ≤ ms := ha
  have hP := x_arr ha.1.1 ht (by decide)
  have hPo := x_arr ha.1.1 ho (by decide)
  have hz : (xT.2.2.2 a).1 ≠ 0 := by rw [show (xT.2.2.2 a).1 = 7 from ht]; decide
  rw [x_c7 ht (Or.inl rfl)] at hP
  rw [x_cI ho (Or.inl rfl)] at hPo
  have hlt : i.toNatClampNeg < xlen a := Nat.not_le.mp fun q => hi (Or.inr q)
  have h0 : ¬ i < 0 := fun q => hi (Or.inl q)
  obtain ⟨⟨kA, k1, k2⟩, -⟩ := h.2.1.2.2.2.1
  obtain ⟨-, kI, i1, cI, i2⟩ := (h.2.1.1.2 0 _ rfl).1 0 (fun _ => .null)
  have i1 : (cxS κ).vm.classes[S.2.2.2 1]? = some kI := i1
  refine W.aast h.1.1 h.1.2.1 (hP 0 _ rfl) (fun q h => by cases h) (fun h => by cases h) k1 k2 rfl i1 ⟨h0, by show _ < (arrV _ _ _).slots.size; rw [arrV_size]; exact hlt⟩ (hPo 0 _ rfl) (fun q h => by cases h) i1 ?_ rfl rfl d fun H1 e z oq => ?_
  · show (cxS κ).vm.assignable (S.2.2.2 1) (S.2.2.2 1) = true
    show Vm.assignableAux _ (255 + 1) _ _ = true
    rw [Vm.assignableAux]
    simp
  refine K _ rfl H1 _ ls cells slots ⟨ha.1.keyed ha.1.2.2.2 (ha.1.1.putC h.2.2.1 hz ?_ oq (fun _ _ => rfl) acont_sP) (Or.inr ⟨a, hz, rfl⟩) oq, ha.2⟩ (b.put z oq (h.2.2.1.2.2.2.2 a hz)) c
  rw [e, x_c7 ht (Or.inl rfl), x_fP_upd, show (xT.2.2.2 a).1 = 7 from ht]
  rw [vp_cell_q, vp_cell_q, arrV_store]
  congr 2
  funext q
  by_cases hq : q = i.toNatClampNeg
  · subst hq; simp [updV, va_rf]
  · simp [updV, hq]
theorem ra_iald (pc : Nat) {a : Nat} {i : Int32} (ht : rc ν.2 a = 101) (hi : vp_in i (rn ν.2 a)) (h : XCx κ cc own S A n mc ms) (d : decode cc pc = .ok (.iaload, 1)) (K : XG κ S A mc ms Q (pc + 1) (ν, k0, n0) lv (.int (rI ν.2 a (Int32.toNatClampNeg i)) :: st)) : XG κ S A mc ms Q pc (ν, k0, n0) lv (.int i :: .ref a :: st) := by
  intro H locs ls cells slots ha b c
  have ha : XI S A ν H ∧ cells + k0 ≤ mc ∧ slots + n0 ≤ ms := ha
  have hP := x_rarr ha.1.2.1 (t := 1) ht
  exact va_iald h.1.1 h.1.2.1 h.2.1.1 hP 0 0 rfl rfl hi d (K H locs ls cells slots ha b c)
theorem ra_bald (pc : Nat) {a : Nat} {i : Int32} (ht : rc ν.2 a = 102) (hi : vp_in i (rn ν.2 a)) (h : XCx κ cc own S A n mc ms) (d : decode cc pc = .ok (.baload, 1)) (K : XG κ S A mc ms Q (pc + 1) (ν, k0, n0) lv (.int (rI ν.2 a (Int32.toNatClampNeg i)) :: st)) : XG κ S A mc ms Q pc (ν, k0, n0) lv (.int i :: .ref a :: st) := by
  intro H locs ls cells slots ha b c
  have ha : XI S A ν H ∧ cells + k0 ≤ mc ∧ slots + n0 ≤ ms := ha
  have hP := x_rarr ha.1.2.1 (t := 2) ht
  exact va_bald h.1.1 h.1.2.1 h.2.1.1 hP 0 1 rfl rfl hi d (K H locs ls cells slots ha b c)
theorem ra_cald (pc : Nat) {a : Nat} {i : Int32} (ht : rc ν.2 a = 103) (hi : vp_in i (rn ν.2 a)) (h : XCx κ cc own S A n mc ms) (d : decode cc pc = .ok (.caload, 1)) (K : XG κ S A mc ms Q (pc + 1) (ν, k0, n0) lv (.int (rI ν.2 a (Int32.toNatClampNeg i)) :: st)) : XG κ S A mc ms Q pc (ν, k0, n0) lv (.int i :: .ref a :: st) := by
  intro H locs ls cells slots ha b c
  have ha : XI S A ν H ∧ cells + k0 ≤ mc ∧ slots + n0 ≤ ms := ha
  have hP := x_rarr ha.1.2.1 (t := 3) ht
  exact va_cald h.1.1 h.1.2.1 h.2.1.1 hP 0 2 rfl rfl hi d (K H locs ls cells slots ha b c)
theorem ra_aald9 (pc : Nat) {a : Nat} {i : Int32} (ht : rc ν.2 a = 109) (hi : vp_in i (rn ν.2 a)) (h : XCx κ cc own S A n mc ms) (d : decode cc pc = .ok (.aaload, 1)) (K : XG κ S A mc ms Q (pc + 1) (ν, k0, n0) lv (va_rf (rO ν.2 a (Int32.toNatClampNeg i)) :: st)) : XG κ S A mc ms Q pc (ν, k0, n0) lv (.int i :: .ref a :: st) := by
  intro H locs ls cells slots ha b c
  have ha : XI S A ν H ∧ cells + k0 ≤ mc ∧ slots + n0 ≤ ms := ha
  have hP := x_rarr ha.1.2.1 (t := 9) ht
  exact va_aldq h.1.1 h.1.2.1 h.2.1.1 hP 0 7 rfl rfl hi d (K H locs ls cells slots ha b c)
theorem ra_aald10 (pc : Nat) {a : Nat} {i : Int32} (ht : rc ν.2 a = 110) (hi : vp_in i (rn ν.2 a)) (h : XCx κ cc own S A n mc ms) (d : decode cc pc = .ok (.aaload, 1)) (K : XG κ S A mc ms Q (pc + 1) (ν, k0, n0) lv (va_rf (rO ν.2 a (Int32.toNatClampNeg i)) :: st)) : XG κ S A mc ms Q pc (ν, k0, n0) lv (.int i :: .ref a :: st) := by
  intro H locs ls cells slots ha b c
  have ha : XI S A ν H ∧ cells + k0 ≤ mc ∧ slots + n0 ≤ ms := ha
  have hP := x_rarr ha.1.2.1 (t := 10) ht
  exact va_aldq h.1.1 h.1.2.1 h.2.1.1 hP 0 8 rfl rfl hi d (K H locs ls cells slots ha b c)
theorem ra_alen1 (pc : Nat) {a : Nat} (ht : rc ν.2 a = 101) (h : XCx κ cc own S A n mc ms) (d : decode cc pc = .ok (.arraylength, 1)) (K : XG κ S A mc ms Q (pc + 1) (ν, k0, n0) lv (.int (Int32.ofNat (rn ν.2 a)) :: st)) : XG κ S A mc ms Q pc (ν, k0, n0) lv (.ref a :: st) := by
  intro H locs ls cells slots ha b c
  have ha : XI S A ν H ∧ cells + k0 ≤ mc ∧ slots + n0 ≤ ms := ha
  have hP := x_rarr ha.1.2.1 (t := 1) ht
  exact va_alen h.1.1 h.1.2.1 h.2.1.1 hP 0 0 rfl rfl rfl d (K H locs ls cells slots ha b c)
theorem ra_alen2 (pc : Nat) {a : Nat} (ht : rc ν.2 a = 102) (h : XCx κ cc own S A n mc ms) (d : decode cc pc = .ok (.arraylength, 1)) (K : XG κ S A mc ms Q (pc + 1) (ν, k0, n0) lv (.int (Int32.ofNat (rn ν.2 a)) :: st)) : XG κ S A mc ms Q pc (ν, k0, n0) lv (.ref a :: st) := by
  intro H locs ls cells slots ha b c
  have ha : XI S A ν H ∧ cells + k0 ≤ mc ∧ slots + n0 ≤ ms := ha
  have hP := x_rarr ha.1.2.1 (t := 2) ht
  exact va_alen h.1.1 h.1.2.1 h.2.1.1 hP 0 1 rfl rfl rfl d (K H locs ls cells slots ha b c)
theorem ra_alen3 (pc : Nat) {a : Nat} (ht : rc ν.2 a = 103) (h : XCx κ cc own S A n mc ms) (d : decode cc pc = .ok (.arraylength, 1)) (K : XG κ S A mc ms Q (pc + 1) (ν, k0, n0) lv (.int (Int32.ofNat (rn ν.2 a)) :: st)) : XG κ S A mc ms Q pc (ν, k0, n0) lv (.ref a :: st) := by
  intro H locs ls cells slots ha b c
  have ha : XI S A ν H ∧ cells + k0 ≤ mc ∧ slots + n0 ≤ ms := ha
  have hP := x_rarr ha.1.2.1 (t := 3) ht
  exact va_alen h.1.1 h.1.2.1 h.2.1.1 hP 0 2 rfl rfl rfl d (K H locs ls cells slots ha b c)
theorem ra_alen9 (pc : Nat) {a : Nat} (ht : rc ν.2 a = 109) (h : XCx κ cc own S A n mc ms) (d : decode cc pc = .ok (.arraylength, 1)) (K : XG κ S A mc ms Q (pc + 1) (ν, k0, n0) lv (.int (Int32.ofNat (rn ν.2 a)) :: st)) : XG κ S A mc ms Q pc (ν, k0, n0) lv (.ref a :: st) := by
  intro H locs ls cells slots ha b c
  have ha : XI S A ν H ∧ cells + k0 ≤ mc ∧ slots + n0 ≤ ms := ha
  have hP := x_rarr ha.1.2.1 (t := 9) ht
  exact va_alen h.1.1 h.1.2.1 h.2.1.1 hP 0 7 rfl rfl rfl d (K H locs ls cells slots ha b c)
theorem ra_alen10 (pc : Nat) {a : Nat} (ht : rc ν.2 a = 110) (h : XCx κ cc own S A n mc ms) (d : decode cc pc = .ok (.arraylength, 1)) (K : XG κ S A mc ms Q (pc + 1) (ν, k0, n0) lv (.int (Int32.ofNat (rn ν.2 a)) :: st)) : XG κ S A mc ms Q pc (ν, k0, n0) lv (.ref a :: st) := by
  intro H locs ls cells slots ha b c
  have ha : XI S A ν H ∧ cells + k0 ≤ mc ∧ slots + n0 ≤ ms := ha
  have hP := x_rarr ha.1.2.1 (t := 10) ht
  exact va_alen h.1.1 h.1.2.1 h.2.1.1 hP 0 8 rfl rfl rfl d (K H locs ls cells slots ha b c)
theorem ra_iast (pc : Nat) {a : Nat} {i x : Int32} (ht : rk ν.2 a = 101) (hi : vp_in i (rn ν.2 a)) (h : XCx κ cc own S A n mc ms) (d : decode cc pc = .ok (.iastore, 1)) (K : ∀ ν1, ν1 = (ν.1, tI ν.2 a (Int32.toNatClampNeg i) x) → XG κ S A mc ms Q (pc + 1) (ν1, k0, n0) lv st) : XG κ S A mc ms Q pc (ν, k0, n0) lv (.int x :: .int i :: .ref a :: st) := by
  intro H locs ls cells slots ha b c
  have ha : XI S A ν H ∧ cells + k0 ≤ mc ∧ slots + n0 ≤ ms := ha
  have hrc : rc ν.2 a = 101 := rc_of ht (by decide)
  have hne : rk ν.2 a ≠ 0 := by omega
  have hP := x_rarr ha.1.2.1 (t := 1) hrc
  refine W.iast h.1.1 h.1.2.1 (hP 0 _ rfl) ((h.2.1.1.2 0 _ rfl).1 (rn ν.2 a) (fun j => .int (rI ν.2 a j))) (fun q => by cases q) (by show ¬ (i < 0 ∨ (arrV _ _ _).slots.size ≤ _); rw [arrV_size]; exact hi) rfl rfl d fun H1 e z oq => ?_
  refine K _ rfl H1 _ ls cells slots ⟨ha.1.raw hne oq rfl (tI_o _ _ _ _) (fun c' r' hc' _ => absurd (hrc.symm.trans hc') (fun e2 => ?_)) (fun t' ht' => ?_), ha.2⟩ (b.put z oq ((ha.1.2.2.1 a hne).2.1 (by omega))) c
  · have := (List.getElem?_eq_some_iff.mp (by assumption)).1
    have : c' < 22 := this
    omega
  · obtain rfl : t' = 1 := by omega
    rw [e]
    show some ((vp_cell _ (rn ν.2 a, .inl (rI ν.2 a))).setSlot _ _) = some (vp_cell _ (rn ν.2 a, .inl (rI (tI ν.2 a _ _) a)))
    rw [vp_cell_i, vp_cell_i, arrV_store]
    congr 2
    funext q
    by_cases hq : q = i.toNatClampNeg
    · subst hq; simp [rI, tI, up2, updV]
    · simp [rI, tI, up2, updV, hq]
theorem ra_bast (pc : Nat) {a : Nat} {i x : Int32} (ht : rk ν.2 a = 102) (hi : vp_in i (rn ν.2 a)) (h : XCx κ cc own S A n mc ms) (d : decode cc pc = .ok (.bastore, 1)) (K : ∀ ν1, ν1 = (ν.1, tI ν.2 a (Int32.toNatClampNeg i) (vp_nar .byte x)) → XG κ S A mc ms Q (pc + 1) (ν1, k0, n0) lv st) : XG κ S A mc ms Q pc (ν, k0, n0) lv (.int x :: .int i :: .ref a :: st) := by
  intro H locs ls cells slots ha b c
  have ha : XI S A ν H ∧ cells + k0 ≤ mc ∧ slots + n0 ≤ ms := ha
  have hrc : rc ν.2 a = 102 := rc_of ht (by decide)
  have hne : rk ν.2 a ≠ 0 := by omega
  have hP := x_rarr ha.1.2.1 (t := 2) hrc
  refine W.bast h.1.1 h.1.2.1 (hP 0 _ rfl) ((h.2.1.1.2 1 _ rfl).1 (rn ν.2 a) (fun j => .int (rI ν.2 a j))) (fun q => by cases q) (by show ¬ (i < 0 ∨ (arrV _ _ _).slots.size ≤ _); rw [arrV_size]; exact hi) rfl rfl d fun H1 e z oq => ?_
  refine K _ rfl H1 _ ls cells slots ⟨ha.1.raw hne oq rfl (tI_o _ _ _ _) (fun c' r' hc' _ => absurd (hrc.symm.trans hc') (fun e2 => ?_)) (fun t' ht' => ?_), ha.2⟩ (b.put z oq ((ha.1.2.2.1 a hne).2.1 (by omega))) c
  · have := (List.getElem?_eq_some_iff.mp (by assumption)).1
    have : c' < 22 := this
    omega
  · obtain rfl : t' = 2 := by omega
    rw [e]
    show some ((vp_cell _ (rn ν.2 a, .inl (rI ν.2 a))).setSlot _ _) = some (vp_cell _ (rn ν.2 a, .inl (rI (tI ν.2 a _ _) a)))
    rw [vp_cell_i, vp_cell_i, arrV_store]
    congr 2
    funext q
    by_cases hq : q = i.toNatClampNeg
    · subst hq; simp [rI, tI, up2, updV, vp_nar]; try rfl
    · simp [rI, tI, up2, updV, hq]
theorem ra_cast (pc : Nat) {a : Nat} {i x : Int32} (ht : rk ν.2 a = 103) (hi : vp_in i (rn ν.2 a)) (h : XCx κ cc own S A n mc ms) (d : decode cc pc = .ok (.castore, 1)) (K : ∀ ν1, ν1 = (ν.1, tI ν.2 a (Int32.toNatClampNeg i) (vp_nar .char x)) → XG κ S A mc ms Q (pc + 1) (ν1, k0, n0) lv st) : XG κ S A mc ms Q pc (ν, k0, n0) lv (.int x :: .int i :: .ref a :: st) := by
  intro H locs ls cells slots ha b c
  have ha : XI S A ν H ∧ cells + k0 ≤ mc ∧ slots + n0 ≤ ms := ha
  have hrc : rc ν.2 a = 103 := rc_of ht (by decide)
  have hne : rk ν.2 a ≠ 0 := by omega
  have hP := x_rarr ha.1.2.1 (t := 3) hrc
  refine W.cast h.1.1 h.1.2.1 (hP 0 _ rfl) ((h.2.1.1.2 2 _ rfl).1 (rn ν.2 a) (fun j => .int (rI ν.2 a j))) (fun q => by cases q) (by show ¬ (i < 0 ∨ (arrV _ _ _).slots.size ≤ _); rw [arrV_size]; exact hi) rfl rfl d fun H1 e z oq => ?_
  refine K _ rfl H1 _ ls cells slots ⟨ha.1.raw hne oq rfl (tI_o _ _ _ _) (fun c' r' hc' _ => absurd (hrc.symm.trans hc') (fun e2 => ?_)) (fun t' ht' => ?_), ha.2⟩ (b.put z oq ((ha.1.2.2.1 a hne).2.1 (by omega))) c
  · have := (List.getElem?_eq_some_iff.mp (by assumption)).1
    have : c' < 22 := this
    omega
  · obtain rfl : t' = 3 := by omega
    rw [e]
    show some ((vp_cell _ (rn ν.2 a, .inl (rI ν.2 a))).setSlot _ _) = some (vp_cell _ (rn ν.2 a, .inl (rI (tI ν.2 a _ _) a)))
    rw [vp_cell_i, vp_cell_i, arrV_store]
    congr 2
    funext q
    by_cases hq : q = i.toNatClampNeg
    · subst hq; simp [rI, tI, up2, updV, vp_nar]; try rfl
    · simp [rI, tI, up2, updV, hq]
theorem x_sz {H : Heap} {locs : List Loc} (h : XCx κ cc own S A n mc ms) (b : va_S A (cxS κ).heap H locs) : ∀ q, fCell xT S xcl q → q < H.size := fun q hq => Nat.lt_of_lt_of_le (h.2.2.2.2.1 q hq) b.1
theorem x_new (pc : Nat) {idx : Nat} (c : Nat) {C : String} {T : u_T} {N k n1 : Nat} (hcl : xcl[c]? = some (C, T, N)) (hin : ∀ w ∈ u_ws C T N, w ∈ lw_all) (ty : Nat → FieldType) (hty : ∀ k, k < N → parseFieldDescriptor (T k).2.2.1 = some (ty k)) (hdv : ∀ j, j < N → ∀ ρ a, (∀ q, rI ρ a q = 0) → (∀ q, rL ρ a q = 0) → (∀ q, rO ρ a q = none) → defaultValue (ty j) = rval S ρ c a j) (h : XCx κ cc own S A n mc ms) (hq : Jvm.Cond.classLink own idx C ∈ lw_all) (hq2 : Jvm.Cond.instantiable C N ∈ lw_all) (hq3 : Jvm.Cond.initialized C ∈ lw_all) (hk : k + 1 ≤ k0) (hn1 : n1 + N ≤ n0) (d : decode cc pc = .ok (.new idx, 3))
    (K : ∀ q, rk ν.2 q = 0 → ∀ ν1, ν1 = (ν.1, tN ν.2 q (c + 1) 0) → XG κ S A mc ms Q (pc + 3) (ν1, k, n1) lv (.ref q :: st)) : XG κ S A mc ms Q pc (ν, k0, n0) lv st := by
  intro H locs ls cells slots ha b cc1
  have ha : XI S A ν H ∧ cells + k0 ≤ mc ∧ slots + n0 ≤ ms := ha
  have hR : cxR κ = rmX n mc ms := h.2.2.2.2.2.1
  have hc22 : c < 22 := (List.getElem?_eq_some_iff.mp hcl).1
  have hKn := h.2.1.1.1 c _ hcl
  have hA0 : A H.size := h.2.2.2.1 _ b.1
  have z1c : cells + 1 ≤ (cxR κ).cells := by rw [hR]; show _ ≤ mc; have := ha.2.1; omega
  have z1s : slots + N ≤ (cxR κ).slots := by rw [hR]; show _ ≤ ms; have := ha.2.2; omega
  refine W.newcK h.1.1 h.1.2.1 h.1.2.2.1 (h.1.2.2.2 _ hq) (h.1.2.2.2 _ hq2) (h.1.2.2.2 _ hq3) rfl d z1c z1s hKn.2.1 rfl fun H1 kC hkC e1 z1 o1 => ?_
  have hx := ha.1.newC (H1 := H1) (c := c + 1) (n := 0) hA0 o1 ⟨Or.inl (by omega), by omega, by omega⟩ (x_sz h b) (fun d' r' hd' hr' => by
    obtain rfl : d' = c := by omega
    cases hcl.symm.trans hr'
    exact (u_born ty h.1.2.2.2 hin hKn hkC e1 hty).to (fun j hj => hdv j hj _ _ (fun q => by simp [rI, tN]) (fun q => by simp [rL, tN]) (fun q => by simp [rO, tN]))) (fun t ht => by omega)
  refine K H.size hx.1 _ rfl H1 locs ls (cells + 1) (slots + N) ⟨hx.2, by have := ha.2.1; show cells + 1 + k ≤ mc; omega, by have := ha.2.2; show slots + N + n1 ≤ ms; omega⟩ ⟨Nat.le_trans b.1 (by omega), fun x h1 h2 => (o1 x (Nat.lt_of_lt_of_le h1 b.1)).trans (b.2.1 x h1 h2), b.2.2⟩ cc1
theorem x_newaI (pc : Nat) {i : Int32} {N k n1 : Nat} (hi : ¬ i < 0) (hN : i.toNatClampNeg = N) (hb4 : N ≤ 100000000) (h : XCx κ cc own S A n mc ms) (hk : k + 1 ≤ k0) (hn1 : n1 + N ≤ n0) (d : decode cc pc = .ok (.newarray .int, 2))
    (K : ∀ q, rk ν.2 q = 0 → ∀ ν1, ν1 = (ν.1, tN ν.2 q 101 N) → XG κ S A mc ms Q (pc + 2) (ν1, k, n1) lv (.ref q :: st)) : XG κ S A mc ms Q pc (ν, k0, n0) lv (.int i :: st) := by
  intro H locs ls cells slots ha b cc1
  have ha : XI S A ν H ∧ cells + k0 ≤ mc ∧ slots + n0 ≤ ms := ha
  have hR : cxR κ = rmX n mc ms := h.2.2.2.2.2.1
  have hA0 : A H.size := h.2.2.2.1 _ b.1
  have z1c : cells + 1 ≤ (cxR κ).cells := by rw [hR]; show _ ≤ mc; have := ha.2.1; omega
  have z1s : slots + N ≤ (cxR κ).slots := by rw [hR]; show _ ≤ ms; have := ha.2.2; omega
  refine va_newaK h.1.1 h.1.2.1 (atype := .int) (h.1.2.2.2 _ q253) rfl d rfl hi hN (by show N * 4 ≤ 536870912; omega) z1c z1s rfl fun H1 cA e1 z1 o1 hAr hNm => ?_
  obtain rfl : cA = S.2.2.2 1 := Option.some.inj (hNm.symm.trans (h.2.1.1.2 0 _ rfl).2)
  have hx := ha.1.newC (H1 := H1) (c := 101) (n := N) hA0 o1 ⟨Or.inr (by omega), by omega, by omega⟩ (x_sz h b) (fun d' r' hd' hr' => by
    have := (List.getElem?_eq_some_iff.mp hr').1
    have : d' < 22 := this
    omega) (fun t' ht' => by
    obtain rfl : t' = 1 := by omega
    rw [e1]
    show _ = some (vp_cell _ (rn (tN ν.2 H.size 101 N) H.size, .inl (rI (tN ν.2 H.size 101 N) H.size)))
    simp [rn, rI, tN, vp_cell_i, defaultValue, newarray.typeOf])
  refine K H.size hx.1 _ rfl H1 locs ls (cells + 1) (slots + N) ⟨hx.2, by have := ha.2.1; show cells + 1 + k ≤ mc; omega, by have := ha.2.2; show slots + N + n1 ≤ ms; omega⟩ ⟨Nat.le_trans b.1 (by omega), fun x h1 h2 => (o1 x (Nat.lt_of_lt_of_le h1 b.1)).trans (b.2.1 x h1 h2), b.2.2⟩ cc1
theorem x_newaB (pc : Nat) {i : Int32} {N k n1 : Nat} (hi : ¬ i < 0) (hN : i.toNatClampNeg = N) (hb4 : N ≤ 100000000) (h : XCx κ cc own S A n mc ms) (hk : k + 1 ≤ k0) (hn1 : n1 + N ≤ n0) (d : decode cc pc = .ok (.newarray .byte, 2))
    (K : ∀ q, rk ν.2 q = 0 → ∀ ν1, ν1 = (ν.1, tN ν.2 q 102 N) → XG κ S A mc ms Q (pc + 2) (ν1, k, n1) lv (.ref q :: st)) : XG κ S A mc ms Q pc (ν, k0, n0) lv (.int i :: st) := by
  intro H locs ls cells slots ha b cc1
  have ha : XI S A ν H ∧ cells + k0 ≤ mc ∧ slots + n0 ≤ ms := ha
  have hR : cxR κ = rmX n mc ms := h.2.2.2.2.2.1
  have hA0 : A H.size := h.2.2.2.1 _ b.1
  have z1c : cells + 1 ≤ (cxR κ).cells := by rw [hR]; show _ ≤ mc; have := ha.2.1; omega
  have z1s : slots + N ≤ (cxR κ).slots := by rw [hR]; show _ ≤ ms; have := ha.2.2; omega
  refine va_newaK h.1.1 h.1.2.1 (atype := .byte) (h.1.2.2.2 _ q383) rfl d rfl hi hN (by show N * 1 ≤ 536870912; omega) z1c z1s rfl fun H1 cA e1 z1 o1 hAr hNm => ?_
  obtain rfl : cA = S.2.2.2 2 := Option.some.inj (hNm.symm.trans (h.2.1.1.2 1 _ rfl).2)
  have hx := ha.1.newC (H1 := H1) (c := 102) (n := N) hA0 o1 ⟨Or.inr (by omega), by omega, by omega⟩ (x_sz h b) (fun d' r' hd' hr' => by
    have := (List.getElem?_eq_some_iff.mp hr').1
    have : d' < 22 := this
    omega) (fun t' ht' => by
    obtain rfl : t' = 2 := by omega
    rw [e1]
    show _ = some (vp_cell _ (rn (tN ν.2 H.size 102 N) H.size, .inl (rI (tN ν.2 H.size 102 N) H.size)))
    simp [rn, rI, tN, vp_cell_i, defaultValue, newarray.typeOf])
  refine K H.size hx.1 _ rfl H1 locs ls (cells + 1) (slots + N) ⟨hx.2, by have := ha.2.1; show cells + 1 + k ≤ mc; omega, by have := ha.2.2; show slots + N + n1 ≤ ms; omega⟩ ⟨Nat.le_trans b.1 (by omega), fun x h1 h2 => (o1 x (Nat.lt_of_lt_of_le h1 b.1)).trans (b.2.1 x h1 h2), b.2.2⟩ cc1
theorem x_newaC (pc : Nat) {i : Int32} {N k n1 : Nat} (hi : ¬ i < 0) (hN : i.toNatClampNeg = N) (hb4 : N ≤ 100000000) (h : XCx κ cc own S A n mc ms) (hk : k + 1 ≤ k0) (hn1 : n1 + N ≤ n0) (d : decode cc pc = .ok (.newarray .char, 2))
    (K : ∀ q, rk ν.2 q = 0 → ∀ ν1, ν1 = (ν.1, tN ν.2 q 103 N) → XG κ S A mc ms Q (pc + 2) (ν1, k, n1) lv (.ref q :: st)) : XG κ S A mc ms Q pc (ν, k0, n0) lv (.int i :: st) := by
  intro H locs ls cells slots ha b cc1
  have ha : XI S A ν H ∧ cells + k0 ≤ mc ∧ slots + n0 ≤ ms := ha
  have hR : cxR κ = rmX n mc ms := h.2.2.2.2.2.1
  have hA0 : A H.size := h.2.2.2.1 _ b.1
  have z1c : cells + 1 ≤ (cxR κ).cells := by rw [hR]; show _ ≤ mc; have := ha.2.1; omega
  have z1s : slots + N ≤ (cxR κ).slots := by rw [hR]; show _ ≤ ms; have := ha.2.2; omega
  refine va_newaK h.1.1 h.1.2.1 (atype := .char) (h.1.2.2.2 _ q692) rfl d rfl hi hN (by show N * 2 ≤ 536870912; omega) z1c z1s rfl fun H1 cA e1 z1 o1 hAr hNm => ?_
  obtain rfl : cA = S.2.2.2 3 := Option.some.inj (hNm.symm.trans (h.2.1.1.2 2 _ rfl).2)
  have hx := ha.1.newC (H1 := H1) (c := 103) (n := N) hA0 o1 ⟨Or.inr (by omega), by omega, by omega⟩ (x_sz h b) (fun d' r' hd' hr' => by
    have := (List.getElem?_eq_some_iff.mp hr').1
    have : d' < 22 := this
    omega) (fun t' ht' => by
    obtain rfl : t' = 3 := by omega
    rw [e1]
    show _ = some (vp_cell _ (rn (tN ν.2 H.size 103 N) H.size, .inl (rI (tN ν.2 H.size 103 N) H.size)))
    simp [rn, rI, tN, vp_cell_i, defaultValue, newarray.typeOf])
  refine K H.size hx.1 _ rfl H1 locs ls (cells + 1) (slots + N) ⟨hx.2, by have := ha.2.1; show cells + 1 + k ≤ mc; omega, by have := ha.2.2; show slots + N + n1 ≤ ms; omega⟩ ⟨Nat.le_trans b.1 (by omega), fun x h1 h2 => (o1 x (Nat.lt_of_lt_of_le h1 b.1)).trans (b.2.1 x h1 h2), b.2.2⟩ cc1
end XA
