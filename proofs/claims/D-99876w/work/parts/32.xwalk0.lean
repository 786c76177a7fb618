/-! THE SYSTEM, walked: predicates and walks (written by gen_xw.py) -/
theorem bp_19 : (Int8.ofInt 19).toInt32 = 19 := by decide
theorem bp_39 : (Int8.ofInt 39).toInt32 = 39 := by decide
theorem bp_63 : (Int8.ofInt 63).toInt32 = 63 := by decide
theorem bp_64 : (Int8.ofInt 64).toInt32 = 64 := by decide
theorem ic_m8 : Int32.ofInt (-8) = (-8) := by decide
theorem tabOut_42_45 {x : Int32} (h0 : ¬ x = 42) (h1 : ¬ x = 43) (h2 : ¬ x = 44) (h3 : ¬ x = 45) : x.toInt < 42 ∨ 45 < x.toInt := by
  have e0 : ¬ x.toInt = 42 := fun e => h0 (Int32.toInt_inj.mp (e.trans (by decide))); have e1 : ¬ x.toInt = 43 := fun e => h1 (Int32.toInt_inj.mp (e.trans (by decide))); have e2 : ¬ x.toInt = 44 := fun e => h2 (Int32.toInt_inj.mp (e.trans (by decide))); have e3 : ¬ x.toInt = 45 := fun e => h3 (Int32.toInt_inj.mp (e.trans (by decide))); omega
theorem xft_this {o : Nat} (h : xoc o = 5) : xft o 8 = 0 := by
  unfold xoc at h
  split at h <;> first | (exact absurd h (by decide)) | (unfold xft; split <;> simp_all)
theorem cat_rf (v : Option Nat) : (va_rf v).category = 1 := by cases v <;> rfl
section XMI
variable {κ : Cx} {S : Adr} {A : Nat → Prop} {mc ms : Nat} {Q : State → Prop} {cc : ByteArray} {n : Nat} {ν : XN} {k0 n0 : Nat} {lv : List (Option Value)} {st : List Value}
theorem xcs_X0_208 (pc : Nat) {a : Nat} (ha : rc ν.2 a = 8 ∨ rc ν.2 a = 9) (h : XCx κ cc RX0 S A n mc ms) (d : decode cc pc = .ok (.checkcast 208, 3)) (K : XG κ S A mc ms Q (pc + 3) (ν, k0, n0) lv (.ref a :: st)) : XG κ S A mc ms Q pc (ν, k0, n0) lv (.ref a :: st) := by
  rcases ha with ha | ha
  · exact x_castS pc 7 ha rfl h q1319 d K
  · exact x_castY pc 8 ha rfl h q1319 q2704 d K
theorem xcs_X0_225 (pc : Nat) {a : Nat} (ha : rc ν.2 a = 10) (h : XCx κ cc RX0 S A n mc ms) (d : decode cc pc = .ok (.checkcast 225, 3)) (K : XG κ S A mc ms Q (pc + 3) (ν, k0, n0) lv (.ref a :: st)) : XG κ S A mc ms Q pc (ν, k0, n0) lv (.ref a :: st) := by
  exact x_castS pc 9 ha rfl h q1354 d K
theorem xcs_X11_2 (pc : Nat) {a : Nat} (ha : rc ν.2 a = 12 ∨ rc ν.2 a = 13 ∨ rc ν.2 a = 14 ∨ rc ν.2 a = 15 ∨ rc ν.2 a = 16) (h : XCx κ cc RX11 S A n mc ms) (d : decode cc pc = .ok (.checkcast 2, 3)) (K : XG κ S A mc ms Q (pc + 3) (ν, k0, n0) lv (.ref a :: st)) : XG κ S A mc ms Q pc (ν, k0, n0) lv (.ref a :: st) := by
  rcases ha with ha | ha | ha | ha | ha
  · exact x_castY pc 11 ha rfl h q1420 q2710 d K
  · exact x_castY pc 12 ha rfl h q1420 q2713 d K
  · exact x_castY pc 13 ha rfl h q1420 q2711 d K
  · exact x_castY pc 14 ha rfl h q1420 q2709 d K
  · exact x_castY pc 15 ha rfl h q1420 q2712 d K
theorem xcs_X17_2 (pc : Nat) {a : Nat} (ha : rc ν.2 a = 18 ∨ rc ν.2 a = 19 ∨ rc ν.2 a = 20 ∨ rc ν.2 a = 21) (h : XCx κ cc RX17 S A n mc ms) (d : decode cc pc = .ok (.checkcast 2, 3)) (K : XG κ S A mc ms Q (pc + 3) (ν, k0, n0) lv (.ref a :: st)) : XG κ S A mc ms Q pc (ν, k0, n0) lv (.ref a :: st) := by
  rcases ha with ha | ha | ha | ha
  · exact x_castY pc 17 ha rfl h q1391 q2706 d K
  · exact x_castY pc 18 ha rfl h q1391 q2707 d K
  · exact x_castY pc 19 ha rfl h q1391 q2705 d K
  · exact x_castY pc 20 ha rfl h q1391 q2708 d K
theorem xcs_X7_10 (pc : Nat) {a : Nat} (ha : rc ν.2 a = 8 ∨ rc ν.2 a = 9) (h : XCx κ cc RX7 S A n mc ms) (d : decode cc pc = .ok (.checkcast 10, 3)) (K : XG κ S A mc ms Q (pc + 3) (ν, k0, n0) lv (.ref a :: st)) : XG κ S A mc ms Q pc (ν, k0, n0) lv (.ref a :: st) := by
  rcases ha with ha | ha
  · exact x_castS pc 7 ha rfl h q848 d K
  · exact x_castY pc 8 ha rfl h q848 q2704 d K
theorem xcs_X1_46 (pc : Nat) {a : Nat} (ha : rc ν.2 a = 9) (h : XCx κ cc RX1 S A n mc ms) (d : decode cc pc = .ok (.checkcast 46, 3)) (K : XG κ S A mc ms Q (pc + 3) (ν, k0, n0) lv (.ref a :: st)) : XG κ S A mc ms Q pc (ν, k0, n0) lv (.ref a :: st) := by
  exact x_castS pc 8 ha rfl h q947 d K
theorem xcs_X5_60 (pc : Nat) {a : Nat} (ha : rc ν.2 a = 9) (h : XCx κ cc RX5 S A n mc ms) (d : decode cc pc = .ok (.checkcast 60, 3)) (K : XG κ S A mc ms Q (pc + 3) (ν, k0, n0) lv (.ref a :: st)) : XG κ S A mc ms Q pc (ν, k0, n0) lv (.ref a :: st) := by
  exact x_castS pc 8 ha rfl h q1290 d K
theorem xcs_X5_168 (pc : Nat) {a : Nat} (ha : rc ν.2 a = 10) (h : XCx κ cc RX5 S A n mc ms) (d : decode cc pc = .ok (.checkcast 168, 3)) (K : XG κ S A mc ms Q (pc + 3) (ν, k0, n0) lv (.ref a :: st)) : XG κ S A mc ms Q pc (ν, k0, n0) lv (.ref a :: st) := by
  exact x_castS pc 9 ha rfl h q1533 d K
theorem xcs_J6_10 (pc : Nat) {a : Nat} (ha : rc ν.2 a = 11) (h : XCx κ cc RJ6 S A n mc ms) (d : decode cc pc = .ok (.checkcast 10, 3)) (K : XG κ S A mc ms Q (pc + 3) (ν, k0, n0) lv (.ref a :: st)) : XG κ S A mc ms Q pc (ν, k0, n0) lv (.ref a :: st) := by
  exact x_castS pc 10 ha rfl h q618 d K
theorem xgm_X7_9 (pc : Nat) {o : Nat} (ho : rc ν.2 o = 8 ∨ rc ν.2 o = 9) (h : XCx κ cc RX7 S A n mc ms) (d : decode cc pc = .ok (.getfield 9, 3)) (K : XG κ S A mc ms Q (pc + 3) (ν, k0, n0) lv (va_rf (rO ν.2 o 0) :: st)) : XG κ S A mc ms Q pc (ν, k0, n0) lv (.ref o :: st) := by
  rcases ho with ho | ho
  · exact xg_X7_9_7 pc ho h d K
  · exact xg_X7_9_8 pc ho h d K
theorem xpm_X7_9 (pc : Nat) {o : Nat} (v : Option Nat) (hI : (cxT κ).name = "<init>") (ho : rk ν.2 o = 8 ∨ rk ν.2 o = 9) (h : XCx κ cc RX7 S A n mc ms) (d : decode cc pc = .ok (.putfield 9, 3)) (K : ∀ ν1, ν1 = (ν.1, tO ν.2 o 0 v) → XG κ S A mc ms Q (pc + 3) (ν1, k0, n0) lv st) : XG κ S A mc ms Q pc (ν, k0, n0) lv (va_rf v :: .ref o :: st) := by
  rcases ho with ho | ho
  · exact xp_X7_9_7 pc v hI ho h d K
  · exact xp_X7_9_8 pc v hI ho h d K
theorem xcL_I_1 (pc : Nat) {own : String} {b idx d kc nc k1 n1 : Nat} {x0 : Value} {rest : List Value} {post : Int32 → XN → Prop} (h : XCx κ cc own S A n mc ms) (hM : xMet κ.2.1 S A d kc nc 1 yX7_letter (.ref b :: [x0]) ν (pI post)) (hd : d < n) (hk : kc + k1 ≤ k0) (hn : nc + n1 ≤ n0) (hrc : rc ν.2 b = 8 ∨ rc ν.2 b = 9) (hq : Cond.methodLink own idx yX7_letter ∈ lw_all) (hW : (rest.map fun v => v.category).sum ≤ 8) (dc : decode cc pc = .ok (.invokevirtual idx, 3)) (K : ∀ r ν1, post r ν1 → XG κ S A mc ms Q (pc + 3) (ν1, k1, n1) lv (.int r :: rest)) : XG κ S A mc ms Q pc (ν, k0, n0) lv (x0 :: .ref b :: rest) := by
  rcases hrc with hrc | hrc
  · exact xcV_I_1 pc h hM hd hk hn q1321 q1322 (fun H hI => x_recvR h hrc rfl hI) hq hW dc K
  · exact xcU_I_1 pc h hM hd hk hn q1323 q1324 q1321 (fun H hI => x_recvR h hrc rfl hI) hq hW dc K
end XMI
def xw_J12_abs (x0 : Int32) (ν : XN) (Q : Int32 → XN → Prop) : Prop :=
  ((0 ≤ x0 → Q x0 ν) ∧ (¬ 0 ≤ x0 → Q (-x0) ν))
theorem xt_J12_abs {κ : Cx} {S : Adr} {A : Nat → Prop} {Z : State → Prop} {Q : Int32 → XN → Prop} (h : XCx κ cJ12_abs RJ12 S A 1 0 0) (hT : (cxT κ).sig.returnType = some .int) (hN : (cxT κ).name = "abs") (hR : xRet κ S A 0 0 Z cJ12_abs (pI Q)) {x0 : Int32} {ν : XN} (hw : xw_J12_abs x0 ν Q) : XG κ S A 0 0 Z 0 (ν, 0, 0) [some (.int x0)] [] := by
  unfold xw_J12_abs at hw
  refine g_iload_0 0 h.1 dJ12_abs_0 ?_
  refine g_if_ge 1 9 h.1 dJ12_abs_1 (by decide) (fun c => ?_) (fun c => ?_)
  · have hw := hw.1 c
    refine g_iload_0 9 h.1 dJ12_abs_9 ?_
    exact hR.1 10 _ _ _ _ _ _ hT rfl dJ12_abs_10 ⟨_, rfl, hw⟩
  · have hw := hw.2 c
    refine g_iload_0 4 h.1 dJ12_abs_4 ?_
    refine g_ineg 5 h.1 dJ12_abs_5 ?_
    refine g_goto 6 10 h.1 dJ12_abs_6 (by decide) ?_
    exact hR.1 10 _ _ _ _ _ _ hT rfl dJ12_abs_10 ⟨_, rfl, hw⟩
theorem xm_J12_abs {l : Launch} {S : Adr} {A : Nat → Prop} (hD : FD xT S xcl A) {x0 : Int32} {ν : XN} {Q : Int32 → XN → Prop} (hw : xw_J12_abs x0 ν Q) : xMet l S A 1 0 0 1 yJ12_abs [.int x0] ν (pI Q) :=
  x_met (by decide +kernel) hD ⟨⟨by decide, by decide, by show _ = some 1; decide +kernel⟩, by decide, q1467, q191⟩ (Nat.le_of_ble_eq_true rfl) (fun κ Z h hT hN hR => xt_J12_abs h hT hN hR hw)
def xw_J12_floorDiv (x0 : Int64) (x2 : Int64) (ν : XN) (Q : Int64 → XN → Prop) : Prop :=
  (¬ x2 = 0 ∧ ((0 ≤ (lg_cmp (x0 ^^^ x2) (0 : Int64)) → Q (x0 / x2) ν) ∧ (¬ 0 ≤ (lg_cmp (x0 ^^^ x2) (0 : Int64)) → (((lg_cmp ((x0 / x2) * x2) x0) = 0 → Q (x0 / x2) ν) ∧ (¬ (lg_cmp ((x0 / x2) * x2) x0) = 0 → Q ((x0 / x2) - (1 : Int64)) ν)))))
theorem xt_J12_floorDiv {κ : Cx} {S : Adr} {A : Nat → Prop} {Z : State → Prop} {Q : Int64 → XN → Prop} (h : XCx κ cJ12_floorDiv RJ12 S A 1 0 0) (hT : (cxT κ).sig.returnType = some .long) (hN : (cxT κ).name = "floorDiv") (hR : xRet κ S A 0 0 Z cJ12_floorDiv (pJ Q)) {x0 : Int64} {x2 : Int64} {ν : XN} (hw : xw_J12_floorDiv x0 x2 ν Q) : XG κ S A 0 0 Z 0 (ν, 0, 0) [some (.long x0), none, some (.long x2), none, none, none] [] := by
  unfold xw_J12_floorDiv at hw
  refine g_lload_0 0 h.1 dJ12_floorDiv_0 ?_
  refine g_lload_2 1 h.1 dJ12_floorDiv_1 ?_
  obtain ⟨f1, hw⟩ := hw
  refine g_ldiv 2 f1 h.1 dJ12_floorDiv_2 ?_
  refine g_lstore_4 3 h.1 rfl dJ12_floorDiv_3 ?_
  refine g_lload_0 5 h.1 dJ12_floorDiv_5 ?_
  refine g_lload_2 6 h.1 dJ12_floorDiv_6 ?_
  refine g_lxor 7 h.1 dJ12_floorDiv_7 ?_
  refine g_lconst 8 _ lc_0 h.1 dJ12_floorDiv_8 ?_
  refine g_lcmp 9 h.1 dJ12_floorDiv_9 ?_
  refine g_if_ge 10 27 h.1 dJ12_floorDiv_10 (by decide) (fun c => ?_) (fun c => ?_)
  · have hw := hw.1 c
    refine g_lload_4 27 h.1 dJ12_floorDiv_27 ?_
    exact hR.2.1 29 _ _ _ _ _ hT dJ12_floorDiv_29 ⟨_, rfl, hw⟩
  · have hw := hw.2 c
    refine g_lload_4 13 h.1 dJ12_floorDiv_13 ?_
    refine g_lload_2 15 h.1 dJ12_floorDiv_15 ?_
    refine g_lmul 16 h.1 dJ12_floorDiv_16 ?_
    refine g_lload_0 17 h.1 dJ12_floorDiv_17 ?_
    refine g_lcmp 18 h.1 dJ12_floorDiv_18 ?_
    refine g_if_eq 19 27 h.1 dJ12_floorDiv_19 (by decide) (fun c => ?_) (fun c => ?_)
    · have hw := hw.1 c
      refine g_lload_4 27 h.1 dJ12_floorDiv_27 ?_
      exact hR.2.1 29 _ _ _ _ _ hT dJ12_floorDiv_29 ⟨_, rfl, hw⟩
    · have hw := hw.2 c
      refine g_lload_4 22 h.1 dJ12_floorDiv_22 ?_
      refine g_lconst 24 _ lc_1 h.1 dJ12_floorDiv_24 ?_
      refine g_lsub 25 h.1 dJ12_floorDiv_25 ?_
      exact hR.2.1 26 _ _ _ _ _ hT dJ12_floorDiv_26 ⟨_, rfl, hw⟩
theorem xm_J12_floorDiv {l : Launch} {S : Adr} {A : Nat → Prop} (hD : FD xT S xcl A) {x0 : Int64} {x2 : Int64} {ν : XN} {Q : Int64 → XN → Prop} (hw : xw_J12_floorDiv x0 x2 ν Q) : xMet l S A 1 0 0 2 yJ12_floorDiv [.long x0, .long x2] ν (pJ Q) :=
  x_met (by decide +kernel) hD ⟨⟨by decide, by decide, by show _ = some 2; decide +kernel⟩, by decide, q1491, q191⟩ (Nat.le_of_ble_eq_true rfl) (fun κ Z h hT hN hR => xt_J12_floorDiv h hT hN hR hw)
def xw_J12_max (x0 : Int32) (x1 : Int32) (ν : XN) (Q : Int32 → XN → Prop) : Prop :=
  ((x0 < x1 → Q x1 ν) ∧ (¬ x0 < x1 → Q x0 ν))
theorem xt_J12_max {κ : Cx} {S : Adr} {A : Nat → Prop} {Z : State → Prop} {Q : Int32 → XN → Prop} (h : XCx κ cJ12_max RJ12 S A 1 0 0) (hT : (cxT κ).sig.returnType = some .int) (hN : (cxT κ).name = "max") (hR : xRet κ S A 0 0 Z cJ12_max (pI Q)) {x0 : Int32} {x1 : Int32} {ν : XN} (hw : xw_J12_max x0 x1 ν Q) : XG κ S A 0 0 Z 0 (ν, 0, 0) [some (.int x0), some (.int x1)] [] := by
  unfold xw_J12_max at hw
  refine g_iload_0 0 h.1 dJ12_max_0 ?_
  refine g_iload_1 1 h.1 dJ12_max_1 ?_
  refine g_icmp_lt 2 9 h.1 dJ12_max_2 (by decide) (fun c => ?_) (fun c => ?_)
  · have hw := hw.1 c
    refine g_iload_1 9 h.1 dJ12_max_9 ?_
    exact hR.1 10 _ _ _ _ _ _ hT rfl dJ12_max_10 ⟨_, rfl, hw⟩
  · have hw := hw.2 c
    refine g_iload_0 5 h.1 dJ12_max_5 ?_
    refine g_goto 6 10 h.1 dJ12_max_6 (by decide) ?_
    exact hR.1 10 _ _ _ _ _ _ hT rfl dJ12_max_10 ⟨_, rfl, hw⟩
theorem xm_J12_max {l : Launch} {S : Adr} {A : Nat → Prop} (hD : FD xT S xcl A) {x0 : Int32} {x1 : Int32} {ν : XN} {Q : Int32 → XN → Prop} (hw : xw_J12_max x0 x1 ν Q) : xMet l S A 1 0 0 2 yJ12_max [.int x0, .int x1] ν (pI Q) :=
  x_met (by decide +kernel) hD ⟨⟨by decide, by decide, by show _ = some 2; decide +kernel⟩, by decide, q886, q191⟩ (Nat.le_of_ble_eq_true rfl) (fun κ Z h hT hN hR => xt_J12_max h hT hN hR hw)
def xw_J12_max_2 (x0 : Int64) (x2 : Int64) (ν : XN) (Q : Int64 → XN → Prop) : Prop :=
  (((lg_cmp x0 x2) < 0 → Q x2 ν) ∧ (¬ (lg_cmp x0 x2) < 0 → Q x0 ν))
theorem xt_J12_max_2 {κ : Cx} {S : Adr} {A : Nat → Prop} {Z : State → Prop} {Q : Int64 → XN → Prop} (h : XCx κ cJ12_max_2 RJ12 S A 1 0 0) (hT : (cxT κ).sig.returnType = some .long) (hN : (cxT κ).name = "max") (hR : xRet κ S A 0 0 Z cJ12_max_2 (pJ Q)) {x0 : Int64} {x2 : Int64} {ν : XN} (hw : xw_J12_max_2 x0 x2 ν Q) : XG κ S A 0 0 Z 0 (ν, 0, 0) [some (.long x0), none, some (.long x2), none] [] := by
  unfold xw_J12_max_2 at hw
  refine g_lload_0 0 h.1 dJ12_max_2_0 ?_
  refine g_lload_2 1 h.1 dJ12_max_2_1 ?_
  refine g_lcmp 2 h.1 dJ12_max_2_2 ?_
  refine g_if_lt 3 10 h.1 dJ12_max_2_3 (by decide) (fun c => ?_) (fun c => ?_)
  · have hw := hw.1 c
    refine g_lload_2 10 h.1 dJ12_max_2_10 ?_
    exact hR.2.1 11 _ _ _ _ _ hT dJ12_max_2_11 ⟨_, rfl, hw⟩
  · have hw := hw.2 c
    refine g_lload_0 6 h.1 dJ12_max_2_6 ?_
    refine g_goto 7 11 h.1 dJ12_max_2_7 (by decide) ?_
    exact hR.2.1 11 _ _ _ _ _ hT dJ12_max_2_11 ⟨_, rfl, hw⟩
theorem xm_J12_max_2 {l : Launch} {S : Adr} {A : Nat → Prop} (hD : FD xT S xcl A) {x0 : Int64} {x2 : Int64} {ν : XN} {Q : Int64 → XN → Prop} (hw : xw_J12_max_2 x0 x2 ν Q) : xMet l S A 1 0 0 2 yJ12_max_2 [.long x0, .long x2] ν (pJ Q) :=
  x_met (by decide +kernel) hD ⟨⟨by decide, by decide, by show _ = some 2; decide +kernel⟩, by decide, q1414, q191⟩ (Nat.le_of_ble_eq_true rfl) (fun κ Z h hT hN hR => xt_J12_max_2 h hT hN hR hw)
def xw_J12_min (x0 : Int32) (x1 : Int32) (ν : XN) (Q : Int32 → XN → Prop) : Prop :=
  ((x1 < x0 → Q x1 ν) ∧ (¬ x1 < x0 → Q x0 ν))
theorem xt_J12_min {κ : Cx} {S : Adr} {A : Nat → Prop} {Z : State → Prop} {Q : Int32 → XN → Prop} (h : XCx κ cJ12_min RJ12 S A 1 0 0) (hT : (cxT κ).sig.returnType = some .int) (hN : (cxT κ).name = "min") (hR : xRet κ S A 0 0 Z cJ12_min (pI Q)) {x0 : Int32} {x1 : Int32} {ν : XN} (hw : xw_J12_min x0 x1 ν Q) : XG κ S A 0 0 Z 0 (ν, 0, 0) [some (.int x0), some (.int x1)] [] := by
  unfold xw_J12_min at hw
  refine g_iload_0 0 h.1 dJ12_min_0 ?_
  refine g_iload_1 1 h.1 dJ12_min_1 ?_
  refine g_icmp_gt 2 9 h.1 dJ12_min_2 (by decide) (fun c => ?_) (fun c => ?_)
  · have hw := hw.1 c
    refine g_iload_1 9 h.1 dJ12_min_9 ?_
    exact hR.1 10 _ _ _ _ _ _ hT rfl dJ12_min_10 ⟨_, rfl, hw⟩
  · have hw := hw.2 c
    refine g_iload_0 5 h.1 dJ12_min_5 ?_
    refine g_goto 6 10 h.1 dJ12_min_6 (by decide) ?_
    exact hR.1 10 _ _ _ _ _ _ hT rfl dJ12_min_10 ⟨_, rfl, hw⟩
theorem xm_J12_min {l : Launch} {S : Adr} {A : Nat → Prop} (hD : FD xT S xcl A) {x0 : Int32} {x1 : Int32} {ν : XN} {Q : Int32 → XN → Prop} (hw : xw_J12_min x0 x1 ν Q) : xMet l S A 1 0 0 2 yJ12_min [.int x0, .int x1] ν (pI Q) :=
  x_met (by decide +kernel) hD ⟨⟨by decide, by decide, by show _ = some 2; decide +kernel⟩, by decide, q929, q191⟩ (Nat.le_of_ble_eq_true rfl) (fun κ Z h hT hN hR => xt_J12_min h hT hN hR hw)
def xw_J12_min_2 (x0 : Int64) (x2 : Int64) (ν : XN) (Q : Int64 → XN → Prop) : Prop :=
  ((0 < (lg_cmp x0 x2) → Q x2 ν) ∧ (¬ 0 < (lg_cmp x0 x2) → Q x0 ν))
theorem xt_J12_min_2 {κ : Cx} {S : Adr} {A : Nat → Prop} {Z : State → Prop} {Q : Int64 → XN → Prop} (h : XCx κ cJ12_min_2 RJ12 S A 1 0 0) (hT : (cxT κ).sig.returnType = some .long) (hN : (cxT κ).name = "min") (hR : xRet κ S A 0 0 Z cJ12_min_2 (pJ Q)) {x0 : Int64} {x2 : Int64} {ν : XN} (hw : xw_J12_min_2 x0 x2 ν Q) : XG κ S A 0 0 Z 0 (ν, 0, 0) [some (.long x0), none, some (.long x2), none] [] := by
  unfold xw_J12_min_2 at hw
  refine g_lload_0 0 h.1 dJ12_min_2_0 ?_
  refine g_lload_2 1 h.1 dJ12_min_2_1 ?_
  refine g_lcmp 2 h.1 dJ12_min_2_2 ?_
  refine g_if_gt 3 10 h.1 dJ12_min_2_3 (by decide) (fun c => ?_) (fun c => ?_)
  · have hw := hw.1 c
    refine g_lload_2 10 h.1 dJ12_min_2_10 ?_
    exact hR.2.1 11 _ _ _ _ _ hT dJ12_min_2_11 ⟨_, rfl, hw⟩
  · have hw := hw.2 c
    refine g_lload_0 6 h.1 dJ12_min_2_6 ?_
    refine g_goto 7 11 h.1 dJ12_min_2_7 (by decide) ?_
    exact hR.2.1 11 _ _ _ _ _ hT dJ12_min_2_11 ⟨_, rfl, hw⟩
theorem xm_J12_min_2 {l : Launch} {S : Adr} {A : Nat → Prop} (hD : FD xT S xcl A) {x0 : Int64} {x2 : Int64} {ν : XN} {Q : Int64 → XN → Prop} (hw : xw_J12_min_2 x0 x2 ν Q) : xMet l S A 1 0 0 2 yJ12_min_2 [.long x0, .long x2] ν (pJ Q) :=
  x_met (by decide +kernel) hD ⟨⟨by decide, by decide, by show _ = some 2; decide +kernel⟩, by decide, q1411, q191⟩ (Nat.le_of_ble_eq_true rfl) (fun κ Z h hT hN hR => xt_J12_min_2 h hT hN hR hw)
def xw_J16_bitCount (x0 : Int32) (ν : XN) (Q : Int32 → XN → Prop) : Prop :=
  Q ((((((((x0 - (((Int32.toUInt32 x0 >>> (Int32.toUInt32 (1 : Int32) &&& Int32.toUInt32 31)).toInt32) &&& (1431655765 : Int32))) &&& (858993459 : Int32)) + (((Int32.toUInt32 (x0 - (((Int32.toUInt32 x0 >>> (Int32.toUInt32 (1 : Int32) &&& Int32.toUInt32 31)).toInt32) &&& (1431655765 : Int32))) >>> (Int32.toUInt32 (2 : Int32) &&& Int32.toUInt32 31)).toInt32) &&& (858993459 : Int32))) + ((Int32.toUInt32 (((x0 - (((Int32.toUInt32 x0 >>> (Int32.toUInt32 (1 : Int32) &&& Int32.toUInt32 31)).toInt32) &&& (1431655765 : Int32))) &&& (858993459 : Int32)) + (((Int32.toUInt32 (x0 - (((Int32.toUInt32 x0 >>> (Int32.toUInt32 (1 : Int32) &&& Int32.toUInt32 31)).toInt32) &&& (1431655765 : Int32))) >>> (Int32.toUInt32 (2 : Int32) &&& Int32.toUInt32 31)).toInt32) &&& (858993459 : Int32))) >>> (Int32.toUInt32 (4 : Int32) &&& Int32.toUInt32 31)).toInt32)) &&& (252645135 : Int32)) + ((Int32.toUInt32 (((((x0 - (((Int32.toUInt32 x0 >>> (Int32.toUInt32 (1 : Int32) &&& Int32.toUInt32 31)).toInt32) &&& (1431655765 : Int32))) &&& (858993459 : Int32)) + (((Int32.toUInt32 (x0 - (((Int32.toUInt32 x0 >>> (Int32.toUInt32 (1 : Int32) &&& Int32.toUInt32 31)).toInt32) &&& (1431655765 : Int32))) >>> (Int32.toUInt32 (2 : Int32) &&& Int32.toUInt32 31)).toInt32) &&& (858993459 : Int32))) + ((Int32.toUInt32 (((x0 - (((Int32.toUInt32 x0 >>> (Int32.toUInt32 (1 : Int32) &&& Int32.toUInt32 31)).toInt32) &&& (1431655765 : Int32))) &&& (858993459 : Int32)) + (((Int32.toUInt32 (x0 - (((Int32.toUInt32 x0 >>> (Int32.toUInt32 (1 : Int32) &&& Int32.toUInt32 31)).toInt32) &&& (1431655765 : Int32))) >>> (Int32.toUInt32 (2 : Int32) &&& Int32.toUInt32 31)).toInt32) &&& (858993459 : Int32))) >>> (Int32.toUInt32 (4 : Int32) &&& Int32.toUInt32 31)).toInt32)) &&& (252645135 : Int32)) >>> (Int32.toUInt32 (8 : Int32) &&& Int32.toUInt32 31)).toInt32)) + ((Int32.toUInt32 ((((((x0 - (((Int32.toUInt32 x0 >>> (Int32.toUInt32 (1 : Int32) &&& Int32.toUInt32 31)).toInt32) &&& (1431655765 : Int32))) &&& (858993459 : Int32)) + (((Int32.toUInt32 (x0 - (((Int32.toUInt32 x0 >>> (Int32.toUInt32 (1 : Int32) &&& Int32.toUInt32 31)).toInt32) &&& (1431655765 : Int32))) >>> (Int32.toUInt32 (2 : Int32) &&& Int32.toUInt32 31)).toInt32) &&& (858993459 : Int32))) + ((Int32.toUInt32 (((x0 - (((Int32.toUInt32 x0 >>> (Int32.toUInt32 (1 : Int32) &&& Int32.toUInt32 31)).toInt32) &&& (1431655765 : Int32))) &&& (858993459 : Int32)) + (((Int32.toUInt32 (x0 - (((Int32.toUInt32 x0 >>> (Int32.toUInt32 (1 : Int32) &&& Int32.toUInt32 31)).toInt32) &&& (1431655765 : Int32))) >>> (Int32.toUInt32 (2 : Int32) &&& Int32.toUInt32 31)).toInt32) &&& (858993459 : Int32))) >>> (Int32.toUInt32 (4 : Int32) &&& Int32.toUInt32 31)).toInt32)) &&& (252645135 : Int32)) + ((Int32.toUInt32 (((((x0 - (((Int32.toUInt32 x0 >>> (Int32.toUInt32 (1 : Int32) &&& Int32.toUInt32 31)).toInt32) &&& (1431655765 : Int32))) &&& (858993459 : Int32)) + (((Int32.toUInt32 (x0 - (((Int32.toUInt32 x0 >>> (Int32.toUInt32 (1 : Int32) &&& Int32.toUInt32 31)).toInt32) &&& (1431655765 : Int32))) >>> (Int32.toUInt32 (2 : Int32) &&& Int32.toUInt32 31)).toInt32) &&& (858993459 : Int32))) + ((Int32.toUInt32 (((x0 - (((Int32.toUInt32 x0 >>> (Int32.toUInt32 (1 : Int32) &&& Int32.toUInt32 31)).toInt32) &&& (1431655765 : Int32))) &&& (858993459 : Int32)) + (((Int32.toUInt32 (x0 - (((Int32.toUInt32 x0 >>> (Int32.toUInt32 (1 : Int32) &&& Int32.toUInt32 31)).toInt32) &&& (1431655765 : Int32))) >>> (Int32.toUInt32 (2 : Int32) &&& Int32.toUInt32 31)).toInt32) &&& (858993459 : Int32))) >>> (Int32.toUInt32 (4 : Int32) &&& Int32.toUInt32 31)).toInt32)) &&& (252645135 : Int32)) >>> (Int32.toUInt32 (8 : Int32) &&& Int32.toUInt32 31)).toInt32)) >>> (Int32.toUInt32 (16 : Int32) &&& Int32.toUInt32 31)).toInt32)) &&& (63 : Int32)) ν
theorem xt_J16_bitCount {κ : Cx} {S : Adr} {A : Nat → Prop} {Z : State → Prop} {Q : Int32 → XN → Prop} (h : XCx κ cJ16_bitCount RJ16 S A 1 0 0) (hT : (cxT κ).sig.returnType = some .int) (hN : (cxT κ).name = "bitCount") (hR : xRet κ S A 0 0 Z cJ16_bitCount (pI Q)) {x0 : Int32} {ν : XN} (hw : xw_J16_bitCount x0 ν Q) : XG κ S A 0 0 Z 0 (ν, 0, 0) [some (.int x0)] [] := by
  unfold xw_J16_bitCount at hw
  refine g_iload_0 0 h.1 dJ16_bitCount_0 ?_
  refine g_iload_0 1 h.1 dJ16_bitCount_1 ?_
  refine g_iconstv 2 _ ic_1 h.1 dJ16_bitCount_2 ?_
  refine g_iushr 3 h.1 dJ16_bitCount_3 ?_
  refine g_ldcw 4 h.1 q1375 dJ16_bitCount_4 ?_
  refine g_iand 7 h.1 dJ16_bitCount_7 ?_
  refine g_isub 8 h.1 dJ16_bitCount_8 ?_
  refine g_istore_0 9 h.1 dJ16_bitCount_9 ?_
  refine g_iload_0 10 h.1 dJ16_bitCount_10 ?_
  refine g_ldcw 11 h.1 q1376 dJ16_bitCount_11 ?_
  refine g_iand 14 h.1 dJ16_bitCount_14 ?_
  refine g_iload_0 15 h.1 dJ16_bitCount_15 ?_
  refine g_iconstv 16 _ ic_2 h.1 dJ16_bitCount_16 ?_
  refine g_iushr 17 h.1 dJ16_bitCount_17 ?_
  refine g_ldcw 18 h.1 q1376 dJ16_bitCount_18 ?_
  refine g_iand 21 h.1 dJ16_bitCount_21 ?_
  refine g_iadd 22 h.1 dJ16_bitCount_22 ?_
  refine g_istore_0 23 h.1 dJ16_bitCount_23 ?_
  refine g_iload_0 24 h.1 dJ16_bitCount_24 ?_
  refine g_iload_0 25 h.1 dJ16_bitCount_25 ?_
  refine g_iconstv 26 _ ic_4 h.1 dJ16_bitCount_26 ?_
  refine g_iushr 27 h.1 dJ16_bitCount_27 ?_
  refine g_iadd 28 h.1 dJ16_bitCount_28 ?_
  refine g_ldcw 29 h.1 q1377 dJ16_bitCount_29 ?_
  refine g_iand 32 h.1 dJ16_bitCount_32 ?_
  refine g_istore_0 33 h.1 dJ16_bitCount_33 ?_
  refine g_iload_0 34 h.1 dJ16_bitCount_34 ?_
  refine g_iload_0 35 h.1 dJ16_bitCount_35 ?_
  refine g_bipush 36 _ bp_8 h.1 dJ16_bitCount_36 ?_
  refine g_iushr 38 h.1 dJ16_bitCount_38 ?_
  refine g_iadd 39 h.1 dJ16_bitCount_39 ?_
  refine g_istore_0 40 h.1 dJ16_bitCount_40 ?_
  refine g_iload_0 41 h.1 dJ16_bitCount_41 ?_
  refine g_iload_0 42 h.1 dJ16_bitCount_42 ?_
  refine g_bipush 43 _ bp_16 h.1 dJ16_bitCount_43 ?_
  refine g_iushr 45 h.1 dJ16_bitCount_45 ?_
  refine g_iadd 46 h.1 dJ16_bitCount_46 ?_
  refine g_istore_0 47 h.1 dJ16_bitCount_47 ?_
  refine g_iload_0 48 h.1 dJ16_bitCount_48 ?_
  refine g_bipush 49 _ bp_63 h.1 dJ16_bitCount_49 ?_
  refine g_iand 51 h.1 dJ16_bitCount_51 ?_
  exact hR.1 52 _ _ _ _ _ _ hT rfl dJ16_bitCount_52 ⟨_, rfl, hw⟩
theorem xm_J16_bitCount {l : Launch} {S : Adr} {A : Nat → Prop} (hD : FD xT S xcl A) {x0 : Int32} {ν : XN} {Q : Int32 → XN → Prop} (hw : xw_J16_bitCount x0 ν Q) : xMet l S A 1 0 0 1 yJ16_bitCount [.int x0] ν (pI Q) :=
  x_met (by decide +kernel) hD ⟨⟨by decide, by decide, by show _ = some 1; decide +kernel⟩, by decide, q1374, q209⟩ (Nat.le_of_ble_eq_true rfl) (fun κ Z h hT hN hR => xt_J16_bitCount h hT hN hR hw)
def xw_J2_elementData (x0 : Nat) (x1 : Int32) (ν : XN) (Q : Option Nat → XN → Prop) : Prop :=
  (rc ν.2 x0 = 7 ∧ (∃ b2, (rO ν.2 x0 1) = some b2 ∧ (rc ν.2 b2 = 109 ∧ (vp_in x1 (rn ν.2 b2) ∧ Q (rO ν.2 b2 (Int32.toNatClampNeg x1)) ν))))
theorem xt_J2_elementData {κ : Cx} {S : Adr} {A : Nat → Prop} {Z : State → Prop} {Q : Option Nat → XN → Prop} (h : XCx κ cJ2_elementData RJ2 S A 1 0 0) (hT : (cxT κ).sig.returnType = some (.object "java/lang/Object")) (hN : (cxT κ).name = "elementData") (hR : xRet κ S A 0 0 Z cJ2_elementData (pO Q)) {x0 : Nat} {x1 : Int32} {ν : XN} (hw : xw_J2_elementData x0 x1 ν Q) : XG κ S A 0 0 Z 0 (ν, 0, 0) [some (.ref x0), some (.int x1)] [] := by
  unfold xw_J2_elementData at hw
  refine g_aload_0 0 h.1 dJ2_elementData_0 ?_
  obtain ⟨f1, hw⟩ := hw
  refine xg_J2_9_6 1 f1 h dJ2_elementData_1 ?_
  refine g_iload_1 4 h.1 dJ2_elementData_4 ?_
  obtain ⟨b2, e3, hw⟩ := hw
  rw [e3]
  obtain ⟨f4, hw⟩ := hw
  obtain ⟨f5, hw⟩ := hw
  refine ra_aald9 5 f4 f5 h dJ2_elementData_5 ?_
  exact hR.2.2.2 6 (rO ν.2 b2 (Int32.toNatClampNeg x1)) _ _ _ _ _ hT (by first | exact Or.inl ⟨_, rfl⟩ | exact Or.inr ⟨_, rfl⟩) dJ2_elementData_6 ⟨_, rfl, hw⟩
theorem xm_J2_elementData {l : Launch} {S : Adr} {A : Nat → Prop} (hD : FD xT S xcl A) {x0 : Nat} {x1 : Int32} {ν : XN} {Q : Option Nat → XN → Prop} (hw : xw_J2_elementData x0 x1 ν Q) : xMet l S A 1 0 0 1 yJ2_elementData [.ref x0, .int x1] ν (pO Q) :=
  x_met (by decide +kernel) hD ⟨⟨by decide, by decide, by show _ = some 1; decide +kernel⟩, by decide, q847, q175⟩ (Nat.le_of_ble_eq_true rfl) (fun κ Z h hT hN hR => xt_J2_elementData h hT hN hR hw)
def xw_J8_checkIndex_9 (x0 : Int32) (x1 : Int32) (x2 : (Option Nat)) (ν : XN) (Q : Int32 → XN → Prop) : Prop :=
  False
theorem xt_J8_checkIndex_9 {κ : Cx} {S : Adr} {A : Nat → Prop} {Z : State → Prop} {Q : Int32 → XN → Prop} (h : XCx κ cJ8_checkIndex RJ8 S A 1 0 0) (hT : (cxT κ).sig.returnType = some .int) (hN : (cxT κ).name = "checkIndex") (hR : xRet κ S A 0 0 Z cJ8_checkIndex (pI Q)) {x0 : Int32} {x1 : Int32} {x2 : (Option Nat)} {ν : XN} (hw : xw_J8_checkIndex_9 x0 x1 x2 ν Q) : XG κ S A 0 0 Z 9 (ν, 0, 0) [some (.int x0), some (.int x1), some (va_rf x2)] [] := by
  unfold xw_J8_checkIndex_9 at hw
  exact hw.elim
def xw_J8_checkIndex (x0 : Int32) (x1 : Int32) (x2 : (Option Nat)) (ν : XN) (Q : Int32 → XN → Prop) : Prop :=
  ((x0 < 0 → xw_J8_checkIndex_9 x0 x1 x2 ν Q) ∧ (¬ x0 < 0 → ((x0 < x1 → Q x0 ν) ∧ (¬ x0 < x1 → xw_J8_checkIndex_9 x0 x1 x2 ν Q))))
theorem xt_J8_checkIndex {κ : Cx} {S : Adr} {A : Nat → Prop} {Z : State → Prop} {Q : Int32 → XN → Prop} (h : XCx κ cJ8_checkIndex RJ8 S A 1 0 0) (hT : (cxT κ).sig.returnType = some .int) (hN : (cxT κ).name = "checkIndex") (hR : xRet κ S A 0 0 Z cJ8_checkIndex (pI Q)) {x0 : Int32} {x1 : Int32} {x2 : (Option Nat)} {ν : XN} (hw : xw_J8_checkIndex x0 x1 x2 ν Q) : XG κ S A 0 0 Z 0 (ν, 0, 0) [some (.int x0), some (.int x1), some (va_rf x2)] [] := by
  unfold xw_J8_checkIndex at hw
  refine g_iload_0 0 h.1 dJ8_checkIndex_0 ?_
  refine g_if_lt 1 9 h.1 dJ8_checkIndex_1 (by decide) (fun c => ?_) (fun c => ?_)
  · have hw := hw.1 c
    exact g_le (xt_J8_checkIndex_9 h hT hN hR hw) ⟨rfl, rfl, rfl, trivial⟩
  · have hw := hw.2 c
    refine g_iload_0 4 h.1 dJ8_checkIndex_4 ?_
    refine g_iload_1 5 h.1 dJ8_checkIndex_5 ?_
    refine g_icmp_lt 6 16 h.1 dJ8_checkIndex_6 (by decide) (fun c => ?_) (fun c => ?_)
    · have hw := hw.1 c
      refine g_iload_0 16 h.1 dJ8_checkIndex_16 ?_
      exact hR.1 17 _ _ _ _ _ _ hT rfl dJ8_checkIndex_17 ⟨_, rfl, hw⟩
    · have hw := hw.2 c
      exact g_le (xt_J8_checkIndex_9 h hT hN hR hw) ⟨rfl, rfl, rfl, trivial⟩
theorem xm_J8_checkIndex {l : Launch} {S : Adr} {A : Nat → Prop} (hD : FD xT S xcl A) {x0 : Int32} {x1 : Int32} {x2 : (Option Nat)} {ν : XN} {Q : Int32 → XN → Prop} (hw : xw_J8_checkIndex x0 x1 x2 ν Q) : xMet l S A 1 0 0 3 yJ8_checkIndex [.int x0, .int x1, va_rf x2] ν (pI Q) :=
  by cases x2 <;> exact x_met (by decide +kernel) hD ⟨⟨by decide, by decide, by show _ = some 3; decide +kernel⟩, by decide, q843, q186⟩ (Nat.le_of_ble_eq_true rfl) (fun κ Z h hT hN hR => xt_J8_checkIndex h hT hN hR hw)
def xw_J11_checkIndex (x0 : Int32) (x1 : Int32) (ν : XN) (Q : Int32 → XN → Prop) : Prop :=
  (xw_J8_checkIndex x0 x1 none ν (fun r2 ν1 => Q r2 ν1))
theorem xt_J11_checkIndex {κ : Cx} {S : Adr} {A : Nat → Prop} {Z : State → Prop} {Q : Int32 → XN → Prop} (h : XCx κ cJ11_checkIndex RJ11 S A 2 0 0) (hT : (cxT κ).sig.returnType = some .int) (hN : (cxT κ).name = "checkIndex") (hR : xRet κ S A 0 0 Z cJ11_checkIndex (pI Q)) {x0 : Int32} {x1 : Int32} {ν : XN} (hw : xw_J11_checkIndex x0 x1 ν Q) : XG κ S A 0 0 Z 0 (ν, 0, 0) [some (.int x0), some (.int x1)] [] := by
  unfold xw_J11_checkIndex at hw
  refine g_iload_0 0 h.1 dJ11_checkIndex_0 ?_
  refine g_iload_1 1 h.1 dJ11_checkIndex_1 ?_
  refine g_null 2 h.1 dJ11_checkIndex_2 ?_
  refine xcS_I_3 3 h (xm_J8_checkIndex h.2.2.1 hw) (by decide) (Nat.le_of_eq (Nat.zero_add _)) (Nat.le_of_eq (Nat.zero_add _)) q842 q841 (Nat.le_of_ble_eq_true rfl) dJ11_checkIndex_3 (fun r2 ν1 hw => ?_)
  exact hR.1 6 _ _ _ _ _ _ hT rfl dJ11_checkIndex_6 ⟨_, rfl, hw⟩
theorem xm_J11_checkIndex {l : Launch} {S : Adr} {A : Nat → Prop} (hD : FD xT S xcl A) {x0 : Int32} {x1 : Int32} {ν : XN} {Q : Int32 → XN → Prop} (hw : xw_J11_checkIndex x0 x1 ν Q) : xMet l S A 2 0 0 2 yJ11_checkIndex [.int x0, .int x1] ν (pI Q) :=
  x_met (by decide +kernel) hD ⟨⟨by decide, by decide, by show _ = some 2; decide +kernel⟩, by decide, q840, q190⟩ (Nat.le_of_ble_eq_true rfl) (fun κ Z h hT hN hR => xt_J11_checkIndex h hT hN hR hw)
def xw_J2_get (x0 : Nat) (x1 : Int32) (ν : XN) (Q : Option Nat → XN → Prop) : Prop :=
  (rc ν.2 x0 = 7 ∧ (xw_J11_checkIndex x1 (rI ν.2 x0 2) ν (fun r3 ν2 => (rc ν2.2 x0 = 7 ∧ (xw_J2_elementData x0 x1 ν2 (fun r5 ν4 => Q r5 ν4))))))
theorem xt_J2_get {κ : Cx} {S : Adr} {A : Nat → Prop} {Z : State → Prop} {Q : Option Nat → XN → Prop} (h : XCx κ cJ2_get RJ2 S A 3 0 0) (hT : (cxT κ).sig.returnType = some (.object "java/lang/Object")) (hN : (cxT κ).name = "get") (hR : xRet κ S A 0 0 Z cJ2_get (pO Q)) {x0 : Nat} {x1 : Int32} {ν : XN} (hw : xw_J2_get x0 x1 ν Q) : XG κ S A 0 0 Z 0 (ν, 0, 0) [some (.ref x0), some (.int x1)] [] := by
  unfold xw_J2_get at hw
  refine g_iload_1 0 h.1 dJ2_get_0 ?_
  refine g_aload_0 1 h.1 dJ2_get_1 ?_
  obtain ⟨f1, hw⟩ := hw
  refine xg_J2_48_6 2 f1 h dJ2_get_2 ?_
  refine xcS_I_2 5 h (xm_J11_checkIndex h.2.2.1 hw) (by decide) (Nat.le_of_eq (Nat.zero_add _)) (Nat.le_of_eq (Nat.zero_add _)) q839 q838 (Nat.le_of_ble_eq_true rfl) dJ2_get_5 (fun r3 ν2 hw => ?_)
  refine g_pop 8 rfl h.1 dJ2_get_8 ?_
  refine g_aload_0 9 h.1 dJ2_get_9 ?_
  refine g_iload_1 10 h.1 dJ2_get_10 ?_
  obtain ⟨f6, hw⟩ := hw
  refine xcV_O_1 11 h (xm_J2_elementData h.2.2.1 hw) (by decide) (Nat.le_of_eq (Nat.zero_add _)) (Nat.le_of_eq (Nat.zero_add _)) q845 q846 (fun H hI => x_recvR h f6 rfl hI) q844 (Nat.le_of_ble_eq_true rfl) dJ2_get_11 (fun r5 ν4 hw => ?_)
  exact hR.2.2.2 14 r5 _ _ _ _ _ hT (by first | exact Or.inl ⟨_, rfl⟩ | exact Or.inr ⟨_, rfl⟩) dJ2_get_14 ⟨_, rfl, hw⟩
theorem xm_J2_get {l : Launch} {S : Adr} {A : Nat → Prop} (hD : FD xT S xcl A) {x0 : Nat} {x1 : Int32} {ν : XN} {Q : Option Nat → XN → Prop} (hw : xw_J2_get x0 x1 ν Q) : xMet l S A 3 0 0 1 yJ2_get [.ref x0, .int x1] ν (pO Q) :=
  x_met (by decide +kernel) hD ⟨⟨by decide, by decide, by show _ = some 1; decide +kernel⟩, by decide, q837, q175⟩ (Nat.le_of_ble_eq_true rfl) (fun κ Z h hT hN hR => xt_J2_get h hT hN hR hw)
def xw_J2_isEmpty (x0 : Nat) (ν : XN) (Q : Int32 → XN → Prop) : Prop :=
  (rc ν.2 x0 = 7 ∧ ((¬ (rI ν.2 x0 2) = 0 → Q (0 : Int32) ν) ∧ ((rI ν.2 x0 2) = 0 → Q (1 : Int32) ν)))
theorem xt_J2_isEmpty {κ : Cx} {S : Adr} {A : Nat → Prop} {Z : State → Prop} {Q : Int32 → XN → Prop} (h : XCx κ cJ2_isEmpty RJ2 S A 1 0 0) (hT : (cxT κ).sig.returnType = some .boolean) (hN : (cxT κ).name = "isEmpty") (hR : xRet κ S A 0 0 Z cJ2_isEmpty (pI Q)) {x0 : Nat} {ν : XN} (hw : xw_J2_isEmpty x0 ν Q) : XG κ S A 0 0 Z 0 (ν, 0, 0) [some (.ref x0)] [] := by
  unfold xw_J2_isEmpty at hw
  refine g_aload_0 0 h.1 dJ2_isEmpty_0 ?_
  obtain ⟨f1, hw⟩ := hw
  refine xg_J2_48_6 1 f1 h dJ2_isEmpty_1 ?_
  refine g_if_ne 4 11 h.1 dJ2_isEmpty_4 (by decide) (fun c => ?_) (fun c => ?_)
  · have hw := hw.1 c
    refine g_iconstv 11 _ ic_0 h.1 dJ2_isEmpty_11 ?_
    exact hR.1 12 _ _ _ _ _ _ hT rfl dJ2_isEmpty_12 ⟨_, rfl, hw⟩
  · have hw := hw.2 c
    refine g_iconstv 7 _ ic_1 h.1 dJ2_isEmpty_7 ?_
    refine g_goto 8 12 h.1 dJ2_isEmpty_8 (by decide) ?_
    exact hR.1 12 _ _ _ _ _ _ hT rfl dJ2_isEmpty_12 ⟨_, rfl, hw⟩
theorem xm_J2_isEmpty {l : Launch} {S : Adr} {A : Nat → Prop} (hD : FD xT S xcl A) {x0 : Nat} {ν : XN} {Q : Int32 → XN → Prop} (hw : xw_J2_isEmpty x0 ν Q) : xMet l S A 1 0 0 0 yJ2_isEmpty [.ref x0] ν (pI Q) :=
  x_met (by decide +kernel) hD ⟨⟨by decide, by decide, by show _ = some 0; decide +kernel⟩, by decide, q1530, q175⟩ (Nat.le_of_ble_eq_true rfl) (fun κ Z h hT hN hR => xt_J2_isEmpty h hT hN hR hw)
def xw_J2_size (x0 : Nat) (ν : XN) (Q : Int32 → XN → Prop) : Prop :=
  (rc ν.2 x0 = 7 ∧ Q (rI ν.2 x0 2) ν)
theorem xt_J2_size {κ : Cx} {S : Adr} {A : Nat → Prop} {Z : State → Prop} {Q : Int32 → XN → Prop} (h : XCx κ cJ2_size RJ2 S A 1 0 0) (hT : (cxT κ).sig.returnType = some .int) (hN : (cxT κ).name = "size") (hR : xRet κ S A 0 0 Z cJ2_size (pI Q)) {x0 : Nat} {ν : XN} (hw : xw_J2_size x0 ν Q) : XG κ S A 0 0 Z 0 (ν, 0, 0) [some (.ref x0)] [] := by
  unfold xw_J2_size at hw
  refine g_aload_0 0 h.1 dJ2_size_0 ?_
  obtain ⟨f1, hw⟩ := hw
  refine xg_J2_48_6 1 f1 h dJ2_size_1 ?_
  exact hR.1 4 _ _ _ _ _ _ hT rfl dJ2_size_4 ⟨_, rfl, hw⟩
theorem xm_J2_size {l : Launch} {S : Adr} {A : Nat → Prop} (hD : FD xT S xcl A) {x0 : Nat} {ν : XN} {Q : Int32 → XN → Prop} (hw : xw_J2_size x0 ν Q) : xMet l S A 1 0 0 0 yJ2_size [.ref x0] ν (pI Q) :=
  x_met (by decide +kernel) hD ⟨⟨by decide, by decide, by show _ = some 0; decide +kernel⟩, by decide, q795, q175⟩ (Nat.le_of_ble_eq_true rfl) (fun κ Z h hT hN hR => xt_J2_size h hT hN hR hw)
def xw_X0_has (x0 : Int32) (x1 : Int32) (ν : XN) (Q : Int32 → XN → Prop) : Prop :=
  ((¬ ((x0 >>> (x1 &&& 31)) &&& (1 : Int32)) = (1 : Int32) → Q (0 : Int32) ν) ∧ (((x0 >>> (x1 &&& 31)) &&& (1 : Int32)) = (1 : Int32) → Q (1 : Int32) ν))
theorem xt_X0_has {κ : Cx} {S : Adr} {A : Nat → Prop} {Z : State → Prop} {Q : Int32 → XN → Prop} (h : XCx κ cX0_has RX0 S A 1 0 0) (hT : (cxT κ).sig.returnType = some .boolean) (hN : (cxT κ).name = "has") (hR : xRet κ S A 0 0 Z cX0_has (pI Q)) {x0 : Int32} {x1 : Int32} {ν : XN} (hw : xw_X0_has x0 x1 ν Q) : XG κ S A 0 0 Z 0 (ν, 0, 0) [some (.int x0), some (.int x1)] [] := by
  unfold xw_X0_has at hw
  refine g_iload_0 0 h.1 dX0_has_0 ?_
  refine g_iload_1 1 h.1 dX0_has_1 ?_
  refine g_ishr 2 h.1 dX0_has_2 ?_
  refine g_iconstv 3 _ ic_1 h.1 dX0_has_3 ?_
  refine g_iand 4 h.1 dX0_has_4 ?_
  refine g_iconstv 5 _ ic_1 h.1 dX0_has_5 ?_
  refine g_icmp_ne 6 13 h.1 dX0_has_6 (by decide) (fun c => ?_) (fun c => ?_)
  · have hw := hw.1 c
    refine g_iconstv 13 _ ic_0 h.1 dX0_has_13 ?_
    exact hR.1 14 _ _ _ _ _ _ hT rfl dX0_has_14 ⟨_, rfl, hw⟩
  · have hw := hw.2 c
    refine g_iconstv 9 _ ic_1 h.1 dX0_has_9 ?_
    refine g_goto 10 14 h.1 dX0_has_10 (by decide) ?_
    exact hR.1 14 _ _ _ _ _ _ hT rfl dX0_has_14 ⟨_, rfl, hw⟩
theorem xm_X0_has {l : Launch} {S : Adr} {A : Nat → Prop} (hD : FD xT S xcl A) {x0 : Int32} {x1 : Int32} {ν : XN} {Q : Int32 → XN → Prop} (hw : xw_X0_has x0 x1 ν Q) : xMet l S A 1 0 0 2 yX0_has [.int x0, .int x1] ν (pI Q) :=
  x_met (plainFor_of_name (by decide)) hD ⟨⟨by decide, by decide, by show _ = some 2; decide +kernel⟩, by decide, q984, q171⟩ (Nat.le_of_ble_eq_true rfl) (fun κ Z h hT hN hR => xt_X0_has h hT hN hR hw)
def xw_X5_asks (x0 : Nat) (x1 : Int32) (x2 : Int32) (ν : XN) (Q : XN → Prop) : Prop :=
  (xoc x0 = 5 ∧ (xok 1 (xft x0 5) ∧ (vp_in x1 (xlen (xft x0 5)) ∧ (xok 4 (xft 3 0) ∧ (vp_in (0 : Int32) (xlen (xft 3 0)) ∧ (∀ ν4, ν4 = (sB ν.1 (xft 3 0) (Int32.toNatClampNeg (0 : Int32)) (Int32.toInt64 (fA ν.1 (xft x0 5) (Int32.toNatClampNeg x1))), ν.2) → (xok 1 (xft x0 4) ∧ (vp_in x1 (xlen (xft x0 4)) ∧ (xok 1 (xft x0 3) ∧ (vp_in (fA ν4.1 (xft x0 4) (Int32.toNatClampNeg x1)) (xlen (xft x0 3)) ∧ (xok 4 (xft 3 0) ∧ (vp_in (1 : Int32) (xlen (xft 3 0)) ∧ (∀ ν12, ν12 = (sB ν4.1 (xft 3 0) (Int32.toNatClampNeg (1 : Int32)) (Int32.toInt64 (fA ν4.1 (xft x0 3) (Int32.toNatClampNeg (fA ν4.1 (xft x0 4) (Int32.toNatClampNeg x1))))), ν4.2) → (xok 1 (xft x0 6) ∧ (vp_in x1 (xlen (xft x0 6)) ∧ (xw_J16_bitCount (fA ν12.1 (xft x0 6) (Int32.toNatClampNeg x1)) ν12 (fun r19 ν18 => (xok 4 (xft 3 0) ∧ (vp_in (2 : Int32) (xlen (xft 3 0)) ∧ (∀ ν20, ν20 = (sB ν18.1 (xft 3 0) (Int32.toNatClampNeg (2 : Int32)) (Int32.toInt64 r19), ν18.2) → (xok 4 (xft 3 0) ∧ (vp_in (3 : Int32) (xlen (xft 3 0)) ∧ (∀ ν24, ν24 = (sB ν20.1 (xft 3 0) (Int32.toNatClampNeg (3 : Int32)) (Int32.toInt64 (fI ν20.1 x0 0)), ν20.2) → (xok 4 (xft 3 0) ∧ (vp_in (4 : Int32) (xlen (xft 3 0)) ∧ (∀ ν28, ν28 = (sB ν24.1 (xft 3 0) (Int32.toNatClampNeg (4 : Int32)) (Int32.toInt64 x2), ν24.2) → Q ν28))))))))))))))))))))))))))
theorem xt_X5_asks {κ : Cx} {S : Adr} {A : Nat → Prop} {Z : State → Prop} {Q : XN → Prop} (h : XCx κ cX5_asks RX5 S A 2 0 0) (hT : (cxT κ).sig.returnType = none) (hN : (cxT κ).name = "asks") (hR : xRet κ S A 0 0 Z cX5_asks (pV Q)) {x0 : Nat} {x1 : Int32} {x2 : Int32} {ν : XN} (hw : xw_X5_asks x0 x1 x2 ν Q) : XG κ S A 0 0 Z 0 (ν, 0, 0) [some (.ref (S.2.1 x0)), some (.int x1), some (.int x2)] [] := by
  unfold xw_X5_asks at hw
  refine g_aload_0 0 h.1 dX5_asks_0 ?_
  obtain ⟨f1, hw⟩ := hw
  refine xg_X5_3_5 1 f1 h dX5_asks_1 ?_
  rw [xft_this f1]
  refine xg_X5_72_0 4 h dX5_asks_4 ?_
  refine xg_X5_76_4 7 rfl h dX5_asks_7 ?_
  refine g_iconstv 10 _ ic_0 h.1 dX5_asks_10 ?_
  refine g_aload_0 11 h.1 dX5_asks_11 ?_
  refine xg_X5_22_5 12 f1 h dX5_asks_12 ?_
  refine g_iload_1 15 h.1 dX5_asks_15 ?_
  obtain ⟨f2, hw⟩ := hw
  obtain ⟨f3, hw⟩ := hw
  refine xa_iald 16 f2 f3 h dX5_asks_16 ?_
  refine g_i2l 17 h.1 dX5_asks_17 ?_
  obtain ⟨f6, hw⟩ := hw
  obtain ⟨f7, hw⟩ := hw
  refine xa_last 18 f6 f7 h dX5_asks_18 (fun ν4 e5 => ?_)
  have hw := hw ν4 e5
  refine g_aload_0 19 h.1 dX5_asks_19 ?_
  refine xg_X5_3_5 20 f1 h dX5_asks_20 ?_
  rw [xft_this f1]
  refine xg_X5_72_0 23 h dX5_asks_23 ?_
  refine xg_X5_76_4 26 rfl h dX5_asks_26 ?_
  refine g_iconstv 29 _ ic_1 h.1 dX5_asks_29 ?_
  refine g_aload_0 30 h.1 dX5_asks_30 ?_
  refine xg_X5_15_5 31 f1 h dX5_asks_31 ?_
  refine g_aload_0 34 h.1 dX5_asks_34 ?_
  refine xg_X5_19_5 35 f1 h dX5_asks_35 ?_
  refine g_iload_1 38 h.1 dX5_asks_38 ?_
  obtain ⟨f8, hw⟩ := hw
  obtain ⟨f9, hw⟩ := hw
  refine xa_iald 39 f8 f9 h dX5_asks_39 ?_
  obtain ⟨f10, hw⟩ := hw
  obtain ⟨f11, hw⟩ := hw
  refine xa_iald 40 f10 f11 h dX5_asks_40 ?_
  refine g_i2l 41 h.1 dX5_asks_41 ?_
  obtain ⟨f14, hw⟩ := hw
  obtain ⟨f15, hw⟩ := hw
  refine xa_last 42 f14 f15 h dX5_asks_42 (fun ν12 e13 => ?_)
  have hw := hw ν12 e13
  refine g_aload_0 43 h.1 dX5_asks_43 ?_
  refine xg_X5_3_5 44 f1 h dX5_asks_44 ?_
  rw [xft_this f1]
  refine xg_X5_72_0 47 h dX5_asks_47 ?_
  refine xg_X5_76_4 50 rfl h dX5_asks_50 ?_
  refine g_iconstv 53 _ ic_2 h.1 dX5_asks_53 ?_
  refine g_aload_0 54 h.1 dX5_asks_54 ?_
  refine xg_X5_25_5 55 f1 h dX5_asks_55 ?_
  refine g_iload_1 58 h.1 dX5_asks_58 ?_
  obtain ⟨f16, hw⟩ := hw
  obtain ⟨f17, hw⟩ := hw
  refine xa_iald 59 f16 f17 h dX5_asks_59 ?_
  refine xcS_I_1 60 h (xm_J16_bitCount h.2.2.1 hw) (by decide) (Nat.le_of_eq (Nat.zero_add _)) (Nat.le_of_eq (Nat.zero_add _)) q1373 q1372 (Nat.le_of_ble_eq_true rfl) dX5_asks_60 (fun r19 ν18 hw => ?_)
  refine g_i2l 63 h.1 dX5_asks_63 ?_
  obtain ⟨f22, hw⟩ := hw
  obtain ⟨f23, hw⟩ := hw
  refine xa_last 64 f22 f23 h dX5_asks_64 (fun ν20 e21 => ?_)
  have hw := hw ν20 e21
  refine g_aload_0 65 h.1 dX5_asks_65 ?_
  refine xg_X5_3_5 66 f1 h dX5_asks_66 ?_
  rw [xft_this f1]
  refine xg_X5_72_0 69 h dX5_asks_69 ?_
  refine xg_X5_76_4 72 rfl h dX5_asks_72 ?_
  refine g_iconstv 75 _ ic_3 h.1 dX5_asks_75 ?_
  refine g_aload_0 76 h.1 dX5_asks_76 ?_
  refine xg_X5_33_5 77 f1 h dX5_asks_77 ?_
  refine g_i2l 80 h.1 dX5_asks_80 ?_
  obtain ⟨f26, hw⟩ := hw
  obtain ⟨f27, hw⟩ := hw
  refine xa_last 81 f26 f27 h dX5_asks_81 (fun ν24 e25 => ?_)
  have hw := hw ν24 e25
  refine g_aload_0 82 h.1 dX5_asks_82 ?_
  refine xg_X5_3_5 83 f1 h dX5_asks_83 ?_
  rw [xft_this f1]
  refine xg_X5_72_0 86 h dX5_asks_86 ?_
  refine xg_X5_76_4 89 rfl h dX5_asks_89 ?_
  refine g_iconstv 92 _ ic_4 h.1 dX5_asks_92 ?_
  refine g_iload_2 93 h.1 dX5_asks_93 ?_
  refine g_i2l 94 h.1 dX5_asks_94 ?_
  obtain ⟨f30, hw⟩ := hw
  obtain ⟨f31, hw⟩ := hw
  refine xa_last 95 f30 f31 h dX5_asks_95 (fun ν28 e29 => ?_)
  have hw := hw ν28 e29
  exact hR.2.2.1 96 _ _ _ _ hT dX5_asks_96 ⟨rfl, hw⟩
theorem xm_X5_asks {l : Launch} {S : Adr} {A : Nat → Prop} (hD : FD xT S xcl A) {x0 : Nat} {x1 : Int32} {x2 : Int32} {ν : XN} {Q : XN → Prop} (hw : xw_X5_asks x0 x1 x2 ν Q) : xMet l S A 2 0 0 2 yX5_asks [.ref (S.2.1 x0), .int x1, .int x2] ν (pV Q) :=
  x_met (plainFor_of_name (by decide)) hD ⟨⟨by decide, by decide, by show _ = some 2; decide +kernel⟩, by decide, q1371, q182⟩ (Nat.le_of_ble_eq_true rfl) (fun κ Z h hT hN hR => xt_X5_asks h hT hN hR hw)
def xw_X5_would (VA : Nat → Nat → XN → (Int64 → XN → Prop) → Prop) (TA : Nat → Nat → XN → (Int32 → XN → Prop) → Prop) (x0 : Nat) (x1 : Int32) (x2 : Int32) (ν : XN) (Q : Int32 → XN → Prop) : Prop :=
  (xoc x0 = 5 ∧ (xok 1 (xft x0 6) ∧ (vp_in x1 (xlen (xft x0 6)) ∧ (xw_X0_has (fA ν.1 (xft x0 6) (Int32.toNatClampNeg x1)) x2 ν (fun r5 ν4 => ((¬ r5 = 0 → Q (0 : Int32) ν4) ∧ (r5 = 0 → (xw_X0_has (fI ν4.1 x0 2) x1 ν4 (fun r7 ν6 => ((r7 = 0 → (xw_X5_asks x0 x1 x2 ν6 (fun ν8 => (∃ b9, fR ν8.1 0 0 = .ref b9 ∧ (rc ν8.2 b9 = 2 ∧ (((rO ν8.2 b9 10) = none → Q (2 : Int32) ν8) ∧ (∀ b12, (rO ν8.2 b9 10) = some b12 → (∃ b14, fR ν8.1 0 0 = .ref b14 ∧ (rc ν8.2 b14 = 2 ∧ (∃ b17, (rO ν8.2 b14 10) = some b17 ∧ (TA b17 3 ν8 (fun r20 ν19 => ((r20 = 0 → Q (2 : Int32) ν19) ∧ (¬ r20 = 0 → Q (1 : Int32) ν19)))))))))))))) ∧ (¬ r7 = 0 → Q (0 : Int32) ν6)))))))))))
theorem xt_X5_would {κ : Cx} {S : Adr} {A : Nat → Prop} {Z : State → Prop} {Q : Int32 → XN → Prop} {dV : Nat} {VA : Nat → Nat → XN → (Int64 → XN → Prop) → Prop} {TA : Nat → Nat → XN → (Int32 → XN → Prop) → Prop} (hV : HVT S A dV VA TA) (h : XCx κ cX5_would RX5 S A (dV + 3) 0 0) (hT : (cxT κ).sig.returnType = some .int) (hN : (cxT κ).name = "would") (hR : xRet κ S A 0 0 Z cX5_would (pI Q)) {x0 : Nat} {x1 : Int32} {x2 : Int32} {ν : XN} (hw : xw_X5_would VA TA x0 x1 x2 ν Q) : XG κ S A 0 0 Z 0 (ν, 0, 0) [some (.ref (S.2.1 x0)), some (.int x1), some (.int x2)] [] := by
  unfold xw_X5_would at hw
  refine g_aload_0 0 h.1 dX5_would_0 ?_
  obtain ⟨f1, hw⟩ := hw
  refine xg_X5_25_5 1 f1 h dX5_would_1 ?_
  refine g_iload_1 4 h.1 dX5_would_4 ?_
  obtain ⟨f2, hw⟩ := hw
  obtain ⟨f3, hw⟩ := hw
  refine xa_iald 5 f2 f3 h dX5_would_5 ?_
  refine g_iload_2 6 h.1 dX5_would_6 ?_
  refine xcSN_I_2 7 h (xm_X0_has h.2.2.1 hw) (by omega) (Nat.le_of_eq (Nat.zero_add _)) (Nat.le_of_eq (Nat.zero_add _)) q983 q1367 (Nat.le_of_ble_eq_true rfl) dX5_would_7 (fun r5 ν4 hw => ?_)
  refine g_if_ne 10 24 h.1 dX5_would_10 (by decide) (fun c => ?_) (fun c => ?_)
  · have hw := hw.1 c
    refine g_iconstv 24 _ ic_0 h.1 dX5_would_24 ?_
    exact hR.1 25 _ _ _ _ _ _ hT rfl dX5_would_25 ⟨_, rfl, hw⟩
  · have hw := hw.2 c
    refine g_aload_0 13 h.1 dX5_would_13 ?_
    refine xg_X5_69_5 14 f1 h dX5_would_14 ?_
    refine g_iload_1 17 h.1 dX5_would_17 ?_
    refine xcSN_I_2 18 h (xm_X0_has h.2.2.1 hw) (by omega) (Nat.le_of_eq (Nat.zero_add _)) (Nat.le_of_eq (Nat.zero_add _)) q983 q1367 (Nat.le_of_ble_eq_true rfl) dX5_would_18 (fun r7 ν6 hw => ?_)
    refine g_if_eq 21 26 h.1 dX5_would_21 (by decide) (fun c => ?_) (fun c => ?_)
    · have hw := hw.1 c
      refine g_aload_0 26 h.1 dX5_would_26 ?_
      refine g_iload_1 27 h.1 dX5_would_27 ?_
      refine g_iload_2 28 h.1 dX5_would_28 ?_
      refine xcV_V_2 29 h (xm_X5_asks h.2.2.1 hw) (by omega) (Nat.le_of_eq (Nat.zero_add _)) (Nat.le_of_eq (Nat.zero_add _)) q1370 qs44 (fun H hI => x_recvK h f1 rfl hI) q1368 (Nat.le_of_ble_eq_true rfl) dX5_would_29 (fun ν8 hw => ?_)
      refine g_aload_0 32 h.1 dX5_would_32 ?_
      refine xg_X5_3_5 33 f1 h dX5_would_33 ?_
      rw [xft_this f1]
      refine xg_X5_40_0 36 h dX5_would_36 ?_
      obtain ⟨b9, e10, hw⟩ := hw
      rw [e10]
      obtain ⟨f11, hw⟩ := hw
      refine xg_X5_96_1 39 f11 h dX5_would_39 ?_
      refine g_ifnull 42 72 h.1 dX5_would_42 (by decide) (fun c => ?_) (fun b12 c => ?_)
      · have hw := hw.1 c
        refine g_iconstv 72 _ ic_2 h.1 dX5_would_72 ?_
        exact hR.1 73 _ _ _ _ _ _ hT rfl dX5_would_73 ⟨_, rfl, hw⟩
      · have hw := hw.2 b12 c
        refine g_aload_0 45 h.1 dX5_would_45 ?_
        refine xg_X5_3_5 46 f1 h dX5_would_46 ?_
        rw [xft_this f1]
        refine xg_X5_40_0 49 h dX5_would_49 ?_
        obtain ⟨b14, e15, hw⟩ := hw
        rw [e15]
        obtain ⟨f16, hw⟩ := hw
        refine xg_X5_96_1 52 f16 h dX5_would_52 ?_
        refine g_aload_0 55 h.1 dX5_would_55 ?_
        refine xg_X5_3_5 56 f1 h dX5_would_56 ?_
        rw [xft_this f1]
        refine xg_X5_72_0 59 h dX5_would_59 ?_
        obtain ⟨b17, e18, hw⟩ := hw
        rw [e18]
        refine x_callTC 62 h (hV.2 _ _ _ _ _ hw) (by omega) q1378 (Nat.le_of_ble_eq_true rfl) dX5_would_62 (fun r20 ν19 hw => ?_)
        refine g_if_eq 65 72 h.1 dX5_would_65 (by decide) (fun c => ?_) (fun c => ?_)
        · have hw := hw.1 c
          refine g_iconstv 72 _ ic_2 h.1 dX5_would_72 ?_
          exact hR.1 73 _ _ _ _ _ _ hT rfl dX5_would_73 ⟨_, rfl, hw⟩
        · have hw := hw.2 c
          refine g_iconstv 68 _ ic_1 h.1 dX5_would_68 ?_
          refine g_goto 69 73 h.1 dX5_would_69 (by decide) ?_
          exact hR.1 73 _ _ _ _ _ _ hT rfl dX5_would_73 ⟨_, rfl, hw⟩
    · have hw := hw.2 c
      refine g_iconstv 24 _ ic_0 h.1 dX5_would_24 ?_
      exact hR.1 25 _ _ _ _ _ _ hT rfl dX5_would_25 ⟨_, rfl, hw⟩
theorem xm_X5_would {l : Launch} {S : Adr} {A : Nat → Prop} {dV : Nat} {VA : Nat → Nat → XN → (Int64 → XN → Prop) → Prop} {TA : Nat → Nat → XN → (Int32 → XN → Prop) → Prop} (hV : HVT S A dV VA TA) (hD : FD xT S xcl A) {x0 : Nat} {x1 : Int32} {x2 : Int32} {ν : XN} {Q : Int32 → XN → Prop} (hw : xw_X5_would VA TA x0 x1 x2 ν Q) : xMet l S A (dV + 3) 0 0 2 yX5_would [.ref (S.2.1 x0), .int x1, .int x2] ν (pI Q) :=
  x_met (plainFor_of_name (by decide)) hD ⟨⟨by decide, by decide, by show _ = some 2; decide +kernel⟩, by decide, q1366, q182⟩ (Nat.le_of_ble_eq_true rfl) (fun κ Z h hT hN hR => xt_X5_would hV h hT hN hR hw)
def xw_X0_is (x0 : Int32) (x1 : Int32) (x2 : Int32) (ν : XN) (Q : Int32 → XN → Prop) : Prop :=
  ((x0 < x1 → Q (0 : Int32) ν) ∧ (¬ x0 < x1 → ((x2 < x0 → Q (0 : Int32) ν) ∧ (¬ x2 < x0 → Q (1 : Int32) ν))))
theorem xt_X0_is {κ : Cx} {S : Adr} {A : Nat → Prop} {Z : State → Prop} {Q : Int32 → XN → Prop} (h : XCx κ cX0_is RX0 S A 1 0 0) (hT : (cxT κ).sig.returnType = some .boolean) (hN : (cxT κ).name = "is") (hR : xRet κ S A 0 0 Z cX0_is (pI Q)) {x0 : Int32} {x1 : Int32} {x2 : Int32} {ν : XN} (hw : xw_X0_is x0 x1 x2 ν Q) : XG κ S A 0 0 Z 0 (ν, 0, 0) [some (.int x0), some (.int x1), some (.int x2)] [] := by
  unfold xw_X0_is at hw
  refine g_iload_0 0 h.1 dX0_is_0 ?_
  refine g_iload_1 1 h.1 dX0_is_1 ?_
  refine g_icmp_lt 2 14 h.1 dX0_is_2 (by decide) (fun c => ?_) (fun c => ?_)
  · have hw := hw.1 c
    refine g_iconstv 14 _ ic_0 h.1 dX0_is_14 ?_
    exact hR.1 15 _ _ _ _ _ _ hT rfl dX0_is_15 ⟨_, rfl, hw⟩
  · have hw := hw.2 c
    refine g_iload_0 5 h.1 dX0_is_5 ?_
    refine g_iload_2 6 h.1 dX0_is_6 ?_
    refine g_icmp_gt 7 14 h.1 dX0_is_7 (by decide) (fun c => ?_) (fun c => ?_)
    · have hw := hw.1 c
      refine g_iconstv 14 _ ic_0 h.1 dX0_is_14 ?_
      exact hR.1 15 _ _ _ _ _ _ hT rfl dX0_is_15 ⟨_, rfl, hw⟩
    · have hw := hw.2 c
      refine g_iconstv 10 _ ic_1 h.1 dX0_is_10 ?_
      refine g_goto 11 15 h.1 dX0_is_11 (by decide) ?_
      exact hR.1 15 _ _ _ _ _ _ hT rfl dX0_is_15 ⟨_, rfl, hw⟩
theorem xm_X0_is {l : Launch} {S : Adr} {A : Nat → Prop} (hD : FD xT S xcl A) {x0 : Int32} {x1 : Int32} {x2 : Int32} {ν : XN} {Q : Int32 → XN → Prop} (hw : xw_X0_is x0 x1 x2 ν Q) : xMet l S A 1 0 0 3 yX0_is [.int x0, .int x1, .int x2] ν (pI Q) :=
  x_met (plainFor_of_name (by decide)) hD ⟨⟨by decide, by decide, by show _ = some 3; decide +kernel⟩, by decide, q706, q171⟩ (Nat.le_of_ble_eq_true rfl) (fun κ Z h hT hN hR => xt_X0_is h hT hN hR hw)
def xw_X0_isIn (x1 : Int32) (x2 : Int32) (ν : XN) (Q : Int32 → XN → Prop) : Prop :=
  (∃ b1, fR ν.1 0 0 = .ref b1 ∧ (rc ν.2 b1 = 2 ∧ (xw_X0_is x1 (0 : Int32) ((rI ν.2 b1 1) - (1 : Int32)) ν (fun r5 ν4 => ((r5 = 0 → Q (0 : Int32) ν4) ∧ (¬ r5 = 0 → (∃ b6, fR ν4.1 0 0 = .ref b6 ∧ (rc ν4.2 b6 = 2 ∧ (xw_X0_is x2 (0 : Int32) ((rI ν4.2 b6 2) - (1 : Int32)) ν4 (fun r10 ν9 => ((r10 = 0 → Q (0 : Int32) ν9) ∧ (¬ r10 = 0 → Q (1 : Int32) ν9))))))))))))
theorem xt_X0_isIn {κ : Cx} {S : Adr} {A : Nat → Prop} {Z : State → Prop} {Q : Int32 → XN → Prop} (h : XCx κ cX0_isIn RX0 S A 2 0 0) (hT : (cxT κ).sig.returnType = some .boolean) (hN : (cxT κ).name = "isIn") (hR : xRet κ S A 0 0 Z cX0_isIn (pI Q)) {x1 : Int32} {x2 : Int32} {ν : XN} (hw : xw_X0_isIn x1 x2 ν Q) : XG κ S A 0 0 Z 0 (ν, 0, 0) [some (.ref (S.2.1 0)), some (.int x1), some (.int x2)] [] := by
  unfold xw_X0_isIn at hw
  refine g_iload_1 0 h.1 dX0_isIn_0 ?_
  refine g_iconstv 1 _ ic_0 h.1 dX0_isIn_1 ?_
  refine g_aload_0 2 h.1 dX0_isIn_2 ?_
  refine xg_X0_31_0 3 h dX0_isIn_3 ?_
  obtain ⟨b1, e2, hw⟩ := hw
  rw [e2]
  obtain ⟨f3, hw⟩ := hw
  refine xg_X0_157_1 6 f3 h dX0_isIn_6 ?_
  refine g_iconstv 9 _ ic_1 h.1 dX0_isIn_9 ?_
  refine g_isub 10 h.1 dX0_isIn_10 ?_
  refine xcS_I_3 11 h (xm_X0_is h.2.2.1 hw) (by decide) (Nat.le_of_eq (Nat.zero_add _)) (Nat.le_of_eq (Nat.zero_add _)) q705 q1312 (Nat.le_of_ble_eq_true rfl) dX0_isIn_11 (fun r5 ν4 hw => ?_)
  refine g_if_eq 14 38 h.1 dX0_isIn_14 (by decide) (fun c => ?_) (fun c => ?_)
  · have hw := hw.1 c
    refine g_iconstv 38 _ ic_0 h.1 dX0_isIn_38 ?_
    exact hR.1 39 _ _ _ _ _ _ hT rfl dX0_isIn_39 ⟨_, rfl, hw⟩
  · have hw := hw.2 c
    refine g_iload_2 17 h.1 dX0_isIn_17 ?_
    refine g_iconstv 18 _ ic_0 h.1 dX0_isIn_18 ?_
    refine g_aload_0 19 h.1 dX0_isIn_19 ?_
    refine xg_X0_31_0 20 h dX0_isIn_20 ?_
    obtain ⟨b6, e7, hw⟩ := hw
    rw [e7]
    obtain ⟨f8, hw⟩ := hw
    refine xg_X0_180_1 23 f8 h dX0_isIn_23 ?_
    refine g_iconstv 26 _ ic_1 h.1 dX0_isIn_26 ?_
    refine g_isub 27 h.1 dX0_isIn_27 ?_
    refine xcS_I_3 28 h (xm_X0_is h.2.2.1 hw) (by decide) (Nat.le_of_eq (Nat.zero_add _)) (Nat.le_of_eq (Nat.zero_add _)) q705 q1312 (Nat.le_of_ble_eq_true rfl) dX0_isIn_28 (fun r10 ν9 hw => ?_)
    refine g_if_eq 31 38 h.1 dX0_isIn_31 (by decide) (fun c => ?_) (fun c => ?_)
    · have hw := hw.1 c
      refine g_iconstv 38 _ ic_0 h.1 dX0_isIn_38 ?_
      exact hR.1 39 _ _ _ _ _ _ hT rfl dX0_isIn_39 ⟨_, rfl, hw⟩
    · have hw := hw.2 c
      refine g_iconstv 34 _ ic_1 h.1 dX0_isIn_34 ?_
      refine g_goto 35 39 h.1 dX0_isIn_35 (by decide) ?_
      exact hR.1 39 _ _ _ _ _ _ hT rfl dX0_isIn_39 ⟨_, rfl, hw⟩
theorem xm_X0_isIn {l : Launch} {S : Adr} {A : Nat → Prop} (hD : FD xT S xcl A) {x1 : Int32} {x2 : Int32} {ν : XN} {Q : Int32 → XN → Prop} (hw : xw_X0_isIn x1 x2 ν Q) : xMet l S A 2 0 0 2 yX0_isIn [.ref (S.2.1 0), .int x1, .int x2] ν (pI Q) :=
  x_met (plainFor_of_name (by decide)) hD ⟨⟨by decide, by decide, by show _ = some 2; decide +kernel⟩, by decide, q1311, q171⟩ (Nat.le_of_ble_eq_true rfl) (fun κ Z h hT hN hR => xt_X0_isIn h hT hN hR hw)
def xw_X0_isCell (x1 : Int32) (ν : XN) (Q : Int32 → XN → Prop) : Prop :=
  ((x1 < 0 → Q (0 : Int32) ν) ∧ (¬ x1 < 0 → (xw_X0_isIn (x1 - x1 / (8 : Int32) * (8 : Int32)) (x1 / (8 : Int32)) ν (fun r2 ν1 => ((r2 = 0 → Q (0 : Int32) ν1) ∧ (¬ r2 = 0 → Q (1 : Int32) ν1))))))
theorem xt_X0_isCell {κ : Cx} {S : Adr} {A : Nat → Prop} {Z : State → Prop} {Q : Int32 → XN → Prop} (h : XCx κ cX0_isCell RX0 S A 3 0 0) (hT : (cxT κ).sig.returnType = some .boolean) (hN : (cxT κ).name = "isCell") (hR : xRet κ S A 0 0 Z cX0_isCell (pI Q)) {x1 : Int32} {ν : XN} (hw : xw_X0_isCell x1 ν Q) : XG κ S A 0 0 Z 0 (ν, 0, 0) [some (.ref (S.2.1 0)), some (.int x1)] [] := by
  unfold xw_X0_isCell at hw
  refine g_iload_1 0 h.1 dX0_isCell_0 ?_
  refine g_if_lt 1 23 h.1 dX0_isCell_1 (by decide) (fun c => ?_) (fun c => ?_)
  · have hw := hw.1 c
    refine g_iconstv 23 _ ic_0 h.1 dX0_isCell_23 ?_
    exact hR.1 24 _ _ _ _ _ _ hT rfl dX0_isCell_24 ⟨_, rfl, hw⟩
  · have hw := hw.2 c
    refine g_aload_0 4 h.1 dX0_isCell_4 ?_
    refine g_iload_1 5 h.1 dX0_isCell_5 ?_
    refine g_bipush 6 _ bp_8 h.1 dX0_isCell_6 ?_
    refine g_irem 8 (by decide) h.1 dX0_isCell_8 ?_
    refine g_iload_1 9 h.1 dX0_isCell_9 ?_
    refine g_bipush 10 _ bp_8 h.1 dX0_isCell_10 ?_
    refine g_idiv 12 (by decide) h.1 dX0_isCell_12 ?_
    refine xcV_I_2 13 h (xm_X0_isIn h.2.2.1 hw) (by decide) (Nat.le_of_eq (Nat.zero_add _)) (Nat.le_of_eq (Nat.zero_add _)) q1310 qs41 (fun H hI => x_recvK h rfl rfl hI) q1308 (Nat.le_of_ble_eq_true rfl) dX0_isCell_13 (fun r2 ν1 hw => ?_)
    refine g_if_eq 16 23 h.1 dX0_isCell_16 (by decide) (fun c => ?_) (fun c => ?_)
    · have hw := hw.1 c
      refine g_iconstv 23 _ ic_0 h.1 dX0_isCell_23 ?_
      exact hR.1 24 _ _ _ _ _ _ hT rfl dX0_isCell_24 ⟨_, rfl, hw⟩
    · have hw := hw.2 c
      refine g_iconstv 19 _ ic_1 h.1 dX0_isCell_19 ?_
      refine g_goto 20 24 h.1 dX0_isCell_20 (by decide) ?_
      exact hR.1 24 _ _ _ _ _ _ hT rfl dX0_isCell_24 ⟨_, rfl, hw⟩
theorem xm_X0_isCell {l : Launch} {S : Adr} {A : Nat → Prop} (hD : FD xT S xcl A) {x1 : Int32} {ν : XN} {Q : Int32 → XN → Prop} (hw : xw_X0_isCell x1 ν Q) : xMet l S A 3 0 0 1 yX0_isCell [.ref (S.2.1 0), .int x1] ν (pI Q) :=
  x_met (plainFor_of_name (by decide)) hD ⟨⟨by decide, by decide, by show _ = some 1; decide +kernel⟩, by decide, q1307, q171⟩ (Nat.le_of_ble_eq_true rfl) (fun κ Z h hT hN hR => xt_X0_isCell h hT hN hR hw)
def xw_X5_times (VA : Nat → Nat → XN → (Int64 → XN → Prop) → Prop) (TA : Nat → Nat → XN → (Int32 → XN → Prop) → Prop) (x0 : Nat) (x1 : Int32) (x2 : Int32) (x3 : Int32) (ν : XN) (Q : Int32 → XN → Prop) : Prop :=
  (xoc x0 = 5 ∧ (∃ b2, fR ν.1 0 0 = .ref b2 ∧ (rc ν.2 b2 = 2 ∧ (((rO ν.2 b2 8) = none → Q (3 : Int32) ν) ∧ (∀ b5, (rO ν.2 b2 8) = some b5 → (xw_X5_asks x0 x1 x2 ν (fun ν7 => (xok 1 (xft x0 3) ∧ (vp_in x3 (xlen (xft x0 3)) ∧ (xok 4 (xft 3 0) ∧ (vp_in (5 : Int32) (xlen (xft 3 0)) ∧ (∀ ν10, ν10 = (sB ν7.1 (xft 3 0) (Int32.toNatClampNeg (5 : Int32)) (Int32.toInt64 (fA ν7.1 (xft x0 3) (Int32.toNatClampNeg x3))), ν7.2) → (∃ b14, fR ν10.1 0 0 = .ref b14 ∧ (rc ν10.2 b14 = 2 ∧ (∃ b17, (rO ν10.2 b14 8) = some b17 ∧ (VA b17 3 ν10 (fun r20 ν19 => (xw_J12_min_2 (9 : Int64) r20 ν19 (fun r22 ν21 => (xw_J12_max_2 (0 : Int64) r22 ν21 (fun r24 ν23 => Q (Int64.toInt32 r24) ν23)))))))))))))))))))))
theorem xt_X5_times {κ : Cx} {S : Adr} {A : Nat → Prop} {Z : State → Prop} {Q : Int32 → XN → Prop} {dV : Nat} {VA : Nat → Nat → XN → (Int64 → XN → Prop) → Prop} {TA : Nat → Nat → XN → (Int32 → XN → Prop) → Prop} (hV : HVT S A dV VA TA) (h : XCx κ cX5_times RX5 S A (dV + 3) 0 0) (hT : (cxT κ).sig.returnType = some .int) (hN : (cxT κ).name = "times") (hR : xRet κ S A 0 0 Z cX5_times (pI Q)) {x0 : Nat} {x1 : Int32} {x2 : Int32} {x3 : Int32} {ν : XN} (hw : xw_X5_times VA TA x0 x1 x2 x3 ν Q) : XG κ S A 0 0 Z 0 (ν, 0, 0) [some (.ref (S.2.1 x0)), some (.int x1), some (.int x2), some (.int x3)] [] := by
  unfold xw_X5_times at hw
  refine g_aload_0 0 h.1 dX5_times_0 ?_
  obtain ⟨f1, hw⟩ := hw
  refine xg_X5_3_5 1 f1 h dX5_times_1 ?_
  rw [xft_this f1]
  refine xg_X5_40_0 4 h dX5_times_4 ?_
  obtain ⟨b2, e3, hw⟩ := hw
  rw [e3]
  obtain ⟨f4, hw⟩ := hw
  refine xg_X5_105_1 7 f4 h dX5_times_7 ?_
  refine g_ifnonnull 10 15 h.1 dX5_times_10 (by decide) (fun b5 c => ?_) (fun c => ?_)
  · have hw := hw.2 b5 c
    refine g_aload_0 15 h.1 dX5_times_15 ?_
    refine g_iload_1 16 h.1 dX5_times_16 ?_
    refine g_iload_2 17 h.1 dX5_times_17 ?_
    refine xcV_V_2 18 h (xm_X5_asks h.2.2.1 hw) (by omega) (Nat.le_of_eq (Nat.zero_add _)) (Nat.le_of_eq (Nat.zero_add _)) q1370 qs44 (fun H hI => x_recvK h f1 rfl hI) q1368 (Nat.le_of_ble_eq_true rfl) dX5_times_18 (fun ν7 hw => ?_)
    refine g_aload_0 21 h.1 dX5_times_21 ?_
    refine xg_X5_3_5 22 f1 h dX5_times_22 ?_
    rw [xft_this f1]
    refine xg_X5_72_0 25 h dX5_times_25 ?_
    refine xg_X5_76_4 28 rfl h dX5_times_28 ?_
    refine g_iconstv 31 _ ic_5 h.1 dX5_times_31 ?_
    refine g_aload_0 32 h.1 dX5_times_32 ?_
    refine xg_X5_15_5 33 f1 h dX5_times_33 ?_
    refine g_iload_3 36 h.1 dX5_times_36 ?_
    obtain ⟨f8, hw⟩ := hw
    obtain ⟨f9, hw⟩ := hw
    refine xa_iald 37 f8 f9 h dX5_times_37 ?_
    refine g_i2l 38 h.1 dX5_times_38 ?_
    obtain ⟨f12, hw⟩ := hw
    obtain ⟨f13, hw⟩ := hw
    refine xa_last 39 f12 f13 h dX5_times_39 (fun ν10 e11 => ?_)
    have hw := hw ν10 e11
    refine g_lconst 40 _ lc_0 h.1 dX5_times_40 ?_
    refine g_ldc2 41 h.1 q1457 dX5_times_41 ?_
    refine g_aload_0 44 h.1 dX5_times_44 ?_
    refine xg_X5_3_5 45 f1 h dX5_times_45 ?_
    rw [xft_this f1]
    refine xg_X5_40_0 48 h dX5_times_48 ?_
    obtain ⟨b14, e15, hw⟩ := hw
    rw [e15]
    obtain ⟨f16, hw⟩ := hw
    refine xg_X5_105_1 51 f16 h dX5_times_51 ?_
    refine g_aload_0 54 h.1 dX5_times_54 ?_
    refine xg_X5_3_5 55 f1 h dX5_times_55 ?_
    rw [xft_this f1]
    refine xg_X5_72_0 58 h dX5_times_58 ?_
    obtain ⟨b17, e18, hw⟩ := hw
    rw [e18]
    refine x_callVC 61 h (hV.1 _ _ _ _ _ hw) (by omega) q1458 (Nat.le_of_ble_eq_true rfl) dX5_times_61 (fun r20 ν19 hw => ?_)
    refine xcS_J_2 64 h (xm_J12_min_2 h.2.2.1 hw) (by omega) (Nat.le_of_eq (Nat.zero_add _)) (Nat.le_of_eq (Nat.zero_add _)) q1410 q1459 (Nat.le_of_ble_eq_true rfl) dX5_times_64 (fun r22 ν21 hw => ?_)
    refine xcS_J_2 67 h (xm_J12_max_2 h.2.2.1 hw) (by omega) (Nat.le_of_eq (Nat.zero_add _)) (Nat.le_of_eq (Nat.zero_add _)) q1413 q1460 (Nat.le_of_ble_eq_true rfl) dX5_times_67 (fun r24 ν23 hw => ?_)
    refine g_l2i 70 h.1 dX5_times_70 ?_
    exact hR.1 71 _ _ _ _ _ _ hT rfl dX5_times_71 ⟨_, rfl, hw⟩
  · have hw := hw.1 c
    refine g_iconstv 13 _ ic_3 h.1 dX5_times_13 ?_
    exact hR.1 14 _ _ _ _ _ _ hT rfl dX5_times_14 ⟨_, rfl, hw⟩
theorem xm_X5_times {l : Launch} {S : Adr} {A : Nat → Prop} {dV : Nat} {VA : Nat → Nat → XN → (Int64 → XN → Prop) → Prop} {TA : Nat → Nat → XN → (Int32 → XN → Prop) → Prop} (hV : HVT S A dV VA TA) (hD : FD xT S xcl A) {x0 : Nat} {x1 : Int32} {x2 : Int32} {x3 : Int32} {ν : XN} {Q : Int32 → XN → Prop} (hw : xw_X5_times VA TA x0 x1 x2 x3 ν Q) : xMet l S A (dV + 3) 0 0 3 yX5_times [.ref (S.2.1 x0), .int x1, .int x2, .int x3] ν (pI Q) :=
  x_met (plainFor_of_name (by decide)) hD ⟨⟨by decide, by decide, by show _ = some 3; decide +kernel⟩, by decide, q1456, q182⟩ (Nat.le_of_ble_eq_true rfl) (fun κ Z h hT hN hR => xt_X5_times hV h hT hN hR hw)
def xw_X5_highest_67 (X4 : Nat → Int32 → Int32 → Int32 → XN → Prop) (x0 : Nat) (x1 : Int32) (x2 : Int32) (x3 : Int32) (ν : XN) (Q : Int32 → XN → Prop) : Prop :=
  X4 x0 x1 x2 (x3 + 1) ν
theorem xt_X5_highest_67 {κ : Cx} {S : Adr} {A : Nat → Prop} {Z : State → Prop} {Q : Int32 → XN → Prop} (h : XCx κ cX5_highest RX5 S A 4 0 0) (hT : (cxT κ).sig.returnType = some .int) (hN : (cxT κ).name = "highest") (hR : xRet κ S A 0 0 Z cX5_highest (pI Q)) {X4 : Nat → Int32 → Int32 → Int32 → XN → Prop} (hX4 : ∀ (x0 : Nat) (x1 : Int32) (x2 : Int32) (x3 : Int32) (ν : XN), X4 x0 x1 x2 x3 ν → XG κ S A 0 0 Z 4 (ν, 0, 0) [some (.ref (S.2.1 x0)), some (.int x1), some (.int x2), some (.int x3)] []) {x0 : Nat} {x1 : Int32} {x2 : Int32} {x3 : Int32} {ν : XN} (hw : xw_X5_highest_67 X4 x0 x1 x2 x3 ν Q) : XG κ S A 0 0 Z 67 (ν, 0, 0) [some (.ref (S.2.1 x0)), some (.int x1), some (.int x2), some (.int x3)] [] := by
  unfold xw_X5_highest_67 at hw
  refine g_iinc_3 67 (x3 + 1) (congrArg _ ic_1) h.1 rfl dX5_highest_67 ?_
  refine g_goto 70 4 h.1 dX5_highest_70 (by decide) ?_
  exact g_le (hX4 _ _ _ _ _ hw) ⟨rfl, rfl, rfl, rfl, trivial⟩
def xw_X5_highest_65 (X4 : Nat → Int32 → Int32 → Int32 → XN → Prop) (x0 : Nat) (x1 : Int32) (x3 : Int32) (ν : XN) (Q : Int32 → XN → Prop) : Prop :=
  xw_X5_highest_67 X4 x0 x1 x3 x3 ν Q
theorem xt_X5_highest_65 {κ : Cx} {S : Adr} {A : Nat → Prop} {Z : State → Prop} {Q : Int32 → XN → Prop} (h : XCx κ cX5_highest RX5 S A 4 0 0) (hT : (cxT κ).sig.returnType = some .int) (hN : (cxT κ).name = "highest") (hR : xRet κ S A 0 0 Z cX5_highest (pI Q)) {X4 : Nat → Int32 → Int32 → Int32 → XN → Prop} (hX4 : ∀ (x0 : Nat) (x1 : Int32) (x2 : Int32) (x3 : Int32) (ν : XN), X4 x0 x1 x2 x3 ν → XG κ S A 0 0 Z 4 (ν, 0, 0) [some (.ref (S.2.1 x0)), some (.int x1), some (.int x2), some (.int x3)] []) {x0 : Nat} {x1 : Int32} {x3 : Int32} {ν : XN} (hw : xw_X5_highest_65 X4 x0 x1 x3 ν Q) : XG κ S A 0 0 Z 65 (ν, 0, 0) [some (.ref (S.2.1 x0)), some (.int x1), none, some (.int x3)] [] := by
  unfold xw_X5_highest_65 at hw
  refine g_iload_3 65 h.1 dX5_highest_65 ?_
  refine g_istore_2 66 h.1 rfl dX5_highest_66 ?_
  exact g_le (xt_X5_highest_67 h hT hN hR hX4 hw) ⟨rfl, rfl, rfl, rfl, trivial⟩
def xw_X5_highest_45 (X4 : Nat → Int32 → Int32 → Int32 → XN → Prop) (x0 : Nat) (x1 : Int32) (x2 : Int32) (x3 : Int32) (ν : XN) (Q : Int32 → XN → Prop) : Prop :=
  ((x2 = (-1 : Int32) → xw_X5_highest_65 X4 x0 x1 x3 ν Q) ∧ (¬ x2 = (-1 : Int32) → (xoc x0 = 5 ∧ (xok 1 (xft x0 3) ∧ (vp_in x3 (xlen (xft x0 3)) ∧ (xok 1 (xft x0 3) ∧ (vp_in x2 (xlen (xft x0 3)) ∧ (((fA ν.1 (xft x0 3) (Int32.toNatClampNeg x3)) ≤ (fA ν.1 (xft x0 3) (Int32.toNatClampNeg x2)) → xw_X5_highest_67 X4 x0 x1 x2 x3 ν Q) ∧ (¬ (fA ν.1 (xft x0 3) (Int32.toNatClampNeg x3)) ≤ (fA ν.1 (xft x0 3) (Int32.toNatClampNeg x2)) → xw_X5_highest_65 X4 x0 x1 x3 ν Q)))))))))
theorem xt_X5_highest_45 {κ : Cx} {S : Adr} {A : Nat → Prop} {Z : State → Prop} {Q : Int32 → XN → Prop} (h : XCx κ cX5_highest RX5 S A 4 0 0) (hT : (cxT κ).sig.returnType = some .int) (hN : (cxT κ).name = "highest") (hR : xRet κ S A 0 0 Z cX5_highest (pI Q)) {X4 : Nat → Int32 → Int32 → Int32 → XN → Prop} (hX4 : ∀ (x0 : Nat) (x1 : Int32) (x2 : Int32) (x3 : Int32) (ν : XN), X4 x0 x1 x2 x3 ν → XG κ S A 0 0 Z 4 (ν, 0, 0) [some (.ref (S.2.1 x0)), some (.int x1), some (.int x2), some (.int x3)] []) {x0 : Nat} {x1 : Int32} {x2 : Int32} {x3 : Int32} {ν : XN} (hw : xw_X5_highest_45 X4 x0 x1 x2 x3 ν Q) : XG κ S A 0 0 Z 45 (ν, 0, 0) [some (.ref (S.2.1 x0)), some (.int x1), some (.int x2), some (.int x3)] [] := by
  unfold xw_X5_highest_45 at hw
  refine g_iload_2 45 h.1 dX5_highest_45 ?_
  refine g_iconstv 46 _ ic_m1 h.1 dX5_highest_46 ?_
  refine g_icmp_eq 47 65 h.1 dX5_highest_47 (by decide) (fun c => ?_) (fun c => ?_)
  · have hw := hw.1 c
    exact g_le (xt_X5_highest_65 h hT hN hR hX4 hw) ⟨rfl, rfl, rfl, trivial⟩
  · have hw := hw.2 c
    refine g_aload_0 50 h.1 dX5_highest_50 ?_
    obtain ⟨f6, hw⟩ := hw
    refine xg_X5_15_5 51 f6 h dX5_highest_51 ?_
    refine g_iload_3 54 h.1 dX5_highest_54 ?_
    obtain ⟨f7, hw⟩ := hw
    obtain ⟨f8, hw⟩ := hw
    refine xa_iald 55 f7 f8 h dX5_highest_55 ?_
    refine g_aload_0 56 h.1 dX5_highest_56 ?_
    refine xg_X5_15_5 57 f6 h dX5_highest_57 ?_
    refine g_iload_2 60 h.1 dX5_highest_60 ?_
    obtain ⟨f9, hw⟩ := hw
    obtain ⟨f10, hw⟩ := hw
    refine xa_iald 61 f9 f10 h dX5_highest_61 ?_
    refine g_icmp_le 62 67 h.1 dX5_highest_62 (by decide) (fun c => ?_) (fun c => ?_)
    · have hw := hw.1 c
      exact g_le (xt_X5_highest_67 h hT hN hR hX4 hw) ⟨rfl, rfl, rfl, rfl, trivial⟩
    · have hw := hw.2 c
      exact g_le (xt_X5_highest_65 h hT hN hR hX4 hw) ⟨rfl, rfl, rfl, trivial⟩
def xw_X5_highest_4 (x0 : Nat) (x1 : Int32) (x2 : Int32) (x3 : Int32) (ν : XN) (Q : Int32 → XN → Prop) : Prop :=
  ∀ X4 : Nat → Int32 → Int32 → Int32 → XN → Prop, (∀ (x0 : Nat) (x1 : Int32) (x2 : Int32) (x3 : Int32) (ν : XN), (((64 : Int32) ≤ x3 → Q x2 ν) ∧ (¬ (64 : Int32) ≤ x3 → (xoc x0 = 5 ∧ (xw_X0_isCell x3 ν (fun r3 ν2 => ((r3 = 0 → xw_X5_highest_67 X4 x0 x1 x2 x3 ν2 Q) ∧ (¬ r3 = 0 → ((¬ (x3 / (8 : Int32)) = (x1 / (8 : Int32)) → xw_X5_highest_45 X4 x0 x1 x2 x3 ν2 Q) ∧ ((x3 / (8 : Int32)) = (x1 / (8 : Int32)) → (xw_J12_abs (x3 - x1) ν2 (fun r5 ν4 => (((1 : Int32) < r5 → xw_X5_highest_45 X4 x0 x1 x2 x3 ν4 Q) ∧ (¬ (1 : Int32) < r5 → xw_X5_highest_67 X4 x0 x1 x2 x3 ν4 Q))))))))))))) → X4 x0 x1 x2 x3 ν) → X4 x0 x1 x2 x3 ν
theorem xt_X5_highest_4 {κ : Cx} {S : Adr} {A : Nat → Prop} {Z : State → Prop} {Q : Int32 → XN → Prop} (h : XCx κ cX5_highest RX5 S A 4 0 0) (hT : (cxT κ).sig.returnType = some .int) (hN : (cxT κ).name = "highest") (hR : xRet κ S A 0 0 Z cX5_highest (pI Q)) {x0 : Nat} {x1 : Int32} {x2 : Int32} {x3 : Int32} {ν : XN} (hw : xw_X5_highest_4 x0 x1 x2 x3 ν Q) : XG κ S A 0 0 Z 4 (ν, 0, 0) [some (.ref (S.2.1 x0)), some (.int x1), some (.int x2), some (.int x3)] [] := by
  refine hw (fun x0 x1 x2 x3 ν => XG κ S A 0 0 Z 4 (ν, 0, 0) [some (.ref (S.2.1 x0)), some (.int x1), some (.int x2), some (.int x3)] []) ?_
  clear hw
  intro x0 x1 x2 x3 ν hw
  have hX4 : ∀ (x0 : Nat) (x1 : Int32) (x2 : Int32) (x3 : Int32) (ν : XN), XG κ S A 0 0 Z 4 (ν, 0, 0) [some (.ref (S.2.1 x0)), some (.int x1), some (.int x2), some (.int x3)] [] → XG κ S A 0 0 Z 4 (ν, 0, 0) [some (.ref (S.2.1 x0)), some (.int x1), some (.int x2), some (.int x3)] [] := fun _ _ _ _ _ hh => hh
  refine g_iload_3 4 h.1 dX5_highest_4 ?_
  refine g_bipush 5 _ bp_64 h.1 dX5_highest_5 ?_
  refine g_icmp_ge 7 73 h.1 dX5_highest_7 (by decide) (fun c => ?_) (fun c => ?_)
  · have hw := hw.1 c
    refine g_iload_2 73 h.1 dX5_highest_73 ?_
    exact hR.1 74 _ _ _ _ _ _ hT rfl dX5_highest_74 ⟨_, rfl, hw⟩
  · have hw := hw.2 c
    refine g_aload_0 10 h.1 dX5_highest_10 ?_
    obtain ⟨f1, hw⟩ := hw
    refine xg_X5_3_5 11 f1 h dX5_highest_11 ?_
    rw [xft_this f1]
    refine g_iload_3 14 h.1 dX5_highest_14 ?_
    refine xcVN_I_1 15 h (xm_X0_isCell h.2.2.1 hw) (by decide) (Nat.le_of_eq (Nat.zero_add _)) (Nat.le_of_eq (Nat.zero_add _)) q1306 qs40 (fun H hI => x_recvK h rfl rfl hI) q1452 (Nat.le_of_ble_eq_true rfl) dX5_highest_15 (fun r3 ν2 hw => ?_)
    refine g_if_eq 18 67 h.1 dX5_highest_18 (by decide) (fun c => ?_) (fun c => ?_)
    · have hw := hw.1 c
      exact g_le (xt_X5_highest_67 h hT hN hR hX4 hw) ⟨rfl, rfl, rfl, rfl, trivial⟩
    · have hw := hw.2 c
      refine g_iload_3 21 h.1 dX5_highest_21 ?_
      refine g_bipush 22 _ bp_8 h.1 dX5_highest_22 ?_
      refine g_idiv 24 (by decide) h.1 dX5_highest_24 ?_
      refine g_iload_1 25 h.1 dX5_highest_25 ?_
      refine g_bipush 26 _ bp_8 h.1 dX5_highest_26 ?_
      refine g_idiv 28 (by decide) h.1 dX5_highest_28 ?_
      refine g_icmp_ne 29 45 h.1 dX5_highest_29 (by decide) (fun c => ?_) (fun c => ?_)
      · have hw := hw.1 c
        exact g_le (xt_X5_highest_45 h hT hN hR hX4 hw) ⟨rfl, rfl, rfl, rfl, trivial⟩
      · have hw := hw.2 c
        refine g_iload_3 32 h.1 dX5_highest_32 ?_
        refine g_iload_1 33 h.1 dX5_highest_33 ?_
        refine g_isub 34 h.1 dX5_highest_34 ?_
        refine xcS_I_1 35 h (xm_J12_abs h.2.2.1 hw) (by decide) (Nat.le_of_eq (Nat.zero_add _)) (Nat.le_of_eq (Nat.zero_add _)) q1466 q1465 (Nat.le_of_ble_eq_true rfl) dX5_highest_35 (fun r5 ν4 hw => ?_)
        refine g_iconstv 38 _ ic_1 h.1 dX5_highest_38 ?_
        refine g_icmp_gt 39 45 h.1 dX5_highest_39 (by decide) (fun c => ?_) (fun c => ?_)
        · have hw := hw.1 c
          exact g_le (xt_X5_highest_45 h hT hN hR hX4 hw) ⟨rfl, rfl, rfl, rfl, trivial⟩
        · have hw := hw.2 c
          refine g_goto 42 67 h.1 dX5_highest_42 (by decide) ?_
          exact g_le (xt_X5_highest_67 h hT hN hR hX4 hw) ⟨rfl, rfl, rfl, rfl, trivial⟩
def xw_X5_highest (x0 : Nat) (x1 : Int32) (ν : XN) (Q : Int32 → XN → Prop) : Prop :=
  xw_X5_highest_4 x0 x1 (-1 : Int32) (0 : Int32) ν Q
theorem xt_X5_highest {κ : Cx} {S : Adr} {A : Nat → Prop} {Z : State → Prop} {Q : Int32 → XN → Prop} (h : XCx κ cX5_highest RX5 S A 4 0 0) (hT : (cxT κ).sig.returnType = some .int) (hN : (cxT κ).name = "highest") (hR : xRet κ S A 0 0 Z cX5_highest (pI Q)) {x0 : Nat} {x1 : Int32} {ν : XN} (hw : xw_X5_highest x0 x1 ν Q) : XG κ S A 0 0 Z 0 (ν, 0, 0) [some (.ref (S.2.1 x0)), some (.int x1), none, none] [] := by
  unfold xw_X5_highest at hw
  refine g_iconstv 0 _ ic_m1 h.1 dX5_highest_0 ?_
  refine g_istore_2 1 h.1 rfl dX5_highest_1 ?_
  refine g_iconstv 2 _ ic_0 h.1 dX5_highest_2 ?_
  refine g_istore_3 3 h.1 rfl dX5_highest_3 ?_
  exact g_le (xt_X5_highest_4 h hT hN hR hw) ⟨rfl, rfl, rfl, rfl, trivial⟩
theorem xm_X5_highest {l : Launch} {S : Adr} {A : Nat → Prop} (hD : FD xT S xcl A) {x0 : Nat} {x1 : Int32} {ν : XN} {Q : Int32 → XN → Prop} (hw : xw_X5_highest x0 x1 ν Q) : xMet l S A 4 0 0 1 yX5_highest [.ref (S.2.1 x0), .int x1] ν (pI Q) :=
  x_met (plainFor_of_name (by decide)) hD ⟨⟨by decide, by decide, by show _ = some 1; decide +kernel⟩, by decide, q1464, q182⟩ (Nat.le_of_ble_eq_true rfl) (fun κ Z h hT hN hR => xt_X5_highest h hT hN hR hw)
def xw_X5_lifted_41 (VA : Nat → Nat → XN → (Int64 → XN → Prop) → Prop) (TA : Nat → Nat → XN → (Int32 → XN → Prop) → Prop) (x0 : Nat) (x1 : Int32) (x3 : Int32) (x4 : Int32) (x5 : Int32) (ν : XN) (Q : Int32 → XN → Prop) : Prop :=
  ∀ X41 : Nat → Int32 → Int32 → Int32 → Int32 → XN → Prop, (∀ (x0 : Nat) (x1 : Int32) (x3 : Int32) (x4 : Int32) (x5 : Int32) (ν : XN), ((x4 ≤ x5 → Q x4 ν) ∧ (¬ x4 ≤ x5 → (xoc x0 = 5 ∧ (xok 1 (xft x0 4) ∧ (vp_in x1 (xlen (xft x0 4)) ∧ (xw_X5_highest x0 (fA ν.1 (xft x0 4) (Int32.toNatClampNeg x1)) ν (fun r12 ν11 => (xok 1 (xft x0 3) ∧ (vp_in r12 (xlen (xft x0 3)) ∧ (((fA ν11.1 (xft x0 3) (Int32.toNatClampNeg r12)) = 0 → Q x5 ν11) ∧ (¬ (fA ν11.1 (xft x0 3) (Int32.toNatClampNeg r12)) = 0 → (xok 1 (xft x0 3) ∧ (vp_in x3 (xlen (xft x0 3)) ∧ ((¬ (fA ν11.1 (xft x0 3) (Int32.toNatClampNeg x3)) = (99 : Int32) → (xok 1 (xft x0 3) ∧ (vp_in r12 (xlen (xft x0 3)) ∧ (xok 1 (xft x0 3) ∧ (vp_in r12 (xlen (xft x0 3)) ∧ (∀ ν19, ν19 = (sA ν11.1 (xft x0 3) (Int32.toNatClampNeg r12) ((fA ν11.1 (xft x0 3) (Int32.toNatClampNeg r12)) - (1 : Int32)), ν11.2) → (xok 1 (xft x0 3) ∧ (vp_in x3 (xlen (xft x0 3)) ∧ (xok 1 (xft x0 3) ∧ (vp_in x3 (xlen (xft x0 3)) ∧ (∀ ν25, ν25 = (sA ν19.1 (xft x0 3) (Int32.toNatClampNeg x3) ((fA ν19.1 (xft x0 3) (Int32.toNatClampNeg x3)) + (1 : Int32)), ν19.2) → X41 x0 x1 x3 x4 (x5 + 1) ν25))))))))))) ∧ ((fA ν11.1 (xft x0 3) (Int32.toNatClampNeg x3)) = (99 : Int32) → Q x5 ν11))))))))))))))) → X41 x0 x1 x3 x4 x5 ν) → X41 x0 x1 x3 x4 x5 ν
theorem xt_X5_lifted_41 {κ : Cx} {S : Adr} {A : Nat → Prop} {Z : State → Prop} {Q : Int32 → XN → Prop} {dV : Nat} {VA : Nat → Nat → XN → (Int64 → XN → Prop) → Prop} {TA : Nat → Nat → XN → (Int32 → XN → Prop) → Prop} (hV : HVT S A dV VA TA) (h : XCx κ cX5_lifted RX5 S A (dV + 5) 0 0) (hT : (cxT κ).sig.returnType = some .int) (hN : (cxT κ).name = "lifted") (hR : xRet κ S A 0 0 Z cX5_lifted (pI Q)) {x0 : Nat} {x1 : Int32} {x3 : Int32} {x4 : Int32} {x5 : Int32} {ν : XN} (hw : xw_X5_lifted_41 VA TA x0 x1 x3 x4 x5 ν Q) : XG κ S A 0 0 Z 41 (ν, 0, 0) [some (.ref (S.2.1 x0)), some (.int x1), none, some (.int x3), some (.int x4), some (.int x5), none] [] := by
  refine hw (fun x0 x1 x3 x4 x5 ν => XG κ S A 0 0 Z 41 (ν, 0, 0) [some (.ref (S.2.1 x0)), some (.int x1), none, some (.int x3), some (.int x4), some (.int x5), none] []) ?_
  clear hw
  intro x0 x1 x3 x4 x5 ν hw
  have hX41 : ∀ (x0 : Nat) (x1 : Int32) (x3 : Int32) (x4 : Int32) (x5 : Int32) (ν : XN), XG κ S A 0 0 Z 41 (ν, 0, 0) [some (.ref (S.2.1 x0)), some (.int x1), none, some (.int x3), some (.int x4), some (.int x5), none] [] → XG κ S A 0 0 Z 41 (ν, 0, 0) [some (.ref (S.2.1 x0)), some (.int x1), none, some (.int x3), some (.int x4), some (.int x5), none] [] := fun _ _ _ _ _ _ hh => hh
  refine g_iload_5 41 h.1 dX5_lifted_41 ?_
  refine g_iload_4 43 h.1 dX5_lifted_43 ?_
  refine g_icmp_ge 45 111 h.1 dX5_lifted_45 (by decide) (fun c => ?_) (fun c => ?_)
  · have hw := hw.1 c
    refine g_iload_4 111 h.1 dX5_lifted_111 ?_
    exact hR.1 113 _ _ _ _ _ _ hT rfl dX5_lifted_113 ⟨_, rfl, hw⟩
  · have hw := hw.2 c
    refine g_aload_0 48 h.1 dX5_lifted_48 ?_
    refine g_aload_0 49 h.1 dX5_lifted_49 ?_
    obtain ⟨f8, hw⟩ := hw
    refine xg_X5_19_5 50 f8 h dX5_lifted_50 ?_
    refine g_iload_1 53 h.1 dX5_lifted_53 ?_
    obtain ⟨f9, hw⟩ := hw
    obtain ⟨f10, hw⟩ := hw
    refine xa_iald 54 f9 f10 h dX5_lifted_54 ?_
    refine xcV_I_1 55 h (xm_X5_highest h.2.2.1 hw) (by omega) (Nat.le_of_eq (Nat.zero_add _)) (Nat.le_of_eq (Nat.zero_add _)) q1463 qs49 (fun H hI => x_recvK h f8 rfl hI) q1461 (Nat.le_of_ble_eq_true rfl) dX5_lifted_55 (fun r12 ν11 hw => ?_)
    refine g_istore_6 58 h.1 rfl dX5_lifted_58 ?_
    refine g_aload_0 60 h.1 dX5_lifted_60 ?_
    refine xg_X5_15_5 61 f8 h dX5_lifted_61 ?_
    refine g_iload_6 64 h.1 dX5_lifted_64 ?_
    obtain ⟨f13, hw⟩ := hw
    obtain ⟨f14, hw⟩ := hw
    refine xa_iald 66 f13 f14 h dX5_lifted_66 ?_
    refine g_if_eq 67 81 h.1 dX5_lifted_67 (by decide) (fun c => ?_) (fun c => ?_)
    · have hw := hw.1 c
      refine g_iload_5 81 h.1 dX5_lifted_81 ?_
      exact hR.1 83 _ _ _ _ _ _ hT rfl dX5_lifted_83 ⟨_, rfl, hw⟩
    · have hw := hw.2 c
      refine g_aload_0 70 h.1 dX5_lifted_70 ?_
      refine xg_X5_15_5 71 f8 h dX5_lifted_71 ?_
      refine g_iload_3 74 h.1 dX5_lifted_74 ?_
      obtain ⟨f15, hw⟩ := hw
      obtain ⟨f16, hw⟩ := hw
      refine xa_iald 75 f15 f16 h dX5_lifted_75 ?_
      refine g_bipush 76 _ bp_99 h.1 dX5_lifted_76 ?_
      refine g_icmp_ne 78 84 h.1 dX5_lifted_78 (by decide) (fun c => ?_) (fun c => ?_)
      · have hw := hw.1 c
        refine g_aload_0 84 h.1 dX5_lifted_84 ?_
        refine xg_X5_15_5 85 f8 h dX5_lifted_85 ?_
        refine g_iload_6 88 h.1 dX5_lifted_88 ?_
        refine g_dup2 90 rfl rfl h.1 dX5_lifted_90 ?_
        obtain ⟨f17, hw⟩ := hw
        obtain ⟨f18, hw⟩ := hw
        refine xa_iald 91 f17 f18 h dX5_lifted_91 ?_
        refine g_iconstv 92 _ ic_1 h.1 dX5_lifted_92 ?_
        refine g_isub 93 h.1 dX5_lifted_93 ?_
        obtain ⟨f21, hw⟩ := hw
        obtain ⟨f22, hw⟩ := hw
        refine xa_iast 94 f21 f22 h dX5_lifted_94 (fun ν19 e20 => ?_)
        have hw := hw ν19 e20
        refine g_aload_0 95 h.1 dX5_lifted_95 ?_
        refine xg_X5_15_5 96 f8 h dX5_lifted_96 ?_
        refine g_iload_3 99 h.1 dX5_lifted_99 ?_
        refine g_dup2 100 rfl rfl h.1 dX5_lifted_100 ?_
        obtain ⟨f23, hw⟩ := hw
        obtain ⟨f24, hw⟩ := hw
        refine xa_iald 101 f23 f24 h dX5_lifted_101 ?_
        refine g_iconstv 102 _ ic_1 h.1 dX5_lifted_102 ?_
        refine g_iadd 103 h.1 dX5_lifted_103 ?_
        obtain ⟨f27, hw⟩ := hw
        obtain ⟨f28, hw⟩ := hw
        refine xa_iast 104 f27 f28 h dX5_lifted_104 (fun ν25 e26 => ?_)
        have hw := hw ν25 e26
        refine g_iinc_5 105 (x5 + 1) (congrArg _ ic_1) h.1 rfl dX5_lifted_105 ?_
        refine g_goto 108 41 h.1 dX5_lifted_108 (by decide) ?_
        exact g_le (hX41 _ _ _ _ _ _ hw) ⟨rfl, rfl, rfl, rfl, rfl, trivial⟩
      · have hw := hw.2 c
        refine g_iload_5 81 h.1 dX5_lifted_81 ?_
        exact hR.1 83 _ _ _ _ _ _ hT rfl dX5_lifted_83 ⟨_, rfl, hw⟩
def xw_X5_lifted (VA : Nat → Nat → XN → (Int64 → XN → Prop) → Prop) (TA : Nat → Nat → XN → (Int32 → XN → Prop) → Prop) (x0 : Nat) (x1 : Int32) (x2 : Int32) (x3 : Int32) (ν : XN) (Q : Int32 → XN → Prop) : Prop :=
  (xoc x0 = 5 ∧ (xw_X0_isCell x3 ν (fun r3 ν2 => ((r3 = 0 → Q (0 : Int32) ν2) ∧ (¬ r3 = 0 → (xok 1 (xft x0 4) ∧ (vp_in x1 (xlen (xft x0 4)) ∧ (((x3 / (8 : Int32)) = ((fA ν2.1 (xft x0 4) (Int32.toNatClampNeg x1)) / (8 : Int32)) → (xw_X5_times VA TA x0 x1 x2 x3 ν2 (fun r7 ν6 => xw_X5_lifted_41 VA TA x0 x1 x3 r7 (0 : Int32) ν6 Q))) ∧ (¬ (x3 / (8 : Int32)) = ((fA ν2.1 (xft x0 4) (Int32.toNatClampNeg x1)) / (8 : Int32)) → Q (0 : Int32) ν2)))))))))
theorem xt_X5_lifted {κ : Cx} {S : Adr} {A : Nat → Prop} {Z : State → Prop} {Q : Int32 → XN → Prop} {dV : Nat} {VA : Nat → Nat → XN → (Int64 → XN → Prop) → Prop} {TA : Nat → Nat → XN → (Int32 → XN → Prop) → Prop} (hV : HVT S A dV VA TA) (h : XCx κ cX5_lifted RX5 S A (dV + 5) 0 0) (hT : (cxT κ).sig.returnType = some .int) (hN : (cxT κ).name = "lifted") (hR : xRet κ S A 0 0 Z cX5_lifted (pI Q)) {x0 : Nat} {x1 : Int32} {x2 : Int32} {x3 : Int32} {ν : XN} (hw : xw_X5_lifted VA TA x0 x1 x2 x3 ν Q) : XG κ S A 0 0 Z 0 (ν, 0, 0) [some (.ref (S.2.1 x0)), some (.int x1), some (.int x2), some (.int x3), none, none, none] [] := by
  unfold xw_X5_lifted at hw
  refine g_aload_0 0 h.1 dX5_lifted_0 ?_
  obtain ⟨f1, hw⟩ := hw
  refine xg_X5_3_5 1 f1 h dX5_lifted_1 ?_
  rw [xft_this f1]
  refine g_iload_3 4 h.1 dX5_lifted_4 ?_
  refine xcVN_I_1 5 h (xm_X0_isCell h.2.2.1 hw) (by omega) (Nat.le_of_eq (Nat.zero_add _)) (Nat.le_of_eq (Nat.zero_add _)) q1306 qs40 (fun H hI => x_recvK h rfl rfl hI) q1452 (Nat.le_of_ble_eq_true rfl) dX5_lifted_5 (fun r3 ν2 hw => ?_)
  refine g_if_eq 8 27 h.1 dX5_lifted_8 (by decide) (fun c => ?_) (fun c => ?_)
  · have hw := hw.1 c
    refine g_iconstv 27 _ ic_0 h.1 dX5_lifted_27 ?_
    exact hR.1 28 _ _ _ _ _ _ hT rfl dX5_lifted_28 ⟨_, rfl, hw⟩
  · have hw := hw.2 c
    refine g_iload_3 11 h.1 dX5_lifted_11 ?_
    refine g_bipush 12 _ bp_8 h.1 dX5_lifted_12 ?_
    refine g_idiv 14 (by decide) h.1 dX5_lifted_14 ?_
    refine g_aload_0 15 h.1 dX5_lifted_15 ?_
    refine xg_X5_19_5 16 f1 h dX5_lifted_16 ?_
    refine g_iload_1 19 h.1 dX5_lifted_19 ?_
    obtain ⟨f4, hw⟩ := hw
    obtain ⟨f5, hw⟩ := hw
    refine xa_iald 20 f4 f5 h dX5_lifted_20 ?_
    refine g_bipush 21 _ bp_8 h.1 dX5_lifted_21 ?_
    refine g_idiv 23 (by decide) h.1 dX5_lifted_23 ?_
    refine g_icmp_eq 24 29 h.1 dX5_lifted_24 (by decide) (fun c => ?_) (fun c => ?_)
    · have hw := hw.1 c
      refine g_aload_0 29 h.1 dX5_lifted_29 ?_
      refine g_iload_1 30 h.1 dX5_lifted_30 ?_
      refine g_iload_2 31 h.1 dX5_lifted_31 ?_
      refine g_iload_3 32 h.1 dX5_lifted_32 ?_
      refine xcV_I_3 33 h (xm_X5_times hV h.2.2.1 hw) (by omega) (Nat.le_of_eq (Nat.zero_add _)) (Nat.le_of_eq (Nat.zero_add _)) q1455 qs48 (fun H hI => x_recvK h f1 rfl hI) q1453 (Nat.le_of_ble_eq_true rfl) dX5_lifted_33 (fun r7 ν6 hw => ?_)
      refine g_istore_4 36 h.1 rfl dX5_lifted_36 ?_
      refine g_iconstv 38 _ ic_0 h.1 dX5_lifted_38 ?_
      refine g_istore_5 39 h.1 rfl dX5_lifted_39 ?_
      exact g_le (xt_X5_lifted_41 hV h hT hN hR hw) ⟨rfl, rfl, rfl, rfl, rfl, trivial⟩
    · have hw := hw.2 c
      refine g_iconstv 27 _ ic_0 h.1 dX5_lifted_27 ?_
      exact hR.1 28 _ _ _ _ _ _ hT rfl dX5_lifted_28 ⟨_, rfl, hw⟩
theorem xm_X5_lifted {l : Launch} {S : Adr} {A : Nat → Prop} {dV : Nat} {VA : Nat → Nat → XN → (Int64 → XN → Prop) → Prop} {TA : Nat → Nat → XN → (Int32 → XN → Prop) → Prop} (hV : HVT S A dV VA TA) (hD : FD xT S xcl A) {x0 : Nat} {x1 : Int32} {x2 : Int32} {x3 : Int32} {ν : XN} {Q : Int32 → XN → Prop} (hw : xw_X5_lifted VA TA x0 x1 x2 x3 ν Q) : xMet l S A (dV + 5) 0 0 3 yX5_lifted [.ref (S.2.1 x0), .int x1, .int x2, .int x3] ν (pI Q) :=
  x_met (plainFor_of_name (by decide)) hD ⟨⟨by decide, by decide, by show _ = some 3; decide +kernel⟩, by decide, q1451, q182⟩ (Nat.le_of_ble_eq_true rfl) (fun κ Z h hT hN hR => xt_X5_lifted hV h hT hN hR hw)
def xw_X5_tells_68 (x0 : Nat) (x1 : Int32) (x2 : Int32) (x3 : Int32) (ν : XN) (Q : XN → Prop) : Prop :=
  (xoc x0 = 5 ∧ (xok 7 (xft x0 7) ∧ (vp_in (fI ν.1 x0 1) (xlen (xft x0 7)) ∧ (xok 1 (fP ν.1 (xft x0 7) (Int32.toNatClampNeg (fI ν.1 x0 1))) ∧ (vp_in (0 : Int32) (xlen (fP ν.1 (xft x0 7) (Int32.toNatClampNeg (fI ν.1 x0 1)))) ∧ (∀ ν7, ν7 = (sA ν.1 (fP ν.1 (xft x0 7) (Int32.toNatClampNeg (fI ν.1 x0 1))) (Int32.toNatClampNeg (0 : Int32)) (fI ν.1 x0 0), ν.2) → (xok 7 (xft x0 7) ∧ (vp_in (fI ν7.1 x0 1) (xlen (xft x0 7)) ∧ (xok 1 (fP ν7.1 (xft x0 7) (Int32.toNatClampNeg (fI ν7.1 x0 1))) ∧ (vp_in (1 : Int32) (xlen (fP ν7.1 (xft x0 7) (Int32.toNatClampNeg (fI ν7.1 x0 1)))) ∧ (∀ ν13, ν13 = (sA ν7.1 (fP ν7.1 (xft x0 7) (Int32.toNatClampNeg (fI ν7.1 x0 1))) (Int32.toNatClampNeg (1 : Int32)) x1, ν7.2) → (xok 7 (xft x0 7) ∧ (vp_in (fI ν13.1 x0 1) (xlen (xft x0 7)) ∧ (xok 1 (fP ν13.1 (xft x0 7) (Int32.toNatClampNeg (fI ν13.1 x0 1))) ∧ (vp_in (2 : Int32) (xlen (fP ν13.1 (xft x0 7) (Int32.toNatClampNeg (fI ν13.1 x0 1)))) ∧ (∀ ν19, ν19 = (sA ν13.1 (fP ν13.1 (xft x0 7) (Int32.toNatClampNeg (fI ν13.1 x0 1))) (Int32.toNatClampNeg (2 : Int32)) x2, ν13.2) → (xok 7 (xft x0 7) ∧ (vp_in (fI ν19.1 x0 1) (xlen (xft x0 7)) ∧ (xok 1 (fP ν19.1 (xft x0 7) (Int32.toNatClampNeg (fI ν19.1 x0 1))) ∧ (vp_in (3 : Int32) (xlen (fP ν19.1 (xft x0 7) (Int32.toNatClampNeg (fI ν19.1 x0 1)))) ∧ (∀ ν25, ν25 = (sA ν19.1 (fP ν19.1 (xft x0 7) (Int32.toNatClampNeg (fI ν19.1 x0 1))) (Int32.toNatClampNeg (3 : Int32)) x3, ν19.2) → (∀ ν29, ν29 = (sI ν25.1 x0 1 ((fI ν25.1 x0 1) + (1 : Int32)), ν25.2) → Q ν29))))))))))))))))))))))
theorem xt_X5_tells_68 {κ : Cx} {S : Adr} {A : Nat → Prop} {Z : State → Prop} {Q : XN → Prop} (h : XCx κ cX5_tells RX5 S A 1 0 0) (hT : (cxT κ).sig.returnType = none) (hN : (cxT κ).name = "tells") (hR : xRet κ S A 0 0 Z cX5_tells (pV Q)) {x0 : Nat} {x1 : Int32} {x2 : Int32} {x3 : Int32} {ν : XN} (hw : xw_X5_tells_68 x0 x1 x2 x3 ν Q) : XG κ S A 0 0 Z 68 (ν, 0, 0) [some (.ref (S.2.1 x0)), some (.int x1), some (.int x2), some (.int x3), none, none] [] := by
  unfold xw_X5_tells_68 at hw
  refine g_aload_0 68 h.1 dX5_tells_68 ?_
  obtain ⟨f4, hw⟩ := hw
  refine xg_X5_30_5 69 f4 h dX5_tells_69 ?_
  refine g_aload_0 72 h.1 dX5_tells_72 ?_
  refine xg_X5_37_5 73 f4 h dX5_tells_73 ?_
  obtain ⟨f5, hw⟩ := hw
  obtain ⟨f6, hw⟩ := hw
  refine xa_aald7 76 f5 f6 h dX5_tells_76 ?_
  refine g_iconstv 77 _ ic_0 h.1 dX5_tells_77 ?_
  refine g_aload_0 78 h.1 dX5_tells_78 ?_
  refine xg_X5_33_5 79 f4 h dX5_tells_79 ?_
  obtain ⟨f9, hw⟩ := hw
  obtain ⟨f10, hw⟩ := hw
  refine xa_iast 82 f9 f10 h dX5_tells_82 (fun ν7 e8 => ?_)
  have hw := hw ν7 e8
  refine g_aload_0 83 h.1 dX5_tells_83 ?_
  refine xg_X5_30_5 84 f4 h dX5_tells_84 ?_
  refine g_aload_0 87 h.1 dX5_tells_87 ?_
  refine xg_X5_37_5 88 f4 h dX5_tells_88 ?_
  obtain ⟨f11, hw⟩ := hw
  obtain ⟨f12, hw⟩ := hw
  refine xa_aald7 91 f11 f12 h dX5_tells_91 ?_
  refine g_iconstv 92 _ ic_1 h.1 dX5_tells_92 ?_
  refine g_iload_1 93 h.1 dX5_tells_93 ?_
  obtain ⟨f15, hw⟩ := hw
  obtain ⟨f16, hw⟩ := hw
  refine xa_iast 94 f15 f16 h dX5_tells_94 (fun ν13 e14 => ?_)
  have hw := hw ν13 e14
  refine g_aload_0 95 h.1 dX5_tells_95 ?_
  refine xg_X5_30_5 96 f4 h dX5_tells_96 ?_
  refine g_aload_0 99 h.1 dX5_tells_99 ?_
  refine xg_X5_37_5 100 f4 h dX5_tells_100 ?_
  obtain ⟨f17, hw⟩ := hw
  obtain ⟨f18, hw⟩ := hw
  refine xa_aald7 103 f17 f18 h dX5_tells_103 ?_
  refine g_iconstv 104 _ ic_2 h.1 dX5_tells_104 ?_
  refine g_iload_2 105 h.1 dX5_tells_105 ?_
  obtain ⟨f21, hw⟩ := hw
  obtain ⟨f22, hw⟩ := hw
  refine xa_iast 106 f21 f22 h dX5_tells_106 (fun ν19 e20 => ?_)
  have hw := hw ν19 e20
  refine g_aload_0 107 h.1 dX5_tells_107 ?_
  refine xg_X5_30_5 108 f4 h dX5_tells_108 ?_
  refine g_aload_0 111 h.1 dX5_tells_111 ?_
  refine xg_X5_37_5 112 f4 h dX5_tells_112 ?_
  obtain ⟨f23, hw⟩ := hw
  obtain ⟨f24, hw⟩ := hw
  refine xa_aald7 115 f23 f24 h dX5_tells_115 ?_
  refine g_iconstv 116 _ ic_3 h.1 dX5_tells_116 ?_
  refine g_iload_3 117 h.1 dX5_tells_117 ?_
  obtain ⟨f27, hw⟩ := hw
  obtain ⟨f28, hw⟩ := hw
  refine xa_iast 118 f27 f28 h dX5_tells_118 (fun ν25 e26 => ?_)
  have hw := hw ν25 e26
  refine g_aload_0 119 h.1 dX5_tells_119 ?_
  refine g_dup 120 rfl h.1 dX5_tells_120 ?_
  refine xg_X5_37_5 121 f4 h dX5_tells_121 ?_
  refine g_iconstv 124 _ ic_1 h.1 dX5_tells_124 ?_
  refine g_iadd 125 h.1 dX5_tells_125 ?_
  refine xp_X5_37_5 126 f4 h dX5_tells_126 (fun ν29 e30 => ?_)
  have hw := hw ν29 e30
  exact hR.2.2.1 129 _ _ _ _ hT dX5_tells_129 ⟨rfl, hw⟩
def xw_X5_tells_20 (x0 : Nat) (x1 : Int32) (x2 : Int32) (x3 : Int32) (x4 : Nat) (x5 : Int32) (ν : XN) (Q : XN → Prop) : Prop :=
  ∀ X20 : Nat → Int32 → Int32 → Int32 → Nat → Int32 → XN → Prop, (∀ (x0 : Nat) (x1 : Int32) (x2 : Int32) (x3 : Int32) (x4 : Nat) (x5 : Int32) (ν : XN), (((40 : Int32) ≤ x5 → (xoc x0 = 5 ∧ (xok 7 (xft x0 7) ∧ (vp_in (39 : Int32) (xlen (xft x0 7)) ∧ (xok 1 x4 ∧ (∀ ν32, ν32 = (sP ν.1 (xft x0 7) (Int32.toNatClampNeg (39 : Int32)) x4, ν.2) → (∀ ν37, ν37 = (sI ν32.1 x0 1 ((fI ν32.1 x0 1) - (1 : Int32)), ν32.2) → xw_X5_tells_68 x0 x1 x2 x3 ν37 Q))))))) ∧ (¬ (40 : Int32) ≤ x5 → (xoc x0 = 5 ∧ (xok 7 (xft x0 7) ∧ (vp_in x5 (xlen (xft x0 7)) ∧ (xok 7 (xft x0 7) ∧ (vp_in (x5 - (1 : Int32)) (xlen (xft x0 7)) ∧ (xok 1 (fP ν.1 (xft x0 7) (Int32.toNatClampNeg x5)) ∧ (∀ ν42, ν42 = (sP ν.1 (xft x0 7) (Int32.toNatClampNeg (x5 - (1 : Int32))) (fP ν.1 (xft x0 7) (Int32.toNatClampNeg x5)), ν.2) → X20 x0 x1 x2 x3 x4 (x5 + 1) ν42))))))))) → X20 x0 x1 x2 x3 x4 x5 ν) → X20 x0 x1 x2 x3 x4 x5 ν
theorem xt_X5_tells_20 {κ : Cx} {S : Adr} {A : Nat → Prop} {Z : State → Prop} {Q : XN → Prop} (h : XCx κ cX5_tells RX5 S A 1 0 0) (hT : (cxT κ).sig.returnType = none) (hN : (cxT κ).name = "tells") (hR : xRet κ S A 0 0 Z cX5_tells (pV Q)) {x0 : Nat} {x1 : Int32} {x2 : Int32} {x3 : Int32} {x4 : Nat} {x5 : Int32} {ν : XN} (hw : xw_X5_tells_20 x0 x1 x2 x3 x4 x5 ν Q) : XG κ S A 0 0 Z 20 (ν, 0, 0) [some (.ref (S.2.1 x0)), some (.int x1), some (.int x2), some (.int x3), some (.ref (S.2.2.1 x4)), some (.int x5)] [] := by
  refine hw (fun x0 x1 x2 x3 x4 x5 ν => XG κ S A 0 0 Z 20 (ν, 0, 0) [some (.ref (S.2.1 x0)), some (.int x1), some (.int x2), some (.int x3), some (.ref (S.2.2.1 x4)), some (.int x5)] []) ?_
  clear hw
  intro x0 x1 x2 x3 x4 x5 ν hw
  have hX20 : ∀ (x0 : Nat) (x1 : Int32) (x2 : Int32) (x3 : Int32) (x4 : Nat) (x5 : Int32) (ν : XN), XG κ S A 0 0 Z 20 (ν, 0, 0) [some (.ref (S.2.1 x0)), some (.int x1), some (.int x2), some (.int x3), some (.ref (S.2.2.1 x4)), some (.int x5)] [] → XG κ S A 0 0 Z 20 (ν, 0, 0) [some (.ref (S.2.1 x0)), some (.int x1), some (.int x2), some (.int x3), some (.ref (S.2.2.1 x4)), some (.int x5)] [] := fun _ _ _ _ _ _ _ hh => hh
  refine g_iload_5 20 h.1 dX5_tells_20 ?_
  refine g_bipush 22 _ bp_40 h.1 dX5_tells_22 ?_
  refine g_icmp_ge 24 49 h.1 dX5_tells_24 (by decide) (fun c => ?_) (fun c => ?_)
  · have hw := hw.1 c
    refine g_aload_0 49 h.1 dX5_tells_49 ?_
    obtain ⟨f31, hw⟩ := hw
    refine xg_X5_30_5 50 f31 h dX5_tells_50 ?_
    refine g_bipush 53 _ bp_39 h.1 dX5_tells_53 ?_
    refine g_aload_4 55 h.1 dX5_tells_55 ?_
    obtain ⟨f34, hw⟩ := hw
    obtain ⟨f35, hw⟩ := hw
    obtain ⟨f36, hw⟩ := hw
    refine xa_aast7 57 f34 f36 f35 h dX5_tells_57 (fun ν32 e33 => ?_)
    have hw := hw ν32 e33
    refine g_aload_0 58 h.1 dX5_tells_58 ?_
    refine g_dup 59 rfl h.1 dX5_tells_59 ?_
    refine xg_X5_37_5 60 f31 h dX5_tells_60 ?_
    refine g_iconstv 63 _ ic_1 h.1 dX5_tells_63 ?_
    refine g_isub 64 h.1 dX5_tells_64 ?_
    refine xp_X5_37_5 65 f31 h dX5_tells_65 (fun ν37 e38 => ?_)
    have hw := hw ν37 e38
    exact g_le (xt_X5_tells_68 h hT hN hR hw) ⟨rfl, rfl, rfl, rfl, trivial⟩
  · have hw := hw.2 c
    refine g_aload_0 27 h.1 dX5_tells_27 ?_
    obtain ⟨f39, hw⟩ := hw
    refine xg_X5_30_5 28 f39 h dX5_tells_28 ?_
    refine g_iload_5 31 h.1 dX5_tells_31 ?_
    refine g_iconstv 33 _ ic_1 h.1 dX5_tells_33 ?_
    refine g_isub 34 h.1 dX5_tells_34 ?_
    refine g_aload_0 35 h.1 dX5_tells_35 ?_
    refine xg_X5_30_5 36 f39 h dX5_tells_36 ?_
    refine g_iload_5 39 h.1 dX5_tells_39 ?_
    obtain ⟨f40, hw⟩ := hw
    obtain ⟨f41, hw⟩ := hw
    refine xa_aald7 41 f40 f41 h dX5_tells_41 ?_
    obtain ⟨f44, hw⟩ := hw
    obtain ⟨f45, hw⟩ := hw
    obtain ⟨f46, hw⟩ := hw
    refine xa_aast7 42 f44 f46 f45 h dX5_tells_42 (fun ν42 e43 => ?_)
    have hw := hw ν42 e43
    refine g_iinc_5 43 (x5 + 1) (congrArg _ ic_1) h.1 rfl dX5_tells_43 ?_
    refine g_goto 46 20 h.1 dX5_tells_46 (by decide) ?_
    exact g_le (hX20 _ _ _ _ _ _ _ hw) ⟨rfl, rfl, rfl, rfl, rfl, rfl, trivial⟩
def xw_X5_tells (x0 : Nat) (x1 : Int32) (x2 : Int32) (x3 : Int32) (ν : XN) (Q : XN → Prop) : Prop :=
  (xoc x0 = 5 ∧ ((¬ (fI ν.1 x0 1) = (40 : Int32) → xw_X5_tells_68 x0 x1 x2 x3 ν Q) ∧ ((fI ν.1 x0 1) = (40 : Int32) → (xok 7 (xft x0 7) ∧ (vp_in (0 : Int32) (xlen (xft x0 7)) ∧ xw_X5_tells_20 x0 x1 x2 x3 (fP ν.1 (xft x0 7) (Int32.toNatClampNeg (0 : Int32))) (1 : Int32) ν Q)))))
theorem xt_X5_tells {κ : Cx} {S : Adr} {A : Nat → Prop} {Z : State → Prop} {Q : XN → Prop} (h : XCx κ cX5_tells RX5 S A 1 0 0) (hT : (cxT κ).sig.returnType = none) (hN : (cxT κ).name = "tells") (hR : xRet κ S A 0 0 Z cX5_tells (pV Q)) {x0 : Nat} {x1 : Int32} {x2 : Int32} {x3 : Int32} {ν : XN} (hw : xw_X5_tells x0 x1 x2 x3 ν Q) : XG κ S A 0 0 Z 0 (ν, 0, 0) [some (.ref (S.2.1 x0)), some (.int x1), some (.int x2), some (.int x3), none, none] [] := by
  unfold xw_X5_tells at hw
  refine g_aload_0 0 h.1 dX5_tells_0 ?_
  obtain ⟨f1, hw⟩ := hw
  refine xg_X5_37_5 1 f1 h dX5_tells_1 ?_
  refine g_bipush 4 _ bp_40 h.1 dX5_tells_4 ?_
  refine g_icmp_ne 6 68 h.1 dX5_tells_6 (by decide) (fun c => ?_) (fun c => ?_)
  · have hw := hw.1 c
    exact g_le (xt_X5_tells_68 h hT hN hR hw) ⟨rfl, rfl, rfl, rfl, trivial⟩
  · have hw := hw.2 c
    refine g_aload_0 9 h.1 dX5_tells_9 ?_
    refine xg_X5_30_5 10 f1 h dX5_tells_10 ?_
    refine g_iconstv 13 _ ic_0 h.1 dX5_tells_13 ?_
    obtain ⟨f2, hw⟩ := hw
    obtain ⟨f3, hw⟩ := hw
    refine xa_aald7 14 f2 f3 h dX5_tells_14 ?_
    refine g_astore_4 15 h.1 rfl dX5_tells_15 ?_
    refine g_iconstv 17 _ ic_1 h.1 dX5_tells_17 ?_
    refine g_istore_5 18 h.1 rfl dX5_tells_18 ?_
    exact g_le (xt_X5_tells_20 h hT hN hR hw) ⟨rfl, rfl, rfl, rfl, rfl, rfl, trivial⟩
theorem xm_X5_tells {l : Launch} {S : Adr} {A : Nat → Prop} (hD : FD xT S xcl A) {x0 : Nat} {x1 : Int32} {x2 : Int32} {x3 : Int32} {ν : XN} {Q : XN → Prop} (hw : xw_X5_tells x0 x1 x2 x3 ν Q) : xMet l S A 1 0 0 3 yX5_tells [.ref (S.2.1 x0), .int x1, .int x2, .int x3] ν (pV Q) :=
  x_met (plainFor_of_name (by decide)) hD ⟨⟨by decide, by decide, by show _ = some 3; decide +kernel⟩, by decide, q1472, q182⟩ (Nat.le_of_ble_eq_true rfl) (fun κ Z h hT hN hR => xt_X5_tells h hT hN hR hw)
def xw_X5_shrugs_103 (VA : Nat → Nat → XN → (Int64 → XN → Prop) → Prop) (TA : Nat → Nat → XN → (Int32 → XN → Prop) → Prop) (x0 : Nat) (x1 : Int32) (x2 : Int32) (x3 : Int32) (y0 : Int32) (y1 : Int32) (y2 : Nat) (ν : XN) (Q : Int32 → XN → Prop) : Prop :=
  (xok 1 y2 ∧ (vp_in y1 (xlen y2) ∧ (∀ ν31, ν31 = (sA ν.1 y2 (Int32.toNatClampNeg y1) y0, ν.2) → (xoc x0 = 5 ∧ (xw_X5_tells x0 x1 x2 x3 ν31 (fun ν35 => Q x3 ν35))))))
theorem xt_X5_shrugs_103 {κ : Cx} {S : Adr} {A : Nat → Prop} {Z : State → Prop} {Q : Int32 → XN → Prop} {dV : Nat} {VA : Nat → Nat → XN → (Int64 → XN → Prop) → Prop} {TA : Nat → Nat → XN → (Int32 → XN → Prop) → Prop} (hV : HVT S A dV VA TA) (h : XCx κ cX5_shrugs RX5 S A (dV + 6) 0 0) (hT : (cxT κ).sig.returnType = some .int) (hN : (cxT κ).name = "shrugs") (hR : xRet κ S A 0 0 Z cX5_shrugs (pI Q)) {x0 : Nat} {x1 : Int32} {x2 : Int32} {x3 : Int32} {y0 : Int32} {y1 : Int32} {y2 : Nat} {ν : XN} (hw : xw_X5_shrugs_103 VA TA x0 x1 x2 x3 y0 y1 y2 ν Q) : XG κ S A 0 0 Z 103 (ν, 0, 0) [some (.ref (S.2.1 x0)), some (.int x1), some (.int x2), some (.int x3)] [.int y0, .int y1, .ref (S.2.2.1 y2)] := by
  unfold xw_X5_shrugs_103 at hw
  obtain ⟨f33, hw⟩ := hw
  obtain ⟨f34, hw⟩ := hw
  refine xa_iast 103 f33 f34 h dX5_shrugs_103 (fun ν31 e32 => ?_)
  have hw := hw ν31 e32
  refine g_aload_0 104 h.1 dX5_shrugs_104 ?_
  refine g_iload_1 105 h.1 dX5_shrugs_105 ?_
  refine g_iload_2 106 h.1 dX5_shrugs_106 ?_
  refine g_iload_3 107 h.1 dX5_shrugs_107 ?_
  obtain ⟨f36, hw⟩ := hw
  refine xcV_V_3 108 h (xm_X5_tells h.2.2.1 hw) (by omega) (Nat.le_of_eq (Nat.zero_add _)) (Nat.le_of_eq (Nat.zero_add _)) q1471 qs50 (fun H hI => x_recvK h f36 rfl hI) q1469 (Nat.le_of_ble_eq_true rfl) dX5_shrugs_108 (fun ν35 hw => ?_)
  refine g_iload_3 111 h.1 dX5_shrugs_111 ?_
  exact hR.1 112 _ _ _ _ _ _ hT rfl dX5_shrugs_112 ⟨_, rfl, hw⟩
def xw_X5_shrugs (VA : Nat → Nat → XN → (Int64 → XN → Prop) → Prop) (TA : Nat → Nat → XN → (Int32 → XN → Prop) → Prop) (x0 : Nat) (x1 : Int32) (x2 : Int32) (ν : XN) (Q : Int32 → XN → Prop) : Prop :=
  (xoc x0 = 5 ∧ (xok 1 (xft x0 4) ∧ (vp_in x1 (xlen (xft x0 4)) ∧ (xw_X5_lifted VA TA x0 x1 x2 ((fA ν.1 (xft x0 4) (Int32.toNatClampNeg x1)) - (1 : Int32)) ν (fun r5 ν4 => (xok 1 (xft x0 4) ∧ (vp_in x1 (xlen (xft x0 4)) ∧ (xw_X5_lifted VA TA x0 x1 x2 ((fA ν4.1 (xft x0 4) (Int32.toNatClampNeg x1)) + (1 : Int32)) ν4 (fun r9 ν8 => (xw_X5_asks x0 x1 x2 ν8 (fun ν10 => (∃ b11, fR ν10.1 0 0 = .ref b11 ∧ (rc ν10.2 b11 = 2 ∧ (((rO ν10.2 b11 9) = none → (xok 1 (xft x0 5) ∧ (vp_in x1 (xlen (xft x0 5)) ∧ (xw_J12_min (9 : Int32) ((fA ν10.1 (xft x0 5) (Int32.toNatClampNeg x1)) + (1 : Int32)) ν10 (fun r19 ν18 => xw_X5_shrugs_103 VA TA x0 x1 x2 (r5 + r9) r19 x1 (xft x0 5) ν18 Q))))) ∧ (∀ b14, (rO ν10.2 b11 9) = some b14 → (∃ b20, fR ν10.1 0 0 = .ref b20 ∧ (rc ν10.2 b20 = 2 ∧ (∃ b23, (rO ν10.2 b20 9) = some b23 ∧ (VA b23 3 ν10 (fun r26 ν25 => (xw_J12_min_2 (9 : Int64) r26 ν25 (fun r28 ν27 => (xw_J12_max_2 (0 : Int64) r28 ν27 (fun r30 ν29 => xw_X5_shrugs_103 VA TA x0 x1 x2 (r5 + r9) (Int64.toInt32 r30) x1 (xft x0 5) ν29 Q))))))))))))))))))))))))
theorem xt_X5_shrugs {κ : Cx} {S : Adr} {A : Nat → Prop} {Z : State → Prop} {Q : Int32 → XN → Prop} {dV : Nat} {VA : Nat → Nat → XN → (Int64 → XN → Prop) → Prop} {TA : Nat → Nat → XN → (Int32 → XN → Prop) → Prop} (hV : HVT S A dV VA TA) (h : XCx κ cX5_shrugs RX5 S A (dV + 6) 0 0) (hT : (cxT κ).sig.returnType = some .int) (hN : (cxT κ).name = "shrugs") (hR : xRet κ S A 0 0 Z cX5_shrugs (pI Q)) {x0 : Nat} {x1 : Int32} {x2 : Int32} {ν : XN} (hw : xw_X5_shrugs VA TA x0 x1 x2 ν Q) : XG κ S A 0 0 Z 0 (ν, 0, 0) [some (.ref (S.2.1 x0)), some (.int x1), some (.int x2), none] [] := by
  unfold xw_X5_shrugs at hw
  refine g_aload_0 0 h.1 dX5_shrugs_0 ?_
  refine g_iload_1 1 h.1 dX5_shrugs_1 ?_
  refine g_iload_2 2 h.1 dX5_shrugs_2 ?_
  refine g_aload_0 3 h.1 dX5_shrugs_3 ?_
  obtain ⟨f1, hw⟩ := hw
  refine xg_X5_19_5 4 f1 h dX5_shrugs_4 ?_
  refine g_iload_1 7 h.1 dX5_shrugs_7 ?_
  obtain ⟨f2, hw⟩ := hw
  obtain ⟨f3, hw⟩ := hw
  refine xa_iald 8 f2 f3 h dX5_shrugs_8 ?_
  refine g_iconstv 9 _ ic_1 h.1 dX5_shrugs_9 ?_
  refine g_isub 10 h.1 dX5_shrugs_10 ?_
  refine xcV_I_3 11 h (xm_X5_lifted hV h.2.2.1 hw) (by omega) (Nat.le_of_eq (Nat.zero_add _)) (Nat.le_of_eq (Nat.zero_add _)) q1450 qs47 (fun H hI => x_recvK h f1 rfl hI) q1448 (Nat.le_of_ble_eq_true rfl) dX5_shrugs_11 (fun r5 ν4 hw => ?_)
  refine g_istore_3 14 h.1 rfl dX5_shrugs_14 ?_
  refine g_iload_3 15 h.1 dX5_shrugs_15 ?_
  refine g_aload_0 16 h.1 dX5_shrugs_16 ?_
  refine g_iload_1 17 h.1 dX5_shrugs_17 ?_
  refine g_iload_2 18 h.1 dX5_shrugs_18 ?_
  refine g_aload_0 19 h.1 dX5_shrugs_19 ?_
  refine xg_X5_19_5 20 f1 h dX5_shrugs_20 ?_
  refine g_iload_1 23 h.1 dX5_shrugs_23 ?_
  obtain ⟨f6, hw⟩ := hw
  obtain ⟨f7, hw⟩ := hw
  refine xa_iald 24 f6 f7 h dX5_shrugs_24 ?_
  refine g_iconstv 25 _ ic_1 h.1 dX5_shrugs_25 ?_
  refine g_iadd 26 h.1 dX5_shrugs_26 ?_
  refine xcV_I_3 27 h (xm_X5_lifted hV h.2.2.1 hw) (by omega) (Nat.le_of_eq (Nat.zero_add _)) (Nat.le_of_eq (Nat.zero_add _)) q1450 qs47 (fun H hI => x_recvK h f1 rfl hI) q1448 (Nat.le_of_ble_eq_true rfl) dX5_shrugs_27 (fun r9 ν8 hw => ?_)
  refine g_iadd 30 h.1 dX5_shrugs_30 ?_
  refine g_istore_3 31 h.1 rfl dX5_shrugs_31 ?_
  refine g_aload_0 32 h.1 dX5_shrugs_32 ?_
  refine g_iload_1 33 h.1 dX5_shrugs_33 ?_
  refine g_iload_2 34 h.1 dX5_shrugs_34 ?_
  refine xcV_V_2 35 h (xm_X5_asks h.2.2.1 hw) (by omega) (Nat.le_of_eq (Nat.zero_add _)) (Nat.le_of_eq (Nat.zero_add _)) q1370 qs44 (fun H hI => x_recvK h f1 rfl hI) q1368 (Nat.le_of_ble_eq_true rfl) dX5_shrugs_35 (fun ν10 hw => ?_)
  refine g_aload_0 38 h.1 dX5_shrugs_38 ?_
  refine xg_X5_22_5 39 f1 h dX5_shrugs_39 ?_
  refine g_iload_1 42 h.1 dX5_shrugs_42 ?_
  refine g_aload_0 43 h.1 dX5_shrugs_43 ?_
  refine xg_X5_3_5 44 f1 h dX5_shrugs_44 ?_
  rw [xft_this f1]
  refine xg_X5_40_0 47 h dX5_shrugs_47 ?_
  obtain ⟨b11, e12, hw⟩ := hw
  rw [e12]
  obtain ⟨f13, hw⟩ := hw
  refine xg_X5_142_1 50 f13 h dX5_shrugs_50 ?_
  refine g_ifnonnull 53 72 h.1 dX5_shrugs_53 (by decide) (fun b14 c => ?_) (fun c => ?_)
  · have hw := hw.2 b14 c
    refine g_lconst 72 _ lc_0 h.1 dX5_shrugs_72 ?_
    refine g_ldc2 73 h.1 q1457 dX5_shrugs_73 ?_
    refine g_aload_0 76 h.1 dX5_shrugs_76 ?_
    refine xg_X5_3_5 77 f1 h dX5_shrugs_77 ?_
    rw [xft_this f1]
    refine xg_X5_40_0 80 h dX5_shrugs_80 ?_
    obtain ⟨b20, e21, hw⟩ := hw
    rw [e21]
    obtain ⟨f22, hw⟩ := hw
    refine xg_X5_142_1 83 f22 h dX5_shrugs_83 ?_
    refine g_aload_0 86 h.1 dX5_shrugs_86 ?_
    refine xg_X5_3_5 87 f1 h dX5_shrugs_87 ?_
    rw [xft_this f1]
    refine xg_X5_72_0 90 h dX5_shrugs_90 ?_
    obtain ⟨b23, e24, hw⟩ := hw
    rw [e24]
    refine x_callVC 93 h (hV.1 _ _ _ _ _ hw) (by omega) q1458 (Nat.le_of_ble_eq_true rfl) dX5_shrugs_93 (fun r26 ν25 hw => ?_)
    refine xcS_J_2 96 h (xm_J12_min_2 h.2.2.1 hw) (by omega) (Nat.le_of_eq (Nat.zero_add _)) (Nat.le_of_eq (Nat.zero_add _)) q1410 q1459 (Nat.le_of_ble_eq_true rfl) dX5_shrugs_96 (fun r28 ν27 hw => ?_)
    refine xcS_J_2 99 h (xm_J12_max_2 h.2.2.1 hw) (by omega) (Nat.le_of_eq (Nat.zero_add _)) (Nat.le_of_eq (Nat.zero_add _)) q1413 q1460 (Nat.le_of_ble_eq_true rfl) dX5_shrugs_99 (fun r30 ν29 hw => ?_)
    refine g_l2i 102 h.1 dX5_shrugs_102 ?_
    exact g_le (xt_X5_shrugs_103 hV h hT hN hR hw) ⟨rfl, rfl, rfl, rfl, trivial⟩
  · have hw := hw.1 c
    refine g_bipush 56 _ bp_9 h.1 dX5_shrugs_56 ?_
    refine g_aload_0 58 h.1 dX5_shrugs_58 ?_
    refine xg_X5_22_5 59 f1 h dX5_shrugs_59 ?_
    refine g_iload_1 62 h.1 dX5_shrugs_62 ?_
    obtain ⟨f16, hw⟩ := hw
    obtain ⟨f17, hw⟩ := hw
    refine xa_iald 63 f16 f17 h dX5_shrugs_63 ?_
    refine g_iconstv 64 _ ic_1 h.1 dX5_shrugs_64 ?_
    refine g_iadd 65 h.1 dX5_shrugs_65 ?_
    refine xcS_I_2 66 h (xm_J12_min h.2.2.1 hw) (by omega) (Nat.le_of_eq (Nat.zero_add _)) (Nat.le_of_eq (Nat.zero_add _)) q928 q1468 (Nat.le_of_ble_eq_true rfl) dX5_shrugs_66 (fun r19 ν18 hw => ?_)
    refine g_goto 69 103 h.1 dX5_shrugs_69 (by decide) ?_
    exact g_le (xt_X5_shrugs_103 hV h hT hN hR hw) ⟨rfl, rfl, rfl, rfl, trivial⟩
theorem xm_X5_shrugs {l : Launch} {S : Adr} {A : Nat → Prop} {dV : Nat} {VA : Nat → Nat → XN → (Int64 → XN → Prop) → Prop} {TA : Nat → Nat → XN → (Int32 → XN → Prop) → Prop} (hV : HVT S A dV VA TA) (hD : FD xT S xcl A) {x0 : Nat} {x1 : Int32} {x2 : Int32} {ν : XN} {Q : Int32 → XN → Prop} (hw : xw_X5_shrugs VA TA x0 x1 x2 ν Q) : xMet l S A (dV + 6) 0 0 2 yX5_shrugs [.ref (S.2.1 x0), .int x1, .int x2] ν (pI Q) :=
  x_met (plainFor_of_name (by decide)) hD ⟨⟨by decide, by decide, by show _ = some 2; decide +kernel⟩, by decide, q1447, q182⟩ (Nat.le_of_ble_eq_true rfl) (fun κ Z h hT hN hR => xt_X5_shrugs hV h hT hN hR hw)
def xw_X5_asked (VA : Nat → Nat → XN → (Int64 → XN → Prop) → Prop) (TA : Nat → Nat → XN → (Int32 → XN → Prop) → Prop) (x0 : Nat) (x1 : Int32) (x2 : Int32) (ν : XN) (Q : Int32 → XN → Prop) : Prop :=
  (xoc x0 = 5 ∧ (xw_X5_would VA TA x0 x1 x2 ν (fun r2 ν1 => ((¬ r2 = (2 : Int32) → Q r2 ν1) ∧ (r2 = (2 : Int32) → (xw_X5_shrugs VA TA x0 x1 x2 ν1 (fun r5 ν4 => Q r2 ν4)))))))
theorem xt_X5_asked {κ : Cx} {S : Adr} {A : Nat → Prop} {Z : State → Prop} {Q : Int32 → XN → Prop} {dV : Nat} {VA : Nat → Nat → XN → (Int64 → XN → Prop) → Prop} {TA : Nat → Nat → XN → (Int32 → XN → Prop) → Prop} (hV : HVT S A dV VA TA) (h : XCx κ cX5_asked RX5 S A (dV + 7) 0 0) (hT : (cxT κ).sig.returnType = some .int) (hN : (cxT κ).name = "asked") (hR : xRet κ S A 0 0 Z cX5_asked (pI Q)) {x0 : Nat} {x1 : Int32} {x2 : Int32} {ν : XN} (hw : xw_X5_asked VA TA x0 x1 x2 ν Q) : XG κ S A 0 0 Z 0 (ν, 0, 0) [some (.ref (S.2.1 x0)), some (.int x1), some (.int x2), none] [] := by
  unfold xw_X5_asked at hw
  refine g_aload_0 0 h.1 dX5_asked_0 ?_
  refine g_iload_1 1 h.1 dX5_asked_1 ?_
  refine g_iload_2 2 h.1 dX5_asked_2 ?_
  obtain ⟨f3, hw⟩ := hw
  refine xcV_I_2 3 h (xm_X5_would hV h.2.2.1 hw) (by omega) (Nat.le_of_eq (Nat.zero_add _)) (Nat.le_of_eq (Nat.zero_add _)) q1364 q1365 (fun H hI => x_recvK h f3 rfl hI) q1443 (Nat.le_of_ble_eq_true rfl) dX5_asked_3 (fun r2 ν1 hw => ?_)
  refine g_istore_3 6 h.1 rfl dX5_asked_6 ?_
  refine g_iload_3 7 h.1 dX5_asked_7 ?_
  refine g_iconstv 8 _ ic_2 h.1 dX5_asked_8 ?_
  refine g_icmp_ne 9 19 h.1 dX5_asked_9 (by decide) (fun c => ?_) (fun c => ?_)
  · have hw := hw.1 c
    refine g_iload_3 19 h.1 dX5_asked_19 ?_
    exact hR.1 20 _ _ _ _ _ _ hT rfl dX5_asked_20 ⟨_, rfl, hw⟩
  · have hw := hw.2 c
    refine g_aload_0 12 h.1 dX5_asked_12 ?_
    refine g_iload_1 13 h.1 dX5_asked_13 ?_
    refine g_iload_2 14 h.1 dX5_asked_14 ?_
    refine xcV_I_2 15 h (xm_X5_shrugs hV h.2.2.1 hw) (by omega) (Nat.le_of_eq (Nat.zero_add _)) (Nat.le_of_eq (Nat.zero_add _)) q1446 qs46 (fun H hI => x_recvK h f3 rfl hI) q1444 (Nat.le_of_ble_eq_true rfl) dX5_asked_15 (fun r5 ν4 hw => ?_)
    refine g_pop 18 rfl h.1 dX5_asked_18 ?_
    refine g_iload_3 19 h.1 dX5_asked_19 ?_
    exact hR.1 20 _ _ _ _ _ _ hT rfl dX5_asked_20 ⟨_, rfl, hw⟩
theorem xm_X5_asked {l : Launch} {S : Adr} {A : Nat → Prop} {dV : Nat} {VA : Nat → Nat → XN → (Int64 → XN → Prop) → Prop} {TA : Nat → Nat → XN → (Int32 → XN → Prop) → Prop} (hV : HVT S A dV VA TA) (hD : FD xT S xcl A) {x0 : Nat} {x1 : Int32} {x2 : Int32} {ν : XN} {Q : Int32 → XN → Prop} (hw : xw_X5_asked VA TA x0 x1 x2 ν Q) : xMet l S A (dV + 7) 0 0 2 yX5_asked [.ref (S.2.1 x0), .int x1, .int x2] ν (pI Q) :=
  x_met (plainFor_of_name (by decide)) hD ⟨⟨by decide, by decide, by show _ = some 2; decide +kernel⟩, by decide, q1537, q182⟩ (Nat.le_of_ble_eq_true rfl) (fun κ Z h hT hN hR => xt_X5_asked hV h hT hN hR hw)
def xw_X0_people (ν : XN) (Q : Int32 → XN → Prop) : Prop :=
  (∃ b1, fR ν.1 0 0 = .ref b1 ∧ (rc ν.2 b1 = 2 ∧ (∃ b4, (rO ν.2 b1 6) = some b4 ∧ (rc ν.2 b4 = 7 ∧ (xw_J2_size b4 ν (fun r7 ν6 => Q r7 ν6))))))
theorem xt_X0_people {κ : Cx} {S : Adr} {A : Nat → Prop} {Z : State → Prop} {Q : Int32 → XN → Prop} (h : XCx κ cX0_people RX0 S A 2 0 0) (hT : (cxT κ).sig.returnType = some .int) (hN : (cxT κ).name = "people") (hR : xRet κ S A 0 0 Z cX0_people (pI Q)) {ν : XN} (hw : xw_X0_people ν Q) : XG κ S A 0 0 Z 0 (ν, 0, 0) [some (.ref (S.2.1 0))] [] := by
  unfold xw_X0_people at hw
  refine g_aload_0 0 h.1 dX0_people_0 ?_
  refine xg_X0_31_0 1 h dX0_people_1 ?_
  obtain ⟨b1, e2, hw⟩ := hw
  rw [e2]
  obtain ⟨f3, hw⟩ := hw
  refine xg_X0_169_1 4 f3 h dX0_people_4 ?_
  obtain ⟨b4, e5, hw⟩ := hw
  rw [e5]
  obtain ⟨f8, hw⟩ := hw
  refine xcF_I_0 7 h h.2.1.2.2.1.1 (xm_J2_size h.2.2.1 hw) (by decide) (Nat.le_of_eq (Nat.zero_add _)) (Nat.le_of_eq (Nat.zero_add _)) ⟨by decide, by decide, by show _ = some 0; decide +kernel⟩ q793 q791 f8 q1287 (Nat.le_of_ble_eq_true rfl) dX0_people_7 (fun r7 ν6 hw => ?_)
  exact hR.1 12 _ _ _ _ _ _ hT rfl dX0_people_12 ⟨_, rfl, hw⟩
theorem xm_X0_people {l : Launch} {S : Adr} {A : Nat → Prop} (hD : FD xT S xcl A) {ν : XN} {Q : Int32 → XN → Prop} (hw : xw_X0_people ν Q) : xMet l S A 2 0 0 0 yX0_people [.ref (S.2.1 0)] ν (pI Q) :=
  x_met (plainFor_of_name (by decide)) hD ⟨⟨by decide, by decide, by show _ = some 0; decide +kernel⟩, by decide, q1285, q171⟩ (Nat.le_of_ble_eq_true rfl) (fun κ Z h hT hN hR => xt_X0_people h hT hN hR hw)
def xw_X5_begins_44 (x0 : Nat) (x1 : Int32) (ν : XN) (Q : XN → Prop) : Prop :=
  ∀ X44 : Nat → Int32 → XN → Prop, (∀ (x0 : Nat) (x1 : Int32) (ν : XN), (xoc x0 = 5 ∧ (xw_X0_people ν (fun r20 ν19 => ((r20 ≤ x1 → Q ν19) ∧ (¬ r20 ≤ x1 → (∃ b21, fR ν19.1 0 0 = .ref b21 ∧ (rc ν19.2 b21 = 2 ∧ (∃ b24, (rO ν19.2 b21 6) = some b24 ∧ (rc ν19.2 b24 = 7 ∧ (xw_J2_get b24 x1 ν19 (fun r27 ν26 => (∃ b29, r27 = some b29 ∧ ((rc ν26.2 b29 = 9) ∧ (rc ν26.2 b29 = 9 ∧ (xok 1 (xft x0 4) ∧ (vp_in x1 (xlen (xft x0 4)) ∧ (∀ ν33, ν33 = (sA ν26.1 (xft x0 4) (Int32.toNatClampNeg x1) (rI ν26.2 b29 1), ν26.2) → (∃ b37, fR ν33.1 0 0 = .ref b37 ∧ (rc ν33.2 b37 = 2 ∧ (∃ b40, (rO ν33.2 b37 6) = some b40 ∧ (rc ν33.2 b40 = 7 ∧ (xw_J2_get b40 x1 ν33 (fun r43 ν42 => (∃ b45, r43 = some b45 ∧ ((rc ν42.2 b45 = 9) ∧ (rc ν42.2 b45 = 9 ∧ (xok 1 (xft x0 5) ∧ (vp_in x1 (xlen (xft x0 5)) ∧ (∀ ν49, ν49 = (sA ν42.1 (xft x0 5) (Int32.toNatClampNeg x1) (rI ν42.2 b45 2), ν42.2) → (∃ b53, fR ν49.1 0 0 = .ref b53 ∧ (rc ν49.2 b53 = 2 ∧ (∃ b56, (rO ν49.2 b53 6) = some b56 ∧ (rc ν49.2 b56 = 7 ∧ (xw_J2_get b56 x1 ν49 (fun r59 ν58 => (∃ b61, r59 = some b61 ∧ ((rc ν58.2 b61 = 9) ∧ (rc ν58.2 b61 = 9 ∧ (xok 1 (xft x0 6) ∧ (vp_in x1 (xlen (xft x0 6)) ∧ (∀ ν65, ν65 = (sA ν58.1 (xft x0 6) (Int32.toNatClampNeg x1) (rI ν58.2 b61 3), ν58.2) → X44 x0 (x1 + 1) ν65))))))))))))))))))))))))))))))))))))))))) → X44 x0 x1 ν) → X44 x0 x1 ν
theorem xt_X5_begins_44 {κ : Cx} {S : Adr} {A : Nat → Prop} {Z : State → Prop} {Q : XN → Prop} (h : XCx κ cX5_begins RX5 S A 4 0 0) (hT : (cxT κ).sig.returnType = none) (hN : (cxT κ).name = "begins") (hR : xRet κ S A 0 0 Z cX5_begins (pV Q)) {x0 : Nat} {x1 : Int32} {ν : XN} (hw : xw_X5_begins_44 x0 x1 ν Q) : XG κ S A 0 0 Z 44 (ν, 0, 0) [some (.ref (S.2.1 x0)), some (.int x1)] [] := by
  refine hw (fun x0 x1 ν => XG κ S A 0 0 Z 44 (ν, 0, 0) [some (.ref (S.2.1 x0)), some (.int x1)] []) ?_
  clear hw
  intro x0 x1 ν hw
  have hX44 : ∀ (x0 : Nat) (x1 : Int32) (ν : XN), XG κ S A 0 0 Z 44 (ν, 0, 0) [some (.ref (S.2.1 x0)), some (.int x1)] [] → XG κ S A 0 0 Z 44 (ν, 0, 0) [some (.ref (S.2.1 x0)), some (.int x1)] [] := fun _ _ _ hh => hh
  refine g_iload_1 44 h.1 dX5_begins_44 ?_
  refine g_aload_0 45 h.1 dX5_begins_45 ?_
  obtain ⟨f18, hw⟩ := hw
  refine xg_X5_3_5 46 f18 h dX5_begins_46 ?_
  rw [xft_this f18]
  refine xcVN_I_0 49 h (xm_X0_people h.2.2.1 hw) (by decide) (Nat.le_of_eq (Nat.zero_add _)) (Nat.le_of_eq (Nat.zero_add _)) q1284 qs38 (fun H hI => x_recvK h rfl rfl hI) q1282 (Nat.le_of_ble_eq_true rfl) dX5_begins_49 (fun r20 ν19 hw => ?_)
  refine g_icmp_ge 52 145 h.1 dX5_begins_52 (by decide) (fun c => ?_) (fun c => ?_)
  · have hw := hw.1 c
    exact hR.2.2.1 145 _ _ _ _ hT dX5_begins_145 ⟨rfl, hw⟩
  · have hw := hw.2 c
    refine g_aload_0 55 h.1 dX5_begins_55 ?_
    refine xg_X5_19_5 56 f18 h dX5_begins_56 ?_
    refine g_iload_1 59 h.1 dX5_begins_59 ?_
    refine g_aload_0 60 h.1 dX5_begins_60 ?_
    refine xg_X5_3_5 61 f18 h dX5_begins_61 ?_
    rw [xft_this f18]
    refine xg_X5_40_0 64 h dX5_begins_64 ?_
    obtain ⟨b21, e22, hw⟩ := hw
    rw [e22]
    obtain ⟨f23, hw⟩ := hw
    refine xg_X5_51_1 67 f23 h dX5_begins_67 ?_
    refine g_iload_1 70 h.1 dX5_begins_70 ?_
    obtain ⟨b24, e25, hw⟩ := hw
    rw [e25]
    obtain ⟨f28, hw⟩ := hw
    refine xcF_O_1 71 h h.2.1.2.2.1.2.1 (xm_J2_get h.2.2.1 hw) (by decide) (Nat.le_of_eq (Nat.zero_add _)) (Nat.le_of_eq (Nat.zero_add _)) ⟨by decide, by decide, by show _ = some 1; decide +kernel⟩ q835 q833 f28 q1289 (Nat.le_of_ble_eq_true rfl) dX5_begins_71 (fun r27 ν26 hw => ?_)
    obtain ⟨b29, e30, hw⟩ := hw
    rw [e30]
    obtain ⟨f31, hw⟩ := hw
    refine xcs_X5_60 76 f31 h dX5_begins_76 ?_
    obtain ⟨f32, hw⟩ := hw
    refine xg_X5_62_8 79 f32 h dX5_begins_79 ?_
    obtain ⟨f35, hw⟩ := hw
    obtain ⟨f36, hw⟩ := hw
    refine xa_iast 82 f35 f36 h dX5_begins_82 (fun ν33 e34 => ?_)
    have hw := hw ν33 e34
    refine g_aload_0 83 h.1 dX5_begins_83 ?_
    refine xg_X5_22_5 84 f18 h dX5_begins_84 ?_
    refine g_iload_1 87 h.1 dX5_begins_87 ?_
    refine g_aload_0 88 h.1 dX5_begins_88 ?_
    refine xg_X5_3_5 89 f18 h dX5_begins_89 ?_
    rw [xft_this f18]
    refine xg_X5_40_0 92 h dX5_begins_92 ?_
    obtain ⟨b37, e38, hw⟩ := hw
    rw [e38]
    obtain ⟨f39, hw⟩ := hw
    refine xg_X5_51_1 95 f39 h dX5_begins_95 ?_
    refine g_iload_1 98 h.1 dX5_begins_98 ?_
    obtain ⟨b40, e41, hw⟩ := hw
    rw [e41]
    obtain ⟨f44, hw⟩ := hw
    refine xcF_O_1 99 h h.2.1.2.2.1.2.1 (xm_J2_get h.2.2.1 hw) (by decide) (Nat.le_of_eq (Nat.zero_add _)) (Nat.le_of_eq (Nat.zero_add _)) ⟨by decide, by decide, by show _ = some 1; decide +kernel⟩ q835 q833 f44 q1289 (Nat.le_of_ble_eq_true rfl) dX5_begins_99 (fun r43 ν42 hw => ?_)
    obtain ⟨b45, e46, hw⟩ := hw
    rw [e46]
    obtain ⟨f47, hw⟩ := hw
    refine xcs_X5_60 104 f47 h dX5_begins_104 ?_
    obtain ⟨f48, hw⟩ := hw
    refine xg_X5_65_8 107 f48 h dX5_begins_107 ?_
    obtain ⟨f51, hw⟩ := hw
    obtain ⟨f52, hw⟩ := hw
    refine xa_iast 110 f51 f52 h dX5_begins_110 (fun ν49 e50 => ?_)
    have hw := hw ν49 e50
    refine g_aload_0 111 h.1 dX5_begins_111 ?_
    refine xg_X5_25_5 112 f18 h dX5_begins_112 ?_
    refine g_iload_1 115 h.1 dX5_begins_115 ?_
    refine g_aload_0 116 h.1 dX5_begins_116 ?_
    refine xg_X5_3_5 117 f18 h dX5_begins_117 ?_
    rw [xft_this f18]
    refine xg_X5_40_0 120 h dX5_begins_120 ?_
    obtain ⟨b53, e54, hw⟩ := hw
    rw [e54]
    obtain ⟨f55, hw⟩ := hw
    refine xg_X5_51_1 123 f55 h dX5_begins_123 ?_
    refine g_iload_1 126 h.1 dX5_begins_126 ?_
    obtain ⟨b56, e57, hw⟩ := hw
    rw [e57]
    obtain ⟨f60, hw⟩ := hw
    refine xcF_O_1 127 h h.2.1.2.2.1.2.1 (xm_J2_get h.2.2.1 hw) (by decide) (Nat.le_of_eq (Nat.zero_add _)) (Nat.le_of_eq (Nat.zero_add _)) ⟨by decide, by decide, by show _ = some 1; decide +kernel⟩ q835 q833 f60 q1289 (Nat.le_of_ble_eq_true rfl) dX5_begins_127 (fun r59 ν58 hw => ?_)
    obtain ⟨b61, e62, hw⟩ := hw
    rw [e62]
    obtain ⟨f63, hw⟩ := hw
    refine xcs_X5_60 132 f63 h dX5_begins_132 ?_
    obtain ⟨f64, hw⟩ := hw
    refine xg_X5_67_8 135 f64 h dX5_begins_135 ?_
    obtain ⟨f67, hw⟩ := hw
    obtain ⟨f68, hw⟩ := hw
    refine xa_iast 138 f67 f68 h dX5_begins_138 (fun ν65 e66 => ?_)
    have hw := hw ν65 e66
    refine g_iinc_1 139 (x1 + 1) (congrArg _ ic_1) h.1 rfl dX5_begins_139 ?_
    refine g_goto 142 44 h.1 dX5_begins_142 (by decide) ?_
    exact g_le (hX44 _ _ _ hw) ⟨rfl, rfl, trivial⟩
def xw_X5_begins_12 (x0 : Nat) (x1 : Int32) (ν : XN) (Q : XN → Prop) : Prop :=
  ∀ X12 : Nat → Int32 → XN → Prop, (∀ (x0 : Nat) (x1 : Int32) (ν : XN), (((64 : Int32) ≤ x1 → xw_X5_begins_44 x0 (0 : Int32) ν Q) ∧ (¬ (64 : Int32) ≤ x1 → (xoc x0 = 5 ∧ (∃ b7, fR ν.1 0 0 = .ref b7 ∧ (rc ν.2 b7 = 2 ∧ (∃ b10, (rO ν.2 b7 4) = some b10 ∧ (rc ν.2 b10 = 101 ∧ (vp_in x1 (rn ν.2 b10) ∧ (xok 1 (xft x0 3) ∧ (vp_in x1 (xlen (xft x0 3)) ∧ (∀ ν14, ν14 = (sA ν.1 (xft x0 3) (Int32.toNatClampNeg x1) (rI ν.2 b10 (Int32.toNatClampNeg x1)), ν.2) → X12 x0 (x1 + 1) ν14))))))))))) → X12 x0 x1 ν) → X12 x0 x1 ν
theorem xt_X5_begins_12 {κ : Cx} {S : Adr} {A : Nat → Prop} {Z : State → Prop} {Q : XN → Prop} (h : XCx κ cX5_begins RX5 S A 4 0 0) (hT : (cxT κ).sig.returnType = none) (hN : (cxT κ).name = "begins") (hR : xRet κ S A 0 0 Z cX5_begins (pV Q)) {x0 : Nat} {x1 : Int32} {ν : XN} (hw : xw_X5_begins_12 x0 x1 ν Q) : XG κ S A 0 0 Z 12 (ν, 0, 0) [some (.ref (S.2.1 x0)), some (.int x1)] [] := by
  refine hw (fun x0 x1 ν => XG κ S A 0 0 Z 12 (ν, 0, 0) [some (.ref (S.2.1 x0)), some (.int x1)] []) ?_
  clear hw
  intro x0 x1 ν hw
  have hX12 : ∀ (x0 : Nat) (x1 : Int32) (ν : XN), XG κ S A 0 0 Z 12 (ν, 0, 0) [some (.ref (S.2.1 x0)), some (.int x1)] [] → XG κ S A 0 0 Z 12 (ν, 0, 0) [some (.ref (S.2.1 x0)), some (.int x1)] [] := fun _ _ _ hh => hh
  refine g_iload_1 12 h.1 dX5_begins_12 ?_
  refine g_bipush 13 _ bp_64 h.1 dX5_begins_13 ?_
  refine g_icmp_ge 15 42 h.1 dX5_begins_15 (by decide) (fun c => ?_) (fun c => ?_)
  · have hw := hw.1 c
    refine g_iconstv 42 _ ic_0 h.1 dX5_begins_42 ?_
    refine g_istore_1 43 h.1 rfl dX5_begins_43 ?_
    exact g_le (xt_X5_begins_44 h hT hN hR hw) ⟨rfl, rfl, trivial⟩
  · have hw := hw.2 c
    refine g_aload_0 18 h.1 dX5_begins_18 ?_
    obtain ⟨f6, hw⟩ := hw
    refine xg_X5_15_5 19 f6 h dX5_begins_19 ?_
    refine g_iload_1 22 h.1 dX5_begins_22 ?_
    refine g_aload_0 23 h.1 dX5_begins_23 ?_
    refine xg_X5_3_5 24 f6 h dX5_begins_24 ?_
    rw [xft_this f6]
    refine xg_X5_40_0 27 h dX5_begins_27 ?_
    obtain ⟨b7, e8, hw⟩ := hw
    rw [e8]
    obtain ⟨f9, hw⟩ := hw
    refine xg_X5_44_1 30 f9 h dX5_begins_30 ?_
    refine g_iload_1 33 h.1 dX5_begins_33 ?_
    obtain ⟨b10, e11, hw⟩ := hw
    rw [e11]
    obtain ⟨f12, hw⟩ := hw
    obtain ⟨f13, hw⟩ := hw
    refine ra_iald 34 f12 f13 h dX5_begins_34 ?_
    obtain ⟨f16, hw⟩ := hw
    obtain ⟨f17, hw⟩ := hw
    refine xa_iast 35 f16 f17 h dX5_begins_35 (fun ν14 e15 => ?_)
    have hw := hw ν14 e15
    refine g_iinc_1 36 (x1 + 1) (congrArg _ ic_1) h.1 rfl dX5_begins_36 ?_
    refine g_goto 39 12 h.1 dX5_begins_39 (by decide) ?_
    exact g_le (hX12 _ _ _ hw) ⟨rfl, rfl, trivial⟩
def xw_X5_begins (x0 : Nat) (ν : XN) (Q : XN → Prop) : Prop :=
  (xoc x0 = 5 ∧ (∀ ν1, ν1 = (sI ν.1 x0 0 (0 : Int32), ν.2) → (∀ ν4, ν4 = (sI ν1.1 x0 1 (0 : Int32), ν1.2) → xw_X5_begins_12 x0 (0 : Int32) ν4 Q)))
theorem xt_X5_begins {κ : Cx} {S : Adr} {A : Nat → Prop} {Z : State → Prop} {Q : XN → Prop} (h : XCx κ cX5_begins RX5 S A 4 0 0) (hT : (cxT κ).sig.returnType = none) (hN : (cxT κ).name = "begins") (hR : xRet κ S A 0 0 Z cX5_begins (pV Q)) {x0 : Nat} {ν : XN} (hw : xw_X5_begins x0 ν Q) : XG κ S A 0 0 Z 0 (ν, 0, 0) [some (.ref (S.2.1 x0)), none] [] := by
  unfold xw_X5_begins at hw
  refine g_aload_0 0 h.1 dX5_begins_0 ?_
  refine g_iconstv 1 _ ic_0 h.1 dX5_begins_1 ?_
  obtain ⟨f3, hw⟩ := hw
  refine xp_X5_33_5 2 f3 h dX5_begins_2 (fun ν1 e2 => ?_)
  have hw := hw ν1 e2
  refine g_aload_0 5 h.1 dX5_begins_5 ?_
  refine g_iconstv 6 _ ic_0 h.1 dX5_begins_6 ?_
  refine xp_X5_37_5 7 f3 h dX5_begins_7 (fun ν4 e5 => ?_)
  have hw := hw ν4 e5
  refine g_iconstv 10 _ ic_0 h.1 dX5_begins_10 ?_
  refine g_istore_1 11 h.1 rfl dX5_begins_11 ?_
  exact g_le (xt_X5_begins_12 h hT hN hR hw) ⟨rfl, rfl, trivial⟩
theorem xm_X5_begins {l : Launch} {S : Adr} {A : Nat → Prop} (hD : FD xT S xcl A) {x0 : Nat} {ν : XN} {Q : XN → Prop} (hw : xw_X5_begins x0 ν Q) : xMet l S A 4 0 0 0 yX5_begins [.ref (S.2.1 x0)] ν (pV Q) :=
  x_met (plainFor_of_name (by decide)) hD ⟨⟨by decide, by decide, by show _ = some 0; decide +kernel⟩, by decide, q1281, q182⟩ (Nat.le_of_ble_eq_true rfl) (fun κ Z h hT hN hR => xt_X5_begins h hT hN hR hw)
def xw_X5_copy_109 (X99 : Nat → Nat → Int32 → XN → Prop) (x0 : Nat) (x1 : Nat) (x2 : Int32) (x3 : Int32) (ν : XN) (Q : Nat → XN → Prop) : Prop :=
  ∀ X109 : Nat → Nat → Int32 → Int32 → XN → Prop, (∀ (x0 : Nat) (x1 : Nat) (x2 : Int32) (x3 : Int32) (ν : XN), (((4 : Int32) ≤ x3 → X99 x0 x1 (x2 + 1) ν) ∧ (¬ (4 : Int32) ≤ x3 → (xoc x0 = 5 ∧ (xok 7 (xft x0 7) ∧ (vp_in x2 (xlen (xft x0 7)) ∧ (xoc x1 = 5 ∧ (xok 7 (xft x1 7) ∧ (vp_in x2 (xlen (xft x1 7)) ∧ (xok 1 (fP ν.1 (xft x1 7) (Int32.toNatClampNeg x2)) ∧ (vp_in x3 (xlen (fP ν.1 (xft x1 7) (Int32.toNatClampNeg x2))) ∧ (xok 1 (fP ν.1 (xft x0 7) (Int32.toNatClampNeg x2)) ∧ (vp_in x3 (xlen (fP ν.1 (xft x0 7) (Int32.toNatClampNeg x2))) ∧ (∀ ν46, ν46 = (sA ν.1 (fP ν.1 (xft x0 7) (Int32.toNatClampNeg x2)) (Int32.toNatClampNeg x3) (fA ν.1 (fP ν.1 (xft x1 7) (Int32.toNatClampNeg x2)) (Int32.toNatClampNeg x3)), ν.2) → X109 x0 x1 x2 (x3 + 1) ν46))))))))))))) → X109 x0 x1 x2 x3 ν) → X109 x0 x1 x2 x3 ν
theorem xt_X5_copy_109 {κ : Cx} {S : Adr} {A : Nat → Prop} {Z : State → Prop} {Q : Nat → XN → Prop} (h : XCx κ cX5_copy RX5 S A 1 0 0) (hT : (cxT κ).sig.returnType = some (.object "ShrugHills$State")) (hN : (cxT κ).name = "copy") (hR : xRet κ S A 0 0 Z cX5_copy (pK S Q)) {X99 : Nat → Nat → Int32 → XN → Prop} (hX99 : ∀ (x0 : Nat) (x1 : Nat) (x2 : Int32) (ν : XN), X99 x0 x1 x2 ν → XG κ S A 0 0 Z 99 (ν, 0, 0) [some (.ref (S.2.1 x0)), some (.ref (S.2.1 x1)), some (.int x2), none] []) {x0 : Nat} {x1 : Nat} {x2 : Int32} {x3 : Int32} {ν : XN} (hw : xw_X5_copy_109 X99 x0 x1 x2 x3 ν Q) : XG κ S A 0 0 Z 109 (ν, 0, 0) [some (.ref (S.2.1 x0)), some (.ref (S.2.1 x1)), some (.int x2), some (.int x3)] [] := by
  refine hw (fun x0 x1 x2 x3 ν => XG κ S A 0 0 Z 109 (ν, 0, 0) [some (.ref (S.2.1 x0)), some (.ref (S.2.1 x1)), some (.int x2), some (.int x3)] []) ?_
  clear hw
  intro x0 x1 x2 x3 ν hw
  have hX109 : ∀ (x0 : Nat) (x1 : Nat) (x2 : Int32) (x3 : Int32) (ν : XN), XG κ S A 0 0 Z 109 (ν, 0, 0) [some (.ref (S.2.1 x0)), some (.ref (S.2.1 x1)), some (.int x2), some (.int x3)] [] → XG κ S A 0 0 Z 109 (ν, 0, 0) [some (.ref (S.2.1 x0)), some (.ref (S.2.1 x1)), some (.int x2), some (.int x3)] [] := fun _ _ _ _ _ hh => hh
  refine g_iload_3 109 h.1 dX5_copy_109 ?_
  refine g_iconstv 110 _ ic_4 h.1 dX5_copy_110 ?_
  refine g_icmp_ge 111 136 h.1 dX5_copy_111 (by decide) (fun c => ?_) (fun c => ?_)
  · have hw := hw.1 c
    refine g_iinc_2 136 (x2 + 1) (congrArg _ ic_1) h.1 rfl dX5_copy_136 ?_
    refine g_goto 139 99 h.1 dX5_copy_139 (by decide) ?_
    exact g_le (hX99 _ _ _ _ hw) ⟨rfl, rfl, rfl, trivial⟩
  · have hw := hw.2 c
    refine g_aload_0 114 h.1 dX5_copy_114 ?_
    obtain ⟨f38, hw⟩ := hw
    refine xg_X5_30_5 115 f38 h dX5_copy_115 ?_
    refine g_iload_2 118 h.1 dX5_copy_118 ?_
    obtain ⟨f39, hw⟩ := hw
    obtain ⟨f40, hw⟩ := hw
    refine xa_aald7 119 f39 f40 h dX5_copy_119 ?_
    refine g_iload_3 120 h.1 dX5_copy_120 ?_
    refine g_aload_1 121 h.1 dX5_copy_121 ?_
    obtain ⟨f41, hw⟩ := hw
    refine xg_X5_30_5 122 f41 h dX5_copy_122 ?_
    refine g_iload_2 125 h.1 dX5_copy_125 ?_
    obtain ⟨f42, hw⟩ := hw
    obtain ⟨f43, hw⟩ := hw
    refine xa_aald7 126 f42 f43 h dX5_copy_126 ?_
    refine g_iload_3 127 h.1 dX5_copy_127 ?_
    obtain ⟨f44, hw⟩ := hw
    obtain ⟨f45, hw⟩ := hw
    refine xa_iald 128 f44 f45 h dX5_copy_128 ?_
    obtain ⟨f48, hw⟩ := hw
    obtain ⟨f49, hw⟩ := hw
    refine xa_iast 129 f48 f49 h dX5_copy_129 (fun ν46 e47 => ?_)
    have hw := hw ν46 e47
    refine g_iinc_3 130 (x3 + 1) (congrArg _ ic_1) h.1 rfl dX5_copy_130 ?_
    refine g_goto 133 109 h.1 dX5_copy_133 (by decide) ?_
    exact g_le (hX109 _ _ _ _ _ hw) ⟨rfl, rfl, rfl, rfl, trivial⟩
def xw_X5_copy_99 (x0 : Nat) (x1 : Nat) (x2 : Int32) (ν : XN) (Q : Nat → XN → Prop) : Prop :=
  ∀ X99 : Nat → Nat → Int32 → XN → Prop, (∀ (x0 : Nat) (x1 : Nat) (x2 : Int32) (ν : XN), (xoc x0 = 5 ∧ (((fI ν.1 x0 1) ≤ x2 → Q x0 ν) ∧ (¬ (fI ν.1 x0 1) ≤ x2 → xw_X5_copy_109 X99 x0 x1 x2 (0 : Int32) ν Q))) → X99 x0 x1 x2 ν) → X99 x0 x1 x2 ν
theorem xt_X5_copy_99 {κ : Cx} {S : Adr} {A : Nat → Prop} {Z : State → Prop} {Q : Nat → XN → Prop} (h : XCx κ cX5_copy RX5 S A 1 0 0) (hT : (cxT κ).sig.returnType = some (.object "ShrugHills$State")) (hN : (cxT κ).name = "copy") (hR : xRet κ S A 0 0 Z cX5_copy (pK S Q)) {x0 : Nat} {x1 : Nat} {x2 : Int32} {ν : XN} (hw : xw_X5_copy_99 x0 x1 x2 ν Q) : XG κ S A 0 0 Z 99 (ν, 0, 0) [some (.ref (S.2.1 x0)), some (.ref (S.2.1 x1)), some (.int x2), none] [] := by
  refine hw (fun x0 x1 x2 ν => XG κ S A 0 0 Z 99 (ν, 0, 0) [some (.ref (S.2.1 x0)), some (.ref (S.2.1 x1)), some (.int x2), none] []) ?_
  clear hw
  intro x0 x1 x2 ν hw
  have hX99 : ∀ (x0 : Nat) (x1 : Nat) (x2 : Int32) (ν : XN), XG κ S A 0 0 Z 99 (ν, 0, 0) [some (.ref (S.2.1 x0)), some (.ref (S.2.1 x1)), some (.int x2), none] [] → XG κ S A 0 0 Z 99 (ν, 0, 0) [some (.ref (S.2.1 x0)), some (.ref (S.2.1 x1)), some (.int x2), none] [] := fun _ _ _ _ hh => hh
  refine g_iload_2 99 h.1 dX5_copy_99 ?_
  refine g_aload_0 100 h.1 dX5_copy_100 ?_
  obtain ⟨f37, hw⟩ := hw
  refine xg_X5_37_5 101 f37 h dX5_copy_101 ?_
  refine g_icmp_ge 104 142 h.1 dX5_copy_104 (by decide) (fun c => ?_) (fun c => ?_)
  · have hw := hw.1 c
    refine g_aload_0 142 h.1 dX5_copy_142 ?_
    exact hR.2.2.2 143 (some (S.2.1 x0)) _ _ _ _ _ hT (by first | exact Or.inl ⟨_, rfl⟩ | exact Or.inr ⟨_, rfl⟩) dX5_copy_143 ⟨_, rfl, hw⟩
  · have hw := hw.2 c
    refine g_iconstv 107 _ ic_0 h.1 dX5_copy_107 ?_
    refine g_istore_3 108 h.1 rfl dX5_copy_108 ?_
    exact g_le (xt_X5_copy_109 h hT hN hR hX99 hw) ⟨rfl, rfl, rfl, rfl, trivial⟩
def xw_X5_copy_49 (x0 : Nat) (x1 : Nat) (x2 : Int32) (ν : XN) (Q : Nat → XN → Prop) : Prop :=
  ∀ X49 : Nat → Nat → Int32 → XN → Prop, (∀ (x0 : Nat) (x1 : Nat) (x2 : Int32) (ν : XN), (((7 : Int32) ≤ x2 → xw_X5_copy_99 x0 x1 (0 : Int32) ν Q) ∧ (¬ (7 : Int32) ≤ x2 → (xoc x0 = 5 ∧ (xoc x1 = 5 ∧ (xok 1 (xft x1 4) ∧ (vp_in x2 (xlen (xft x1 4)) ∧ (xok 1 (xft x0 4) ∧ (vp_in x2 (xlen (xft x0 4)) ∧ (∀ ν21, ν21 = (sA ν.1 (xft x0 4) (Int32.toNatClampNeg x2) (fA ν.1 (xft x1 4) (Int32.toNatClampNeg x2)), ν.2) → (xok 1 (xft x1 5) ∧ (vp_in x2 (xlen (xft x1 5)) ∧ (xok 1 (xft x0 5) ∧ (vp_in x2 (xlen (xft x0 5)) ∧ (∀ ν27, ν27 = (sA ν21.1 (xft x0 5) (Int32.toNatClampNeg x2) (fA ν21.1 (xft x1 5) (Int32.toNatClampNeg x2)), ν21.2) → (xok 1 (xft x1 6) ∧ (vp_in x2 (xlen (xft x1 6)) ∧ (xok 1 (xft x0 6) ∧ (vp_in x2 (xlen (xft x0 6)) ∧ (∀ ν33, ν33 = (sA ν27.1 (xft x0 6) (Int32.toNatClampNeg x2) (fA ν27.1 (xft x1 6) (Int32.toNatClampNeg x2)), ν27.2) → X49 x0 x1 (x2 + 1) ν33))))))))))))))))))) → X49 x0 x1 x2 ν) → X49 x0 x1 x2 ν
theorem xt_X5_copy_49 {κ : Cx} {S : Adr} {A : Nat → Prop} {Z : State → Prop} {Q : Nat → XN → Prop} (h : XCx κ cX5_copy RX5 S A 1 0 0) (hT : (cxT κ).sig.returnType = some (.object "ShrugHills$State")) (hN : (cxT κ).name = "copy") (hR : xRet κ S A 0 0 Z cX5_copy (pK S Q)) {x0 : Nat} {x1 : Nat} {x2 : Int32} {ν : XN} (hw : xw_X5_copy_49 x0 x1 x2 ν Q) : XG κ S A 0 0 Z 49 (ν, 0, 0) [some (.ref (S.2.1 x0)), some (.ref (S.2.1 x1)), some (.int x2), none] [] := by
  refine hw (fun x0 x1 x2 ν => XG κ S A 0 0 Z 49 (ν, 0, 0) [some (.ref (S.2.1 x0)), some (.ref (S.2.1 x1)), some (.int x2), none] []) ?_
  clear hw
  intro x0 x1 x2 ν hw
  have hX49 : ∀ (x0 : Nat) (x1 : Nat) (x2 : Int32) (ν : XN), XG κ S A 0 0 Z 49 (ν, 0, 0) [some (.ref (S.2.1 x0)), some (.ref (S.2.1 x1)), some (.int x2), none] [] → XG κ S A 0 0 Z 49 (ν, 0, 0) [some (.ref (S.2.1 x0)), some (.ref (S.2.1 x1)), some (.int x2), none] [] := fun _ _ _ _ hh => hh
  refine g_iload_2 49 h.1 dX5_copy_49 ?_
  refine g_bipush 50 _ bp_7 h.1 dX5_copy_50 ?_
  refine g_icmp_ge 52 97 h.1 dX5_copy_52 (by decide) (fun c => ?_) (fun c => ?_)
  · have hw := hw.1 c
    refine g_iconstv 97 _ ic_0 h.1 dX5_copy_97 ?_
    refine g_istore_2 98 h.1 rfl dX5_copy_98 ?_
    exact g_le (xt_X5_copy_99 h hT hN hR hw) ⟨rfl, rfl, rfl, trivial⟩
  · have hw := hw.2 c
    refine g_aload_0 55 h.1 dX5_copy_55 ?_
    obtain ⟨f17, hw⟩ := hw
    refine xg_X5_19_5 56 f17 h dX5_copy_56 ?_
    refine g_iload_2 59 h.1 dX5_copy_59 ?_
    refine g_aload_1 60 h.1 dX5_copy_60 ?_
    obtain ⟨f18, hw⟩ := hw
    refine xg_X5_19_5 61 f18 h dX5_copy_61 ?_
    refine g_iload_2 64 h.1 dX5_copy_64 ?_
    obtain ⟨f19, hw⟩ := hw
    obtain ⟨f20, hw⟩ := hw
    refine xa_iald 65 f19 f20 h dX5_copy_65 ?_
    obtain ⟨f23, hw⟩ := hw
    obtain ⟨f24, hw⟩ := hw
    refine xa_iast 66 f23 f24 h dX5_copy_66 (fun ν21 e22 => ?_)
    have hw := hw ν21 e22
    refine g_aload_0 67 h.1 dX5_copy_67 ?_
    refine xg_X5_22_5 68 f17 h dX5_copy_68 ?_
    refine g_iload_2 71 h.1 dX5_copy_71 ?_
    refine g_aload_1 72 h.1 dX5_copy_72 ?_
    refine xg_X5_22_5 73 f18 h dX5_copy_73 ?_
    refine g_iload_2 76 h.1 dX5_copy_76 ?_
    obtain ⟨f25, hw⟩ := hw
    obtain ⟨f26, hw⟩ := hw
    refine xa_iald 77 f25 f26 h dX5_copy_77 ?_
    obtain ⟨f29, hw⟩ := hw
    obtain ⟨f30, hw⟩ := hw
    refine xa_iast 78 f29 f30 h dX5_copy_78 (fun ν27 e28 => ?_)
    have hw := hw ν27 e28
    refine g_aload_0 79 h.1 dX5_copy_79 ?_
    refine xg_X5_25_5 80 f17 h dX5_copy_80 ?_
    refine g_iload_2 83 h.1 dX5_copy_83 ?_
    refine g_aload_1 84 h.1 dX5_copy_84 ?_
    refine xg_X5_25_5 85 f18 h dX5_copy_85 ?_
    refine g_iload_2 88 h.1 dX5_copy_88 ?_
    obtain ⟨f31, hw⟩ := hw
    obtain ⟨f32, hw⟩ := hw
    refine xa_iald 89 f31 f32 h dX5_copy_89 ?_
    obtain ⟨f35, hw⟩ := hw
    obtain ⟨f36, hw⟩ := hw
    refine xa_iast 90 f35 f36 h dX5_copy_90 (fun ν33 e34 => ?_)
    have hw := hw ν33 e34
    refine g_iinc_2 91 (x2 + 1) (congrArg _ ic_1) h.1 rfl dX5_copy_91 ?_
    refine g_goto 94 49 h.1 dX5_copy_94 (by decide) ?_
    exact g_le (hX49 _ _ _ _ hw) ⟨rfl, rfl, rfl, trivial⟩
def xw_X5_copy_23 (x0 : Nat) (x1 : Nat) (x2 : Int32) (ν : XN) (Q : Nat → XN → Prop) : Prop :=
  ∀ X23 : Nat → Nat → Int32 → XN → Prop, (∀ (x0 : Nat) (x1 : Nat) (x2 : Int32) (ν : XN), (((64 : Int32) ≤ x2 → xw_X5_copy_49 x0 x1 (0 : Int32) ν Q) ∧ (¬ (64 : Int32) ≤ x2 → (xoc x0 = 5 ∧ (xoc x1 = 5 ∧ (xok 1 (xft x1 3) ∧ (vp_in x2 (xlen (xft x1 3)) ∧ (xok 1 (xft x0 3) ∧ (vp_in x2 (xlen (xft x0 3)) ∧ (∀ ν13, ν13 = (sA ν.1 (xft x0 3) (Int32.toNatClampNeg x2) (fA ν.1 (xft x1 3) (Int32.toNatClampNeg x2)), ν.2) → X23 x0 x1 (x2 + 1) ν13))))))))) → X23 x0 x1 x2 ν) → X23 x0 x1 x2 ν
theorem xt_X5_copy_23 {κ : Cx} {S : Adr} {A : Nat → Prop} {Z : State → Prop} {Q : Nat → XN → Prop} (h : XCx κ cX5_copy RX5 S A 1 0 0) (hT : (cxT κ).sig.returnType = some (.object "ShrugHills$State")) (hN : (cxT κ).name = "copy") (hR : xRet κ S A 0 0 Z cX5_copy (pK S Q)) {x0 : Nat} {x1 : Nat} {x2 : Int32} {ν : XN} (hw : xw_X5_copy_23 x0 x1 x2 ν Q) : XG κ S A 0 0 Z 23 (ν, 0, 0) [some (.ref (S.2.1 x0)), some (.ref (S.2.1 x1)), some (.int x2), none] [] := by
  refine hw (fun x0 x1 x2 ν => XG κ S A 0 0 Z 23 (ν, 0, 0) [some (.ref (S.2.1 x0)), some (.ref (S.2.1 x1)), some (.int x2), none] []) ?_
  clear hw
  intro x0 x1 x2 ν hw
  have hX23 : ∀ (x0 : Nat) (x1 : Nat) (x2 : Int32) (ν : XN), XG κ S A 0 0 Z 23 (ν, 0, 0) [some (.ref (S.2.1 x0)), some (.ref (S.2.1 x1)), some (.int x2), none] [] → XG κ S A 0 0 Z 23 (ν, 0, 0) [some (.ref (S.2.1 x0)), some (.ref (S.2.1 x1)), some (.int x2), none] [] := fun _ _ _ _ hh => hh
  refine g_iload_2 23 h.1 dX5_copy_23 ?_
  refine g_bipush 24 _ bp_64 h.1 dX5_copy_24 ?_
  refine g_icmp_ge 26 47 h.1 dX5_copy_26 (by decide) (fun c => ?_) (fun c => ?_)
  · have hw := hw.1 c
    refine g_iconstv 47 _ ic_0 h.1 dX5_copy_47 ?_
    refine g_istore_2 48 h.1 rfl dX5_copy_48 ?_
    exact g_le (xt_X5_copy_49 h hT hN hR hw) ⟨rfl, rfl, rfl, trivial⟩
  · have hw := hw.2 c
    refine g_aload_0 29 h.1 dX5_copy_29 ?_
    obtain ⟨f9, hw⟩ := hw
    refine xg_X5_15_5 30 f9 h dX5_copy_30 ?_
    refine g_iload_2 33 h.1 dX5_copy_33 ?_
    refine g_aload_1 34 h.1 dX5_copy_34 ?_
    obtain ⟨f10, hw⟩ := hw
    refine xg_X5_15_5 35 f10 h dX5_copy_35 ?_
    refine g_iload_2 38 h.1 dX5_copy_38 ?_
    obtain ⟨f11, hw⟩ := hw
    obtain ⟨f12, hw⟩ := hw
    refine xa_iald 39 f11 f12 h dX5_copy_39 ?_
    obtain ⟨f15, hw⟩ := hw
    obtain ⟨f16, hw⟩ := hw
    refine xa_iast 40 f15 f16 h dX5_copy_40 (fun ν13 e14 => ?_)
    have hw := hw ν13 e14
    refine g_iinc_2 41 (x2 + 1) (congrArg _ ic_1) h.1 rfl dX5_copy_41 ?_
    refine g_goto 44 23 h.1 dX5_copy_44 (by decide) ?_
    exact g_le (hX23 _ _ _ _ hw) ⟨rfl, rfl, rfl, trivial⟩
def xw_X5_copy (x0 : Nat) (x1 : Nat) (ν : XN) (Q : Nat → XN → Prop) : Prop :=
  (xoc x1 = 5 ∧ (xoc x0 = 5 ∧ (∀ ν2, ν2 = (sI ν.1 x0 0 (fI ν.1 x1 0), ν.2) → (∀ ν5, ν5 = (sI ν2.1 x0 1 (fI ν2.1 x1 1), ν2.2) → (∀ ν7, ν7 = (sI ν5.1 x0 2 (0 : Int32), ν5.2) → xw_X5_copy_23 x0 x1 (0 : Int32) ν7 Q)))))
theorem xt_X5_copy {κ : Cx} {S : Adr} {A : Nat → Prop} {Z : State → Prop} {Q : Nat → XN → Prop} (h : XCx κ cX5_copy RX5 S A 1 0 0) (hT : (cxT κ).sig.returnType = some (.object "ShrugHills$State")) (hN : (cxT κ).name = "copy") (hR : xRet κ S A 0 0 Z cX5_copy (pK S Q)) {x0 : Nat} {x1 : Nat} {ν : XN} (hw : xw_X5_copy x0 x1 ν Q) : XG κ S A 0 0 Z 0 (ν, 0, 0) [some (.ref (S.2.1 x0)), some (.ref (S.2.1 x1)), none, none] [] := by
  unfold xw_X5_copy at hw
  refine g_aload_0 0 h.1 dX5_copy_0 ?_
  refine g_aload_1 1 h.1 dX5_copy_1 ?_
  obtain ⟨f1, hw⟩ := hw
  refine xg_X5_33_5 2 f1 h dX5_copy_2 ?_
  obtain ⟨f4, hw⟩ := hw
  refine xp_X5_33_5 5 f4 h dX5_copy_5 (fun ν2 e3 => ?_)
  have hw := hw ν2 e3
  refine g_aload_0 8 h.1 dX5_copy_8 ?_
  refine g_aload_1 9 h.1 dX5_copy_9 ?_
  refine xg_X5_37_5 10 f1 h dX5_copy_10 ?_
  refine xp_X5_37_5 13 f4 h dX5_copy_13 (fun ν5 e6 => ?_)
  have hw := hw ν5 e6
  refine g_aload_0 16 h.1 dX5_copy_16 ?_
  refine g_iconstv 17 _ ic_0 h.1 dX5_copy_17 ?_
  refine xp_X5_69_5 18 f4 h dX5_copy_18 (fun ν7 e8 => ?_)
  have hw := hw ν7 e8
  refine g_iconstv 21 _ ic_0 h.1 dX5_copy_21 ?_
  refine g_istore_2 22 h.1 rfl dX5_copy_22 ?_
  exact g_le (xt_X5_copy_23 h hT hN hR hw) ⟨rfl, rfl, rfl, trivial⟩
theorem xm_X5_copy {l : Launch} {S : Adr} {A : Nat → Prop} (hD : FD xT S xcl A) {x0 : Nat} {x1 : Nat} {ν : XN} {Q : Nat → XN → Prop} (hw : xw_X5_copy x0 x1 ν Q) : xMet l S A 1 0 0 1 yX5_copy [.ref (S.2.1 x0), .ref (S.2.1 x1)] ν (pK S Q) :=
  x_met (plainFor_of_name (by decide)) hD ⟨⟨by decide, by decide, by show _ = some 1; decide +kernel⟩, by decide, q1438, q182⟩ (Nat.le_of_ble_eq_true rfl) (fun κ Z h hT hN hR => xt_X5_copy h hT hN hR hw)
def xw_X5_passes_81 (VA : Nat → Nat → XN → (Int64 → XN → Prop) → Prop) (TA : Nat → Nat → XN → (Int32 → XN → Prop) → Prop) (x0 : Nat) (x1 : Int32) (ν : XN) (Q : Int32 → XN → Prop) : Prop :=
  (xoc x0 = 5 ∧ (∀ ν35, ν35 = (sI ν.1 x0 0 ((fI ν.1 x0 0) + (1 : Int32)), ν.2) → (narrow .boolean (.int x1) = .int x1 ∧ Q x1 ν35)))
theorem xt_X5_passes_81 {κ : Cx} {S : Adr} {A : Nat → Prop} {Z : State → Prop} {Q : Int32 → XN → Prop} {dV : Nat} {VA : Nat → Nat → XN → (Int64 → XN → Prop) → Prop} {TA : Nat → Nat → XN → (Int32 → XN → Prop) → Prop} (hV : HVT S A dV VA TA) (h : XCx κ cX5_passes RX5 S A (dV + 8) 0 0) (hT : (cxT κ).sig.returnType = some .boolean) (hN : (cxT κ).name = "passes") (hR : xRet κ S A 0 0 Z cX5_passes (pI Q)) {x0 : Nat} {x1 : Int32} {ν : XN} (hw : xw_X5_passes_81 VA TA x0 x1 ν Q) : XG κ S A 0 0 Z 81 (ν, 0, 0) [some (.ref (S.2.1 x0)), some (.int x1), none] [] := by
  unfold xw_X5_passes_81 at hw
  refine g_aload_0 81 h.1 dX5_passes_81 ?_
  refine g_dup 82 rfl h.1 dX5_passes_82 ?_
  obtain ⟨f34, hw⟩ := hw
  refine xg_X5_33_5 83 f34 h dX5_passes_83 ?_
  refine g_iconstv 86 _ ic_1 h.1 dX5_passes_86 ?_
  refine g_iadd 87 h.1 dX5_passes_87 ?_
  refine xp_X5_33_5 88 f34 h dX5_passes_88 (fun ν35 e36 => ?_)
  have hw := hw ν35 e36
  refine g_iload_1 91 h.1 dX5_passes_91 ?_
  obtain ⟨f37, hw⟩ := hw
  exact hR.1 92 _ _ _ _ _ _ hT f37 dX5_passes_92 ⟨_, rfl, hw⟩
def xw_X5_passes_80 (VA : Nat → Nat → XN → (Int64 → XN → Prop) → Prop) (TA : Nat → Nat → XN → (Int32 → XN → Prop) → Prop) (x0 : Nat) (y0 : Int32) (ν : XN) (Q : Int32 → XN → Prop) : Prop :=
  xw_X5_passes_81 VA TA x0 y0 ν Q
theorem xt_X5_passes_80 {κ : Cx} {S : Adr} {A : Nat → Prop} {Z : State → Prop} {Q : Int32 → XN → Prop} {dV : Nat} {VA : Nat → Nat → XN → (Int64 → XN → Prop) → Prop} {TA : Nat → Nat → XN → (Int32 → XN → Prop) → Prop} (hV : HVT S A dV VA TA) (h : XCx κ cX5_passes RX5 S A (dV + 8) 0 0) (hT : (cxT κ).sig.returnType = some .boolean) (hN : (cxT κ).name = "passes") (hR : xRet κ S A 0 0 Z cX5_passes (pI Q)) {x0 : Nat} {y0 : Int32} {ν : XN} (hw : xw_X5_passes_80 VA TA x0 y0 ν Q) : XG κ S A 0 0 Z 80 (ν, 0, 0) [some (.ref (S.2.1 x0)), none, none] [.int y0] := by
  unfold xw_X5_passes_80 at hw
  refine g_istore_1 80 h.1 rfl dX5_passes_80 ?_
  exact g_le (xt_X5_passes_81 hV h hT hN hR hw) ⟨rfl, rfl, trivial⟩
def xw_X5_passes (VA : Nat → Nat → XN → (Int64 → XN → Prop) → Prop) (TA : Nat → Nat → XN → (Int32 → XN → Prop) → Prop) (x0 : Nat) (ν : XN) (Q : Int32 → XN → Prop) : Prop :=
  (xoc x0 = 5 ∧ (∃ b2, fR ν.1 0 0 = .ref b2 ∧ (rc ν.2 b2 = 2 ∧ (∃ b5, (rO ν.2 b2 7) = some b5 ∧ (rc ν.2 b5 = 7 ∧ (xw_J2_isEmpty b5 ν (fun r8 ν7 => ((¬ r8 = 0 → xw_X5_passes_81 VA TA x0 (0 : Int32) ν7 Q) ∧ (r8 = 0 → (∃ b10, fR ν7.1 0 0 = .ref b10 ∧ (rc ν7.2 b10 = 2 ∧ (∃ b13, fR ν7.1 0 0 = .ref b13 ∧ (rc ν7.2 b13 = 2 ∧ (∃ b16, (rO ν7.2 b13 7) = some b16 ∧ (rc ν7.2 b16 = 7 ∧ (xw_J2_size b16 ν7 (fun r19 ν18 => (¬ r19 = 0 ∧ (∃ b22, (rO ν7.2 b10 7) = some b22 ∧ (rc ν18.2 b22 = 7 ∧ (xw_J2_get b22 ((fI ν7.1 x0 0) - (fI ν7.1 x0 0) / r19 * r19) ν18 (fun r25 ν24 => (∃ b27, r25 = some b27 ∧ ((rc ν24.2 b27 = 10) ∧ (rc ν24.2 b27 = 10 ∧ (rc ν24.2 b27 = 10 ∧ (xw_X5_asked VA TA x0 (rI ν24.2 b27 0) (rI ν24.2 b27 1) ν24 (fun r33 ν32 => ((¬ r33 = (2 : Int32) → xw_X5_passes_80 VA TA x0 (0 : Int32) ν32 Q) ∧ (r33 = (2 : Int32) → xw_X5_passes_80 VA TA x0 (1 : Int32) ν32 Q))))))))))))))))))))))))))))))
theorem xt_X5_passes {κ : Cx} {S : Adr} {A : Nat → Prop} {Z : State → Prop} {Q : Int32 → XN → Prop} {dV : Nat} {VA : Nat → Nat → XN → (Int64 → XN → Prop) → Prop} {TA : Nat → Nat → XN → (Int32 → XN → Prop) → Prop} (hV : HVT S A dV VA TA) (h : XCx κ cX5_passes RX5 S A (dV + 8) 0 0) (hT : (cxT κ).sig.returnType = some .boolean) (hN : (cxT κ).name = "passes") (hR : xRet κ S A 0 0 Z cX5_passes (pI Q)) {x0 : Nat} {ν : XN} (hw : xw_X5_passes VA TA x0 ν Q) : XG κ S A 0 0 Z 0 (ν, 0, 0) [some (.ref (S.2.1 x0)), none, none] [] := by
  unfold xw_X5_passes at hw
  refine g_iconstv 0 _ ic_0 h.1 dX5_passes_0 ?_
  refine g_istore_1 1 h.1 rfl dX5_passes_1 ?_
  refine g_aload_0 2 h.1 dX5_passes_2 ?_
  obtain ⟨f1, hw⟩ := hw
  refine xg_X5_3_5 3 f1 h dX5_passes_3 ?_
  rw [xft_this f1]
  refine xg_X5_40_0 6 h dX5_passes_6 ?_
  obtain ⟨b2, e3, hw⟩ := hw
  rw [e3]
  obtain ⟨f4, hw⟩ := hw
  refine xg_X5_158_1 9 f4 h dX5_passes_9 ?_
  obtain ⟨b5, e6, hw⟩ := hw
  rw [e6]
  obtain ⟨f9, hw⟩ := hw
  refine xcF_I_0 12 h h.2.1.2.2.1.2.2.2 (xm_J2_isEmpty h.2.2.1 hw) (by omega) (Nat.le_of_eq (Nat.zero_add _)) (Nat.le_of_eq (Nat.zero_add _)) ⟨by decide, by decide, by show _ = some 0; decide +kernel⟩ q1528 q1526 f9 q1523 (Nat.le_of_ble_eq_true rfl) dX5_passes_12 (fun r8 ν7 hw => ?_)
  refine g_if_ne 17 81 h.1 dX5_passes_17 (by decide) (fun c => ?_) (fun c => ?_)
  · have hw := hw.1 c
    exact g_le (xt_X5_passes_81 hV h hT hN hR hw) ⟨rfl, rfl, trivial⟩
  · have hw := hw.2 c
    refine g_aload_0 20 h.1 dX5_passes_20 ?_
    refine xg_X5_3_5 21 f1 h dX5_passes_21 ?_
    rw [xft_this f1]
    refine xg_X5_40_0 24 h dX5_passes_24 ?_
    obtain ⟨b10, e11, hw⟩ := hw
    rw [e11]
    obtain ⟨f12, hw⟩ := hw
    refine xg_X5_158_1 27 f12 h dX5_passes_27 ?_
    refine g_aload_0 30 h.1 dX5_passes_30 ?_
    refine xg_X5_33_5 31 f1 h dX5_passes_31 ?_
    refine g_aload_0 34 h.1 dX5_passes_34 ?_
    refine xg_X5_3_5 35 f1 h dX5_passes_35 ?_
    rw [xft_this f1]
    refine xg_X5_40_0 38 h dX5_passes_38 ?_
    obtain ⟨b13, e14, hw⟩ := hw
    rw [e14]
    obtain ⟨f15, hw⟩ := hw
    refine xg_X5_158_1 41 f15 h dX5_passes_41 ?_
    obtain ⟨b16, e17, hw⟩ := hw
    rw [e17]
    obtain ⟨f20, hw⟩ := hw
    refine xcF_I_0 44 h h.2.1.2.2.1.1 (xm_J2_size h.2.2.1 hw) (by omega) (Nat.le_of_eq (Nat.zero_add _)) (Nat.le_of_eq (Nat.zero_add _)) ⟨by decide, by decide, by show _ = some 0; decide +kernel⟩ q793 q791 f20 q1532 (by simp only [List.map_cons, List.map_nil, cat_rf]; exact Nat.le_of_ble_eq_true rfl) dX5_passes_44 (fun r19 ν18 hw => ?_)
    obtain ⟨f21, hw⟩ := hw
    refine g_irem 49 f21 h.1 dX5_passes_49 ?_
    obtain ⟨b22, e23, hw⟩ := hw
    rw [e23]
    obtain ⟨f26, hw⟩ := hw
    refine xcF_O_1 50 h h.2.1.2.2.1.2.1 (xm_J2_get h.2.2.1 hw) (by omega) (Nat.le_of_eq (Nat.zero_add _)) (Nat.le_of_eq (Nat.zero_add _)) ⟨by decide, by decide, by show _ = some 1; decide +kernel⟩ q835 q833 f26 q1289 (Nat.le_of_ble_eq_true rfl) dX5_passes_50 (fun r25 ν24 hw => ?_)
    obtain ⟨b27, e28, hw⟩ := hw
    rw [e28]
    obtain ⟨f29, hw⟩ := hw
    refine xcs_X5_168 55 f29 h dX5_passes_55 ?_
    refine g_astore_2 58 h.1 rfl dX5_passes_58 ?_
    refine g_aload_0 59 h.1 dX5_passes_59 ?_
    refine g_aload_2 60 h.1 dX5_passes_60 ?_
    obtain ⟨f30, hw⟩ := hw
    refine xg_X5_170_9 61 f30 h dX5_passes_61 ?_
    refine g_aload_2 64 h.1 dX5_passes_64 ?_
    obtain ⟨f31, hw⟩ := hw
    refine xg_X5_173_9 65 f31 h dX5_passes_65 ?_
    refine xcV_I_2 68 h (xm_X5_asked hV h.2.2.1 hw) (by omega) (Nat.le_of_eq (Nat.zero_add _)) (Nat.le_of_eq (Nat.zero_add _)) q1535 q1536 (fun H hI => x_recvK h f1 rfl hI) q1534 (Nat.le_of_ble_eq_true rfl) dX5_passes_68 (fun r33 ν32 hw => ?_)
    refine g_iconstv 71 _ ic_2 h.1 dX5_passes_71 ?_
    refine g_icmp_ne 72 79 h.1 dX5_passes_72 (by decide) (fun c => ?_) (fun c => ?_)
    · have hw := hw.1 c
      refine g_iconstv 79 _ ic_0 h.1 dX5_passes_79 ?_
      exact g_le (xt_X5_passes_80 hV h hT hN hR hw) ⟨rfl, trivial⟩
    · have hw := hw.2 c
      refine g_iconstv 75 _ ic_1 h.1 dX5_passes_75 ?_
      refine g_goto 76 80 h.1 dX5_passes_76 (by decide) ?_
      exact g_le (xt_X5_passes_80 hV h hT hN hR hw) ⟨rfl, trivial⟩
theorem xm_X5_passes {l : Launch} {S : Adr} {A : Nat → Prop} {dV : Nat} {VA : Nat → Nat → XN → (Int64 → XN → Prop) → Prop} {TA : Nat → Nat → XN → (Int32 → XN → Prop) → Prop} (hV : HVT S A dV VA TA) (hD : FD xT S xcl A) {x0 : Nat} {ν : XN} {Q : Int32 → XN → Prop} (hw : xw_X5_passes VA TA x0 ν Q) : xMet l S A (dV + 8) 0 0 0 yX5_passes [.ref (S.2.1 x0)] ν (pI Q) :=
  x_met (plainFor_of_name (by decide)) hD ⟨⟨by decide, by decide, by show _ = some 0; decide +kernel⟩, by decide, q1521, q182⟩ (Nat.le_of_ble_eq_true rfl) (fun κ Z h hT hN hR => xt_X5_passes hV h hT hN hR hw)
def xw_X5_days_2 (VA : Nat → Nat → XN → (Int64 → XN → Prop) → Prop) (TA : Nat → Nat → XN → (Int32 → XN → Prop) → Prop) (x0 : Nat) (x1 : Int32) (x2 : Int32) (ν : XN) (Q : Nat → XN → Prop) : Prop :=
  ∀ X2 : Nat → Int32 → Int32 → XN → Prop, (∀ (x0 : Nat) (x1 : Int32) (x2 : Int32) (ν : XN), ((x1 ≤ x2 → Q x0 ν) ∧ (¬ x1 ≤ x2 → (xoc x0 = 5 ∧ (xw_X5_passes VA TA x0 ν (fun r2 ν1 => X2 x0 x1 (x2 + 1) ν1))))) → X2 x0 x1 x2 ν) → X2 x0 x1 x2 ν
theorem xt_X5_days_2 {κ : Cx} {S : Adr} {A : Nat → Prop} {Z : State → Prop} {Q : Nat → XN → Prop} {dV : Nat} {VA : Nat → Nat → XN → (Int64 → XN → Prop) → Prop} {TA : Nat → Nat → XN → (Int32 → XN → Prop) → Prop} (hV : HVT S A dV VA TA) (h : XCx κ cX5_days RX5 S A (dV + 9) 0 0) (hT : (cxT κ).sig.returnType = some (.object "ShrugHills$State")) (hN : (cxT κ).name = "days") (hR : xRet κ S A 0 0 Z cX5_days (pK S Q)) {x0 : Nat} {x1 : Int32} {x2 : Int32} {ν : XN} (hw : xw_X5_days_2 VA TA x0 x1 x2 ν Q) : XG κ S A 0 0 Z 2 (ν, 0, 0) [some (.ref (S.2.1 x0)), some (.int x1), some (.int x2)] [] := by
  refine hw (fun x0 x1 x2 ν => XG κ S A 0 0 Z 2 (ν, 0, 0) [some (.ref (S.2.1 x0)), some (.int x1), some (.int x2)] []) ?_
  clear hw
  intro x0 x1 x2 ν hw
  have hX2 : ∀ (x0 : Nat) (x1 : Int32) (x2 : Int32) (ν : XN), XG κ S A 0 0 Z 2 (ν, 0, 0) [some (.ref (S.2.1 x0)), some (.int x1), some (.int x2)] [] → XG κ S A 0 0 Z 2 (ν, 0, 0) [some (.ref (S.2.1 x0)), some (.int x1), some (.int x2)] [] := fun _ _ _ _ hh => hh
  refine g_iload_2 2 h.1 dX5_days_2 ?_
  refine g_iload_1 3 h.1 dX5_days_3 ?_
  refine g_icmp_ge 4 18 h.1 dX5_days_4 (by decide) (fun c => ?_) (fun c => ?_)
  · have hw := hw.1 c
    refine g_aload_0 18 h.1 dX5_days_18 ?_
    exact hR.2.2.2 19 (some (S.2.1 x0)) _ _ _ _ _ hT (by first | exact Or.inl ⟨_, rfl⟩ | exact Or.inr ⟨_, rfl⟩) dX5_days_19 ⟨_, rfl, hw⟩
  · have hw := hw.2 c
    refine g_aload_0 7 h.1 dX5_days_7 ?_
    obtain ⟨f3, hw⟩ := hw
    refine xcV_I_0 8 h (xm_X5_passes hV h.2.2.1 hw) (by omega) (Nat.le_of_eq (Nat.zero_add _)) (Nat.le_of_eq (Nat.zero_add _)) q1519 q1520 (fun H hI => x_recvK h f3 rfl hI) q1518 (Nat.le_of_ble_eq_true rfl) dX5_days_8 (fun r2 ν1 hw => ?_)
    refine g_pop 11 rfl h.1 dX5_days_11 ?_
    refine g_iinc_2 12 (x2 + 1) (congrArg _ ic_1) h.1 rfl dX5_days_12 ?_
    refine g_goto 15 2 h.1 dX5_days_15 (by decide) ?_
    exact g_le (hX2 _ _ _ _ hw) ⟨rfl, rfl, rfl, trivial⟩
def xw_X5_days (VA : Nat → Nat → XN → (Int64 → XN → Prop) → Prop) (TA : Nat → Nat → XN → (Int32 → XN → Prop) → Prop) (x0 : Nat) (x1 : Int32) (ν : XN) (Q : Nat → XN → Prop) : Prop :=
  xw_X5_days_2 VA TA x0 x1 (0 : Int32) ν Q
theorem xt_X5_days {κ : Cx} {S : Adr} {A : Nat → Prop} {Z : State → Prop} {Q : Nat → XN → Prop} {dV : Nat} {VA : Nat → Nat → XN → (Int64 → XN → Prop) → Prop} {TA : Nat → Nat → XN → (Int32 → XN → Prop) → Prop} (hV : HVT S A dV VA TA) (h : XCx κ cX5_days RX5 S A (dV + 9) 0 0) (hT : (cxT κ).sig.returnType = some (.object "ShrugHills$State")) (hN : (cxT κ).name = "days") (hR : xRet κ S A 0 0 Z cX5_days (pK S Q)) {x0 : Nat} {x1 : Int32} {ν : XN} (hw : xw_X5_days VA TA x0 x1 ν Q) : XG κ S A 0 0 Z 0 (ν, 0, 0) [some (.ref (S.2.1 x0)), some (.int x1), none] [] := by
  unfold xw_X5_days at hw
  refine g_iconstv 0 _ ic_0 h.1 dX5_days_0 ?_
  refine g_istore_2 1 h.1 rfl dX5_days_1 ?_
  exact g_le (xt_X5_days_2 hV h hT hN hR hw) ⟨rfl, rfl, rfl, trivial⟩
theorem xm_X5_days {l : Launch} {S : Adr} {A : Nat → Prop} {dV : Nat} {VA : Nat → Nat → XN → (Int64 → XN → Prop) → Prop} {TA : Nat → Nat → XN → (Int32 → XN → Prop) → Prop} (hV : HVT S A dV VA TA) (hD : FD xT S xcl A) {x0 : Nat} {x1 : Int32} {ν : XN} {Q : Nat → XN → Prop} (hw : xw_X5_days VA TA x0 x1 ν Q) : xMet l S A (dV + 9) 0 0 1 yX5_days [.ref (S.2.1 x0), .int x1] ν (pK S Q) :=
  x_met (plainFor_of_name (by decide)) hD ⟨⟨by decide, by decide, by show _ = some 1; decide +kernel⟩, by decide, q1517, q182⟩ (Nat.le_of_ble_eq_true rfl) (fun κ Z h hT hN hR => xt_X5_days hV h hT hN hR hw)
def xw_X5_isFree_2 (x0 : Nat) (x1 : Int32) (x2 : Int32) (ν : XN) (Q : Int32 → XN → Prop) : Prop :=
  ∀ X2 : Nat → Int32 → Int32 → XN → Prop, (∀ (x0 : Nat) (x1 : Int32) (x2 : Int32) (ν : XN), (xoc x0 = 5 ∧ (xw_X0_people ν (fun r3 ν2 => ((r3 ≤ x2 → Q (1 : Int32) ν2) ∧ (¬ r3 ≤ x2 → (xok 1 (xft x0 4) ∧ (vp_in x2 (xlen (xft x0 4)) ∧ ((¬ (fA ν2.1 (xft x0 4) (Int32.toNatClampNeg x2)) = x1 → X2 x0 x1 (x2 + 1) ν2) ∧ ((fA ν2.1 (xft x0 4) (Int32.toNatClampNeg x2)) = x1 → Q (0 : Int32) ν2))))))))) → X2 x0 x1 x2 ν) → X2 x0 x1 x2 ν
theorem xt_X5_isFree_2 {κ : Cx} {S : Adr} {A : Nat → Prop} {Z : State → Prop} {Q : Int32 → XN → Prop} (h : XCx κ cX5_isFree RX5 S A 3 0 0) (hT : (cxT κ).sig.returnType = some .boolean) (hN : (cxT κ).name = "isFree") (hR : xRet κ S A 0 0 Z cX5_isFree (pI Q)) {x0 : Nat} {x1 : Int32} {x2 : Int32} {ν : XN} (hw : xw_X5_isFree_2 x0 x1 x2 ν Q) : XG κ S A 0 0 Z 2 (ν, 0, 0) [some (.ref (S.2.1 x0)), some (.int x1), some (.int x2)] [] := by
  refine hw (fun x0 x1 x2 ν => XG κ S A 0 0 Z 2 (ν, 0, 0) [some (.ref (S.2.1 x0)), some (.int x1), some (.int x2)] []) ?_
  clear hw
  intro x0 x1 x2 ν hw
  have hX2 : ∀ (x0 : Nat) (x1 : Int32) (x2 : Int32) (ν : XN), XG κ S A 0 0 Z 2 (ν, 0, 0) [some (.ref (S.2.1 x0)), some (.int x1), some (.int x2)] [] → XG κ S A 0 0 Z 2 (ν, 0, 0) [some (.ref (S.2.1 x0)), some (.int x1), some (.int x2)] [] := fun _ _ _ _ hh => hh
  refine g_iload_2 2 h.1 dX5_isFree_2 ?_
  refine g_aload_0 3 h.1 dX5_isFree_3 ?_
  obtain ⟨f1, hw⟩ := hw
  refine xg_X5_3_5 4 f1 h dX5_isFree_4 ?_
  rw [xft_this f1]
  refine xcVN_I_0 7 h (xm_X0_people h.2.2.1 hw) (by decide) (Nat.le_of_eq (Nat.zero_add _)) (Nat.le_of_eq (Nat.zero_add _)) q1284 qs38 (fun H hI => x_recvK h rfl rfl hI) q1282 (Nat.le_of_ble_eq_true rfl) dX5_isFree_7 (fun r3 ν2 hw => ?_)
  refine g_icmp_ge 10 31 h.1 dX5_isFree_10 (by decide) (fun c => ?_) (fun c => ?_)
  · have hw := hw.1 c
    refine g_iconstv 31 _ ic_1 h.1 dX5_isFree_31 ?_
    exact hR.1 32 _ _ _ _ _ _ hT rfl dX5_isFree_32 ⟨_, rfl, hw⟩
  · have hw := hw.2 c
    refine g_aload_0 13 h.1 dX5_isFree_13 ?_
    refine xg_X5_19_5 14 f1 h dX5_isFree_14 ?_
    refine g_iload_2 17 h.1 dX5_isFree_17 ?_
    obtain ⟨f4, hw⟩ := hw
    obtain ⟨f5, hw⟩ := hw
    refine xa_iald 18 f4 f5 h dX5_isFree_18 ?_
    refine g_iload_1 19 h.1 dX5_isFree_19 ?_
    refine g_icmp_ne 20 25 h.1 dX5_isFree_20 (by decide) (fun c => ?_) (fun c => ?_)
    · have hw := hw.1 c
      refine g_iinc_2 25 (x2 + 1) (congrArg _ ic_1) h.1 rfl dX5_isFree_25 ?_
      refine g_goto 28 2 h.1 dX5_isFree_28 (by decide) ?_
      exact g_le (hX2 _ _ _ _ hw) ⟨rfl, rfl, rfl, trivial⟩
    · have hw := hw.2 c
      refine g_iconstv 23 _ ic_0 h.1 dX5_isFree_23 ?_
      exact hR.1 24 _ _ _ _ _ _ hT rfl dX5_isFree_24 ⟨_, rfl, hw⟩
def xw_X5_isFree (x0 : Nat) (x1 : Int32) (ν : XN) (Q : Int32 → XN → Prop) : Prop :=
  xw_X5_isFree_2 x0 x1 (0 : Int32) ν Q
theorem xt_X5_isFree {κ : Cx} {S : Adr} {A : Nat → Prop} {Z : State → Prop} {Q : Int32 → XN → Prop} (h : XCx κ cX5_isFree RX5 S A 3 0 0) (hT : (cxT κ).sig.returnType = some .boolean) (hN : (cxT κ).name = "isFree") (hR : xRet κ S A 0 0 Z cX5_isFree (pI Q)) {x0 : Nat} {x1 : Int32} {ν : XN} (hw : xw_X5_isFree x0 x1 ν Q) : XG κ S A 0 0 Z 0 (ν, 0, 0) [some (.ref (S.2.1 x0)), some (.int x1), none] [] := by
  unfold xw_X5_isFree at hw
  refine g_iconstv 0 _ ic_0 h.1 dX5_isFree_0 ?_
  refine g_istore_2 1 h.1 rfl dX5_isFree_1 ?_
  exact g_le (xt_X5_isFree_2 h hT hN hR hw) ⟨rfl, rfl, rfl, trivial⟩
theorem xm_X5_isFree {l : Launch} {S : Adr} {A : Nat → Prop} (hD : FD xT S xcl A) {x0 : Nat} {x1 : Int32} {ν : XN} {Q : Int32 → XN → Prop} (hw : xw_X5_isFree x0 x1 ν Q) : xMet l S A 3 0 0 1 yX5_isFree [.ref (S.2.1 x0), .int x1] ν (pI Q) :=
  x_met (plainFor_of_name (by decide)) hD ⟨⟨by decide, by decide, by show _ = some 1; decide +kernel⟩, by decide, q1650, q182⟩ (Nat.le_of_ble_eq_true rfl) (fun κ Z h hT hN hR => xt_X5_isFree h hT hN hR hw)
def xw_X5_lifts (VA : Nat → Nat → XN → (Int64 → XN → Prop) → Prop) (TA : Nat → Nat → XN → (Int32 → XN → Prop) → Prop) (x0 : Nat) (x1 : Int32) (x2 : Int32) (ν : XN) (Q : Int32 → XN → Prop) : Prop :=
  (xoc x0 = 5 ∧ (xw_X5_would VA TA x0 x1 x2 ν (fun r2 ν1 => ((¬ r2 = (2 : Int32) → Q (0 : Int32) ν1) ∧ (r2 = (2 : Int32) → (xw_X5_shrugs VA TA x0 x1 x2 ν1 (fun r5 ν4 => Q r5 ν4)))))))
theorem xt_X5_lifts {κ : Cx} {S : Adr} {A : Nat → Prop} {Z : State → Prop} {Q : Int32 → XN → Prop} {dV : Nat} {VA : Nat → Nat → XN → (Int64 → XN → Prop) → Prop} {TA : Nat → Nat → XN → (Int32 → XN → Prop) → Prop} (hV : HVT S A dV VA TA) (h : XCx κ cX5_lifts RX5 S A (dV + 7) 0 0) (hT : (cxT κ).sig.returnType = some .int) (hN : (cxT κ).name = "lifts") (hR : xRet κ S A 0 0 Z cX5_lifts (pI Q)) {x0 : Nat} {x1 : Int32} {x2 : Int32} {ν : XN} (hw : xw_X5_lifts VA TA x0 x1 x2 ν Q) : XG κ S A 0 0 Z 0 (ν, 0, 0) [some (.ref (S.2.1 x0)), some (.int x1), some (.int x2)] [] := by
  unfold xw_X5_lifts at hw
  refine g_aload_0 0 h.1 dX5_lifts_0 ?_
  refine g_iload_1 1 h.1 dX5_lifts_1 ?_
  refine g_iload_2 2 h.1 dX5_lifts_2 ?_
  obtain ⟨f3, hw⟩ := hw
  refine xcV_I_2 3 h (xm_X5_would hV h.2.2.1 hw) (by omega) (Nat.le_of_eq (Nat.zero_add _)) (Nat.le_of_eq (Nat.zero_add _)) q1364 q1365 (fun H hI => x_recvK h f3 rfl hI) q1443 (Nat.le_of_ble_eq_true rfl) dX5_lifts_3 (fun r2 ν1 hw => ?_)
  refine g_iconstv 6 _ ic_2 h.1 dX5_lifts_6 ?_
  refine g_icmp_ne 7 19 h.1 dX5_lifts_7 (by decide) (fun c => ?_) (fun c => ?_)
  · have hw := hw.1 c
    refine g_iconstv 19 _ ic_0 h.1 dX5_lifts_19 ?_
    exact hR.1 20 _ _ _ _ _ _ hT rfl dX5_lifts_20 ⟨_, rfl, hw⟩
  · have hw := hw.2 c
    refine g_aload_0 10 h.1 dX5_lifts_10 ?_
    refine g_iload_1 11 h.1 dX5_lifts_11 ?_
    refine g_iload_2 12 h.1 dX5_lifts_12 ?_
    refine xcV_I_2 13 h (xm_X5_shrugs hV h.2.2.1 hw) (by omega) (Nat.le_of_eq (Nat.zero_add _)) (Nat.le_of_eq (Nat.zero_add _)) q1446 qs46 (fun H hI => x_recvK h f3 rfl hI) q1444 (Nat.le_of_ble_eq_true rfl) dX5_lifts_13 (fun r5 ν4 hw => ?_)
    refine g_goto 16 20 h.1 dX5_lifts_16 (by decide) ?_
    exact hR.1 20 _ _ _ _ _ _ hT rfl dX5_lifts_20 ⟨_, rfl, hw⟩
theorem xm_X5_lifts {l : Launch} {S : Adr} {A : Nat → Prop} {dV : Nat} {VA : Nat → Nat → XN → (Int64 → XN → Prop) → Prop} {TA : Nat → Nat → XN → (Int32 → XN → Prop) → Prop} (hV : HVT S A dV VA TA) (hD : FD xT S xcl A) {x0 : Nat} {x1 : Int32} {x2 : Int32} {ν : XN} {Q : Int32 → XN → Prop} (hw : xw_X5_lifts VA TA x0 x1 x2 ν Q) : xMet l S A (dV + 7) 0 0 2 yX5_lifts [.ref (S.2.1 x0), .int x1, .int x2] ν (pI Q) :=
  x_met (plainFor_of_name (by decide)) hD ⟨⟨by decide, by decide, by show _ = some 2; decide +kernel⟩, by decide, q1442, q182⟩ (Nat.le_of_ble_eq_true rfl) (fun κ Z h hT hN hR => xt_X5_lifts hV h hT hN hR hw)
def xw_X0_areNext (x0 : Int32) (x1 : Int32) (ν : XN) (Q : Int32 → XN → Prop) : Prop :=
  (xw_J12_abs ((x0 - x0 / (8 : Int32) * (8 : Int32)) - (x1 - x1 / (8 : Int32) * (8 : Int32))) ν (fun r2 ν1 => (xw_J12_abs ((x0 / (8 : Int32)) - (x1 / (8 : Int32))) ν1 (fun r4 ν3 => ((¬ (r2 + r4) = (1 : Int32) → Q (0 : Int32) ν3) ∧ ((r2 + r4) = (1 : Int32) → Q (1 : Int32) ν3))))))
theorem xt_X0_areNext {κ : Cx} {S : Adr} {A : Nat → Prop} {Z : State → Prop} {Q : Int32 → XN → Prop} (h : XCx κ cX0_areNext RX0 S A 2 0 0) (hT : (cxT κ).sig.returnType = some .boolean) (hN : (cxT κ).name = "areNext") (hR : xRet κ S A 0 0 Z cX0_areNext (pI Q)) {x0 : Int32} {x1 : Int32} {ν : XN} (hw : xw_X0_areNext x0 x1 ν Q) : XG κ S A 0 0 Z 0 (ν, 0, 0) [some (.int x0), some (.int x1)] [] := by
  unfold xw_X0_areNext at hw
  refine g_iload_0 0 h.1 dX0_areNext_0 ?_
  refine g_bipush 1 _ bp_8 h.1 dX0_areNext_1 ?_
  refine g_irem 3 (by decide) h.1 dX0_areNext_3 ?_
  refine g_iload_1 4 h.1 dX0_areNext_4 ?_
  refine g_bipush 5 _ bp_8 h.1 dX0_areNext_5 ?_
  refine g_irem 7 (by decide) h.1 dX0_areNext_7 ?_
  refine g_isub 8 h.1 dX0_areNext_8 ?_
  refine xcS_I_1 9 h (xm_J12_abs h.2.2.1 hw) (by decide) (Nat.le_of_eq (Nat.zero_add _)) (Nat.le_of_eq (Nat.zero_add _)) q1466 q1568 (Nat.le_of_ble_eq_true rfl) dX0_areNext_9 (fun r2 ν1 hw => ?_)
  refine g_iload_0 12 h.1 dX0_areNext_12 ?_
  refine g_bipush 13 _ bp_8 h.1 dX0_areNext_13 ?_
  refine g_idiv 15 (by decide) h.1 dX0_areNext_15 ?_
  refine g_iload_1 16 h.1 dX0_areNext_16 ?_
  refine g_bipush 17 _ bp_8 h.1 dX0_areNext_17 ?_
  refine g_idiv 19 (by decide) h.1 dX0_areNext_19 ?_
  refine g_isub 20 h.1 dX0_areNext_20 ?_
  refine xcS_I_1 21 h (xm_J12_abs h.2.2.1 hw) (by decide) (Nat.le_of_eq (Nat.zero_add _)) (Nat.le_of_eq (Nat.zero_add _)) q1466 q1568 (Nat.le_of_ble_eq_true rfl) dX0_areNext_21 (fun r4 ν3 hw => ?_)
  refine g_iadd 24 h.1 dX0_areNext_24 ?_
  refine g_iconstv 25 _ ic_1 h.1 dX0_areNext_25 ?_
  refine g_icmp_ne 26 33 h.1 dX0_areNext_26 (by decide) (fun c => ?_) (fun c => ?_)
  · have hw := hw.1 c
    refine g_iconstv 33 _ ic_0 h.1 dX0_areNext_33 ?_
    exact hR.1 34 _ _ _ _ _ _ hT rfl dX0_areNext_34 ⟨_, rfl, hw⟩
  · have hw := hw.2 c
    refine g_iconstv 29 _ ic_1 h.1 dX0_areNext_29 ?_
    refine g_goto 30 34 h.1 dX0_areNext_30 (by decide) ?_
    exact hR.1 34 _ _ _ _ _ _ hT rfl dX0_areNext_34 ⟨_, rfl, hw⟩
theorem xm_X0_areNext {l : Launch} {S : Adr} {A : Nat → Prop} (hD : FD xT S xcl A) {x0 : Int32} {x1 : Int32} {ν : XN} {Q : Int32 → XN → Prop} (hw : xw_X0_areNext x0 x1 ν Q) : xMet l S A 2 0 0 2 yX0_areNext [.int x0, .int x1] ν (pI Q) :=
  x_met (plainFor_of_name (by decide)) hD ⟨⟨by decide, by decide, by show _ = some 2; decide +kernel⟩, by decide, q1567, q171⟩ (Nat.le_of_ble_eq_true rfl) (fun κ Z h hT hN hR => xt_X0_areNext h hT hN hR hw)
def xw_X0_isPerson (x1 : Int32) (ν : XN) (Q : Int32 → XN → Prop) : Prop :=
  ((x1 < 0 → Q (0 : Int32) ν) ∧ (¬ x1 < 0 → (xw_X0_people ν (fun r2 ν1 => ((r2 ≤ x1 → Q (0 : Int32) ν1) ∧ (¬ r2 ≤ x1 → Q (1 : Int32) ν1))))))
theorem xt_X0_isPerson {κ : Cx} {S : Adr} {A : Nat → Prop} {Z : State → Prop} {Q : Int32 → XN → Prop} (h : XCx κ cX0_isPerson RX0 S A 3 0 0) (hT : (cxT κ).sig.returnType = some .boolean) (hN : (cxT κ).name = "isPerson") (hR : xRet κ S A 0 0 Z cX0_isPerson (pI Q)) {x1 : Int32} {ν : XN} (hw : xw_X0_isPerson x1 ν Q) : XG κ S A 0 0 Z 0 (ν, 0, 0) [some (.ref (S.2.1 0)), some (.int x1)] [] := by
  unfold xw_X0_isPerson at hw
  refine g_iload_1 0 h.1 dX0_isPerson_0 ?_
  refine g_if_lt 1 16 h.1 dX0_isPerson_1 (by decide) (fun c => ?_) (fun c => ?_)
  · have hw := hw.1 c
    refine g_iconstv 16 _ ic_0 h.1 dX0_isPerson_16 ?_
    exact hR.1 17 _ _ _ _ _ _ hT rfl dX0_isPerson_17 ⟨_, rfl, hw⟩
  · have hw := hw.2 c
    refine g_iload_1 4 h.1 dX0_isPerson_4 ?_
    refine g_aload_0 5 h.1 dX0_isPerson_5 ?_
    refine xcV_I_0 6 h (xm_X0_people h.2.2.1 hw) (by decide) (Nat.le_of_eq (Nat.zero_add _)) (Nat.le_of_eq (Nat.zero_add _)) q1284 qs38 (fun H hI => x_recvK h rfl rfl hI) q1303 (Nat.le_of_ble_eq_true rfl) dX0_isPerson_6 (fun r2 ν1 hw => ?_)
    refine g_icmp_ge 9 16 h.1 dX0_isPerson_9 (by decide) (fun c => ?_) (fun c => ?_)
    · have hw := hw.1 c
      refine g_iconstv 16 _ ic_0 h.1 dX0_isPerson_16 ?_
      exact hR.1 17 _ _ _ _ _ _ hT rfl dX0_isPerson_17 ⟨_, rfl, hw⟩
    · have hw := hw.2 c
      refine g_iconstv 12 _ ic_1 h.1 dX0_isPerson_12 ?_
      refine g_goto 13 17 h.1 dX0_isPerson_13 (by decide) ?_
      exact hR.1 17 _ _ _ _ _ _ hT rfl dX0_isPerson_17 ⟨_, rfl, hw⟩
theorem xm_X0_isPerson {l : Launch} {S : Adr} {A : Nat → Prop} (hD : FD xT S xcl A) {x1 : Int32} {ν : XN} {Q : Int32 → XN → Prop} (hw : xw_X0_isPerson x1 ν Q) : xMet l S A 3 0 0 1 yX0_isPerson [.ref (S.2.1 0), .int x1] ν (pI Q) :=
  x_met (plainFor_of_name (by decide)) hD ⟨⟨by decide, by decide, by show _ = some 1; decide +kernel⟩, by decide, q1349, q171⟩ (Nat.le_of_ble_eq_true rfl) (fun κ Z h hT hN hR => xt_X0_isPerson h hT hN hR hw)
def xw_X0_topics (ν : XN) (Q : Int32 → XN → Prop) : Prop :=
  (∃ b1, fR ν.1 0 0 = .ref b1 ∧ (rc ν.2 b1 = 2 ∧ (∃ b4, (rO ν.2 b1 5) = some b4 ∧ (rc ν.2 b4 = 7 ∧ (xw_J2_size b4 ν (fun r7 ν6 => Q r7 ν6))))))
theorem xt_X0_topics {κ : Cx} {S : Adr} {A : Nat → Prop} {Z : State → Prop} {Q : Int32 → XN → Prop} (h : XCx κ cX0_topics RX0 S A 2 0 0) (hT : (cxT κ).sig.returnType = some .int) (hN : (cxT κ).name = "topics") (hR : xRet κ S A 0 0 Z cX0_topics (pI Q)) {ν : XN} (hw : xw_X0_topics ν Q) : XG κ S A 0 0 Z 0 (ν, 0, 0) [some (.ref (S.2.1 0))] [] := by
  unfold xw_X0_topics at hw
  refine g_aload_0 0 h.1 dX0_topics_0 ?_
  refine xg_X0_31_0 1 h dX0_topics_1 ?_
  obtain ⟨b1, e2, hw⟩ := hw
  rw [e2]
  obtain ⟨f3, hw⟩ := hw
  refine xg_X0_160_1 4 f3 h dX0_topics_4 ?_
  obtain ⟨b4, e5, hw⟩ := hw
  rw [e5]
  obtain ⟨f8, hw⟩ := hw
  refine xcF_I_0 7 h h.2.1.2.2.1.1 (xm_J2_size h.2.2.1 hw) (by decide) (Nat.le_of_eq (Nat.zero_add _)) (Nat.le_of_eq (Nat.zero_add _)) ⟨by decide, by decide, by show _ = some 0; decide +kernel⟩ q793 q791 f8 q1287 (Nat.le_of_ble_eq_true rfl) dX0_topics_7 (fun r7 ν6 hw => ?_)
  exact hR.1 12 _ _ _ _ _ _ hT rfl dX0_topics_12 ⟨_, rfl, hw⟩
theorem xm_X0_topics {l : Launch} {S : Adr} {A : Nat → Prop} (hD : FD xT S xcl A) {ν : XN} {Q : Int32 → XN → Prop} (hw : xw_X0_topics ν Q) : xMet l S A 2 0 0 0 yX0_topics [.ref (S.2.1 0)] ν (pI Q) :=
  x_met (plainFor_of_name (by decide)) hD ⟨⟨by decide, by decide, by show _ = some 0; decide +kernel⟩, by decide, q1302, q171⟩ (Nat.le_of_ble_eq_true rfl) (fun κ Z h hT hN hR => xt_X0_topics h hT hN hR hw)
def xw_X0_isTopic (x1 : Int32) (ν : XN) (Q : Int32 → XN → Prop) : Prop :=
  ((x1 < 0 → Q (0 : Int32) ν) ∧ (¬ x1 < 0 → (xw_X0_topics ν (fun r2 ν1 => ((r2 ≤ x1 → Q (0 : Int32) ν1) ∧ (¬ r2 ≤ x1 → Q (1 : Int32) ν1))))))
theorem xt_X0_isTopic {κ : Cx} {S : Adr} {A : Nat → Prop} {Z : State → Prop} {Q : Int32 → XN → Prop} (h : XCx κ cX0_isTopic RX0 S A 3 0 0) (hT : (cxT κ).sig.returnType = some .boolean) (hN : (cxT κ).name = "isTopic") (hR : xRet κ S A 0 0 Z cX0_isTopic (pI Q)) {x1 : Int32} {ν : XN} (hw : xw_X0_isTopic x1 ν Q) : XG κ S A 0 0 Z 0 (ν, 0, 0) [some (.ref (S.2.1 0)), some (.int x1)] [] := by
  unfold xw_X0_isTopic at hw
  refine g_iload_1 0 h.1 dX0_isTopic_0 ?_
  refine g_if_lt 1 16 h.1 dX0_isTopic_1 (by decide) (fun c => ?_) (fun c => ?_)
  · have hw := hw.1 c
    refine g_iconstv 16 _ ic_0 h.1 dX0_isTopic_16 ?_
    exact hR.1 17 _ _ _ _ _ _ hT rfl dX0_isTopic_17 ⟨_, rfl, hw⟩
  · have hw := hw.2 c
    refine g_iload_1 4 h.1 dX0_isTopic_4 ?_
    refine g_aload_0 5 h.1 dX0_isTopic_5 ?_
    refine xcV_I_0 6 h (xm_X0_topics h.2.2.1 hw) (by decide) (Nat.le_of_eq (Nat.zero_add _)) (Nat.le_of_eq (Nat.zero_add _)) q1301 qs39 (fun H hI => x_recvK h rfl rfl hI) q1299 (Nat.le_of_ble_eq_true rfl) dX0_isTopic_6 (fun r2 ν1 hw => ?_)
    refine g_icmp_ge 9 16 h.1 dX0_isTopic_9 (by decide) (fun c => ?_) (fun c => ?_)
    · have hw := hw.1 c
      refine g_iconstv 16 _ ic_0 h.1 dX0_isTopic_16 ?_
      exact hR.1 17 _ _ _ _ _ _ hT rfl dX0_isTopic_17 ⟨_, rfl, hw⟩
    · have hw := hw.2 c
      refine g_iconstv 12 _ ic_1 h.1 dX0_isTopic_12 ?_
      refine g_goto 13 17 h.1 dX0_isTopic_13 (by decide) ?_
      exact hR.1 17 _ _ _ _ _ _ hT rfl dX0_isTopic_17 ⟨_, rfl, hw⟩
theorem xm_X0_isTopic {l : Launch} {S : Adr} {A : Nat → Prop} (hD : FD xT S xcl A) {x1 : Int32} {ν : XN} {Q : Int32 → XN → Prop} (hw : xw_X0_isTopic x1 ν Q) : xMet l S A 3 0 0 1 yX0_isTopic [.ref (S.2.1 0), .int x1] ν (pI Q) :=
  x_met (plainFor_of_name (by decide)) hD ⟨⟨by decide, by decide, by show _ = some 1; decide +kernel⟩, by decide, q1362, q171⟩ (Nat.le_of_ble_eq_true rfl) (fun κ Z h hT hN hR => xt_X0_isTopic h hT hN hR hw)
def xw_X0_remembers_62 (ν : XN) (Q : XN → Prop) : Prop :=
  (vp_in (fI ν.1 0 21) 20 ∧ (xoc (fP ν.1 10 (Int32.toNatClampNeg (fI ν.1 0 21))) = 5 ∧ (xw_X5_copy (fP ν.1 10 (Int32.toNatClampNeg (fI ν.1 0 21))) 10 ν (fun r4 ν3 => (∀ ν6, ν6 = (sI ν3.1 0 21 ((fI ν3.1 0 21) + (1 : Int32)), ν3.2) → Q ν6)))))
theorem xt_X0_remembers_62 {κ : Cx} {S : Adr} {A : Nat → Prop} {Z : State → Prop} {Q : XN → Prop} (h : XCx κ cX0_remembers RX0 S A 2 0 0) (hT : (cxT κ).sig.returnType = none) (hN : (cxT κ).name = "remembers") (hR : xRet κ S A 0 0 Z cX0_remembers (pV Q)) {ν : XN} (hw : xw_X0_remembers_62 ν Q) : XG κ S A 0 0 Z 62 (ν, 0, 0) [some (.ref (S.2.1 0)), none, none] [] := by
  unfold xw_X0_remembers_62 at hw
  refine g_aload_0 62 h.1 dX0_remembers_62 ?_
  refine xg_X0_105_0 63 h dX0_remembers_63 ?_
  refine g_aload_0 66 h.1 dX0_remembers_66 ?_
  refine xg_X0_148_0 67 h dX0_remembers_67 ?_
  obtain ⟨f2, hw⟩ := hw
  refine xa_aald6 70 rfl f2 h dX0_remembers_70 ?_
  refine g_aload_0 71 h.1 dX0_remembers_71 ?_
  refine xg_X0_69_0 72 h dX0_remembers_72 ?_
  obtain ⟨f5, hw⟩ := hw
  refine xcV_K_1 75 h (xm_X5_copy h.2.2.1 hw) (by decide) (Nat.le_of_eq (Nat.zero_add _)) (Nat.le_of_eq (Nat.zero_add _)) q1436 q1437 (fun H hI => x_recvK h f5 rfl hI) q1435 (Nat.le_of_ble_eq_true rfl) dX0_remembers_75 (fun r4 ν3 hw => ?_)
  refine g_pop 78 rfl h.1 dX0_remembers_78 ?_
  refine g_aload_0 79 h.1 dX0_remembers_79 ?_
  refine g_dup 80 rfl h.1 dX0_remembers_80 ?_
  refine xg_X0_148_0 81 h dX0_remembers_81 ?_
  refine g_iconstv 84 _ ic_1 h.1 dX0_remembers_84 ?_
  refine g_iadd 85 h.1 dX0_remembers_85 ?_
  refine xp_X0_148_0 86 h dX0_remembers_86 (fun ν6 e7 => ?_)
  have hw := hw ν6 e7
  exact hR.2.2.1 89 _ _ _ _ hT dX0_remembers_89 ⟨rfl, hw⟩
def xw_X0_remembers_18 (x1 : Nat) (x2 : Int32) (ν : XN) (Q : XN → Prop) : Prop :=
  ∀ X18 : Nat → Int32 → XN → Prop, (∀ (x1 : Nat) (x2 : Int32) (ν : XN), (((20 : Int32) ≤ x2 → (vp_in (19 : Int32) 20 ∧ (xoc x1 = 5 ∧ (∀ ν8, ν8 = (sP ν.1 10 (Int32.toNatClampNeg (19 : Int32)) x1, ν.2) → (∀ ν12, ν12 = (sI ν8.1 0 21 ((fI ν8.1 0 21) - (1 : Int32)), ν8.2) → xw_X0_remembers_62 ν12 Q))))) ∧ (¬ (20 : Int32) ≤ x2 → (vp_in x2 20 ∧ (vp_in (x2 - (1 : Int32)) 20 ∧ (xoc (fP ν.1 10 (Int32.toNatClampNeg x2)) = 5 ∧ (∀ ν15, ν15 = (sP ν.1 10 (Int32.toNatClampNeg (x2 - (1 : Int32))) (fP ν.1 10 (Int32.toNatClampNeg x2)), ν.2) → X18 x1 (x2 + 1) ν15)))))) → X18 x1 x2 ν) → X18 x1 x2 ν
theorem xt_X0_remembers_18 {κ : Cx} {S : Adr} {A : Nat → Prop} {Z : State → Prop} {Q : XN → Prop} (h : XCx κ cX0_remembers RX0 S A 2 0 0) (hT : (cxT κ).sig.returnType = none) (hN : (cxT κ).name = "remembers") (hR : xRet κ S A 0 0 Z cX0_remembers (pV Q)) {x1 : Nat} {x2 : Int32} {ν : XN} (hw : xw_X0_remembers_18 x1 x2 ν Q) : XG κ S A 0 0 Z 18 (ν, 0, 0) [some (.ref (S.2.1 0)), some (.ref (S.2.1 x1)), some (.int x2)] [] := by
  refine hw (fun x1 x2 ν => XG κ S A 0 0 Z 18 (ν, 0, 0) [some (.ref (S.2.1 0)), some (.ref (S.2.1 x1)), some (.int x2)] []) ?_
  clear hw
  intro x1 x2 ν hw
  have hX18 : ∀ (x1 : Nat) (x2 : Int32) (ν : XN), XG κ S A 0 0 Z 18 (ν, 0, 0) [some (.ref (S.2.1 0)), some (.ref (S.2.1 x1)), some (.int x2)] [] → XG κ S A 0 0 Z 18 (ν, 0, 0) [some (.ref (S.2.1 0)), some (.ref (S.2.1 x1)), some (.int x2)] [] := fun _ _ _ hh => hh
  refine g_iload_2 18 h.1 dX0_remembers_18 ?_
  refine g_bipush 19 _ bp_20 h.1 dX0_remembers_19 ?_
  refine g_icmp_ge 21 44 h.1 dX0_remembers_21 (by decide) (fun c => ?_) (fun c => ?_)
  · have hw := hw.1 c
    refine g_aload_0 44 h.1 dX0_remembers_44 ?_
    refine xg_X0_105_0 45 h dX0_remembers_45 ?_
    refine g_bipush 48 _ bp_19 h.1 dX0_remembers_48 ?_
    refine g_aload_1 50 h.1 dX0_remembers_50 ?_
    obtain ⟨f10, hw⟩ := hw
    obtain ⟨f11, hw⟩ := hw
    refine xa_aast6 51 rfl f11 f10 h dX0_remembers_51 (fun ν8 e9 => ?_)
    have hw := hw ν8 e9
    refine g_aload_0 52 h.1 dX0_remembers_52 ?_
    refine g_dup 53 rfl h.1 dX0_remembers_53 ?_
    refine xg_X0_148_0 54 h dX0_remembers_54 ?_
    refine g_iconstv 57 _ ic_1 h.1 dX0_remembers_57 ?_
    refine g_isub 58 h.1 dX0_remembers_58 ?_
    refine xp_X0_148_0 59 h dX0_remembers_59 (fun ν12 e13 => ?_)
    have hw := hw ν12 e13
    exact g_le (xt_X0_remembers_62 h hT hN hR hw) ⟨rfl, trivial⟩
  · have hw := hw.2 c
    refine g_aload_0 24 h.1 dX0_remembers_24 ?_
    refine xg_X0_105_0 25 h dX0_remembers_25 ?_
    refine g_iload_2 28 h.1 dX0_remembers_28 ?_
    refine g_iconstv 29 _ ic_1 h.1 dX0_remembers_29 ?_
    refine g_isub 30 h.1 dX0_remembers_30 ?_
    refine g_aload_0 31 h.1 dX0_remembers_31 ?_
    refine xg_X0_105_0 32 h dX0_remembers_32 ?_
    refine g_iload_2 35 h.1 dX0_remembers_35 ?_
    obtain ⟨f14, hw⟩ := hw
    refine xa_aald6 36 rfl f14 h dX0_remembers_36 ?_
    obtain ⟨f17, hw⟩ := hw
    obtain ⟨f18, hw⟩ := hw
    refine xa_aast6 37 rfl f18 f17 h dX0_remembers_37 (fun ν15 e16 => ?_)
    have hw := hw ν15 e16
    refine g_iinc_2 38 (x2 + 1) (congrArg _ ic_1) h.1 rfl dX0_remembers_38 ?_
    refine g_goto 41 18 h.1 dX0_remembers_41 (by decide) ?_
    exact g_le (hX18 _ _ _ hw) ⟨rfl, rfl, rfl, trivial⟩
def xw_X0_remembers (ν : XN) (Q : XN → Prop) : Prop :=
  ((¬ (fI ν.1 0 21) = (20 : Int32) → xw_X0_remembers_62 ν Q) ∧ ((fI ν.1 0 21) = (20 : Int32) → (vp_in (0 : Int32) 20 ∧ xw_X0_remembers_18 (fP ν.1 10 (Int32.toNatClampNeg (0 : Int32))) (1 : Int32) ν Q)))
theorem xt_X0_remembers {κ : Cx} {S : Adr} {A : Nat → Prop} {Z : State → Prop} {Q : XN → Prop} (h : XCx κ cX0_remembers RX0 S A 2 0 0) (hT : (cxT κ).sig.returnType = none) (hN : (cxT κ).name = "remembers") (hR : xRet κ S A 0 0 Z cX0_remembers (pV Q)) {ν : XN} (hw : xw_X0_remembers ν Q) : XG κ S A 0 0 Z 0 (ν, 0, 0) [some (.ref (S.2.1 0)), none, none] [] := by
  unfold xw_X0_remembers at hw
  refine g_aload_0 0 h.1 dX0_remembers_0 ?_
  refine xg_X0_148_0 1 h dX0_remembers_1 ?_
  refine g_bipush 4 _ bp_20 h.1 dX0_remembers_4 ?_
  refine g_icmp_ne 6 62 h.1 dX0_remembers_6 (by decide) (fun c => ?_) (fun c => ?_)
  · have hw := hw.1 c
    exact g_le (xt_X0_remembers_62 h hT hN hR hw) ⟨rfl, trivial⟩
  · have hw := hw.2 c
    refine g_aload_0 9 h.1 dX0_remembers_9 ?_
    refine xg_X0_105_0 10 h dX0_remembers_10 ?_
    refine g_iconstv 13 _ ic_0 h.1 dX0_remembers_13 ?_
    obtain ⟨f1, hw⟩ := hw
    refine xa_aald6 14 rfl f1 h dX0_remembers_14 ?_
    refine g_astore_1 15 h.1 rfl dX0_remembers_15 ?_
    refine g_iconstv 16 _ ic_1 h.1 dX0_remembers_16 ?_
    refine g_istore_2 17 h.1 rfl dX0_remembers_17 ?_
    exact g_le (xt_X0_remembers_18 h hT hN hR hw) ⟨rfl, rfl, rfl, trivial⟩
theorem xm_X0_remembers {l : Launch} {S : Adr} {A : Nat → Prop} (hD : FD xT S xcl A) {ν : XN} {Q : XN → Prop} (hw : xw_X0_remembers ν Q) : xMet l S A 2 0 0 0 yX0_remembers [.ref (S.2.1 0)] ν (pV Q) :=
  x_met (plainFor_of_name (by decide)) hD ⟨⟨by decide, by decide, by show _ = some 0; decide +kernel⟩, by decide, q1638, q171⟩ (Nat.le_of_ble_eq_true rfl) (fun κ Z h hT hN hR => xt_X0_remembers h hT hN hR hw)
def xw_X0_refuses (x1 : Int32) (ν : XN) (Q : Int32 → XN → Prop) : Prop :=
  (vp_in x1 6 ∧ (vp_in x1 6 ∧ (∀ ν2, ν2 = (sA ν.1 1 (Int32.toNatClampNeg x1) ((fA ν.1 1 (Int32.toNatClampNeg x1)) + (1 : Int32)), ν.2) → Q (-1 : Int32) ν2)))
theorem xt_X0_refuses {κ : Cx} {S : Adr} {A : Nat → Prop} {Z : State → Prop} {Q : Int32 → XN → Prop} (h : XCx κ cX0_refuses RX0 S A 1 0 0) (hT : (cxT κ).sig.returnType = some .int) (hN : (cxT κ).name = "refuses") (hR : xRet κ S A 0 0 Z cX0_refuses (pI Q)) {x1 : Int32} {ν : XN} (hw : xw_X0_refuses x1 ν Q) : XG κ S A 0 0 Z 0 (ν, 0, 0) [some (.ref (S.2.1 0)), some (.int x1)] [] := by
  unfold xw_X0_refuses at hw
  refine g_aload_0 0 h.1 dX0_refuses_0 ?_
  refine xg_X0_62_0 1 h dX0_refuses_1 ?_
  refine g_iload_1 4 h.1 dX0_refuses_4 ?_
  refine g_dup2 5 rfl rfl h.1 dX0_refuses_5 ?_
  obtain ⟨f1, hw⟩ := hw
  refine xa_iald 6 rfl f1 h dX0_refuses_6 ?_
  refine g_iconstv 7 _ ic_1 h.1 dX0_refuses_7 ?_
  refine g_iadd 8 h.1 dX0_refuses_8 ?_
  obtain ⟨f4, hw⟩ := hw
  refine xa_iast 9 rfl f4 h dX0_refuses_9 (fun ν2 e3 => ?_)
  have hw := hw ν2 e3
  refine g_iconstv 10 _ ic_m1 h.1 dX0_refuses_10 ?_
  exact hR.1 11 _ _ _ _ _ _ hT rfl dX0_refuses_11 ⟨_, rfl, hw⟩
theorem xm_X0_refuses {l : Launch} {S : Adr} {A : Nat → Prop} (hD : FD xT S xcl A) {x1 : Int32} {ν : XN} {Q : Int32 → XN → Prop} (hw : xw_X0_refuses x1 ν Q) : xMet l S A 1 0 0 1 yX0_refuses [.ref (S.2.1 0), .int x1] ν (pI Q) :=
  x_met (plainFor_of_name (by decide)) hD ⟨⟨by decide, by decide, by show _ = some 1; decide +kernel⟩, by decide, q560, q171⟩ (Nat.le_of_ble_eq_true rfl) (fun κ Z h hT hN hR => xt_X0_refuses h hT hN hR hw)
def xw_X0_asks_16 (VA : Nat → Nat → XN → (Int64 → XN → Prop) → Prop) (TA : Nat → Nat → XN → (Int32 → XN → Prop) → Prop) (ν : XN) (Q : Int32 → XN → Prop) : Prop :=
  (xw_X0_refuses (2 : Int32) ν (fun r9 ν8 => Q r9 ν8))
theorem xt_X0_asks_16 {κ : Cx} {S : Adr} {A : Nat → Prop} {Z : State → Prop} {Q : Int32 → XN → Prop} {dV : Nat} {VA : Nat → Nat → XN → (Int64 → XN → Prop) → Prop} {TA : Nat → Nat → XN → (Int32 → XN → Prop) → Prop} (hV : HVT S A dV VA TA) (h : XCx κ cX0_asks RX0 S A (dV + 8) 0 0) (hT : (cxT κ).sig.returnType = some .int) (hN : (cxT κ).name = "asks") (hR : xRet κ S A 0 0 Z cX0_asks (pI Q)) {ν : XN} (hw : xw_X0_asks_16 VA TA ν Q) : XG κ S A 0 0 Z 16 (ν, 0, 0) [some (.ref (S.2.1 0)), none, none] [] := by
  unfold xw_X0_asks_16 at hw
  refine g_aload_0 16 h.1 dX0_asks_16 ?_
  refine g_iconstv 17 _ ic_2 h.1 dX0_asks_17 ?_
  refine xcV_I_1 18 h (xm_X0_refuses h.2.2.1 hw) (by omega) (Nat.le_of_eq (Nat.zero_add _)) (Nat.le_of_eq (Nat.zero_add _)) q559 qs1 (fun H hI => x_recvK h rfl rfl hI) q557 (Nat.le_of_ble_eq_true rfl) dX0_asks_18 (fun r9 ν8 hw => ?_)
  exact hR.1 21 _ _ _ _ _ _ hT rfl dX0_asks_21 ⟨_, rfl, hw⟩
def xw_X0_asks (VA : Nat → Nat → XN → (Int64 → XN → Prop) → Prop) (TA : Nat → Nat → XN → (Int32 → XN → Prop) → Prop) (x1 : Int32) (x2 : Int32) (ν : XN) (Q : Int32 → XN → Prop) : Prop :=
  (xw_X0_isPerson x1 ν (fun r2 ν1 => ((r2 = 0 → xw_X0_asks_16 VA TA ν1 Q) ∧ (¬ r2 = 0 → (xw_X0_isTopic x2 ν1 (fun r4 ν3 => ((¬ r4 = 0 → (xw_X0_remembers ν3 (fun ν5 => (xw_X5_asked VA TA 10 x1 x2 ν5 (fun r7 ν6 => Q r7 ν6))))) ∧ (r4 = 0 → xw_X0_asks_16 VA TA ν3 Q))))))))
theorem xt_X0_asks {κ : Cx} {S : Adr} {A : Nat → Prop} {Z : State → Prop} {Q : Int32 → XN → Prop} {dV : Nat} {VA : Nat → Nat → XN → (Int64 → XN → Prop) → Prop} {TA : Nat → Nat → XN → (Int32 → XN → Prop) → Prop} (hV : HVT S A dV VA TA) (h : XCx κ cX0_asks RX0 S A (dV + 8) 0 0) (hT : (cxT κ).sig.returnType = some .int) (hN : (cxT κ).name = "asks") (hR : xRet κ S A 0 0 Z cX0_asks (pI Q)) {x1 : Int32} {x2 : Int32} {ν : XN} (hw : xw_X0_asks VA TA x1 x2 ν Q) : XG κ S A 0 0 Z 0 (ν, 0, 0) [some (.ref (S.2.1 0)), some (.int x1), some (.int x2)] [] := by
  unfold xw_X0_asks at hw
  refine g_aload_0 0 h.1 dX0_asks_0 ?_
  refine g_iload_1 1 h.1 dX0_asks_1 ?_
  refine xcV_I_1 2 h (xm_X0_isPerson h.2.2.1 hw) (by omega) (Nat.le_of_eq (Nat.zero_add _)) (Nat.le_of_eq (Nat.zero_add _)) q1348 qs42 (fun H hI => x_recvK h rfl rfl hI) q1346 (Nat.le_of_ble_eq_true rfl) dX0_asks_2 (fun r2 ν1 hw => ?_)
  refine g_if_eq 5 16 h.1 dX0_asks_5 (by decide) (fun c => ?_) (fun c => ?_)
  · have hw := hw.1 c
    exact g_le (xt_X0_asks_16 hV h hT hN hR hw) ⟨rfl, trivial⟩
  · have hw := hw.2 c
    refine g_aload_0 8 h.1 dX0_asks_8 ?_
    refine g_iload_2 9 h.1 dX0_asks_9 ?_
    refine xcV_I_1 10 h (xm_X0_isTopic h.2.2.1 hw) (by omega) (Nat.le_of_eq (Nat.zero_add _)) (Nat.le_of_eq (Nat.zero_add _)) q1361 qs43 (fun H hI => x_recvK h rfl rfl hI) q1359 (Nat.le_of_ble_eq_true rfl) dX0_asks_10 (fun r4 ν3 hw => ?_)
    refine g_if_ne 13 22 h.1 dX0_asks_13 (by decide) (fun c => ?_) (fun c => ?_)
    · have hw := hw.1 c
      refine g_aload_0 22 h.1 dX0_asks_22 ?_
      refine xcV_V_0 23 h (xm_X0_remembers h.2.2.1 hw) (by omega) (Nat.le_of_eq (Nat.zero_add _)) (Nat.le_of_eq (Nat.zero_add _)) q1637 qs62 (fun H hI => x_recvK h rfl rfl hI) q1635 (Nat.le_of_ble_eq_true rfl) dX0_asks_23 (fun ν5 hw => ?_)
      refine g_aload_0 26 h.1 dX0_asks_26 ?_
      refine xg_X0_69_0 27 h dX0_asks_27 ?_
      refine g_iload_1 30 h.1 dX0_asks_30 ?_
      refine g_iload_2 31 h.1 dX0_asks_31 ?_
      refine xcV_I_2 32 h (xm_X5_asked hV h.2.2.1 hw) (by omega) (Nat.le_of_eq (Nat.zero_add _)) (Nat.le_of_eq (Nat.zero_add _)) q1535 q1536 (fun H hI => x_recvK h rfl rfl hI) q1555 (Nat.le_of_ble_eq_true rfl) dX0_asks_32 (fun r7 ν6 hw => ?_)
      exact hR.1 35 _ _ _ _ _ _ hT rfl dX0_asks_35 ⟨_, rfl, hw⟩
    · have hw := hw.2 c
      exact g_le (xt_X0_asks_16 hV h hT hN hR hw) ⟨rfl, trivial⟩
theorem xm_X0_asks {l : Launch} {S : Adr} {A : Nat → Prop} {dV : Nat} {VA : Nat → Nat → XN → (Int64 → XN → Prop) → Prop} {TA : Nat → Nat → XN → (Int32 → XN → Prop) → Prop} (hV : HVT S A dV VA TA) (hD : FD xT S xcl A) {x1 : Int32} {x2 : Int32} {ν : XN} {Q : Int32 → XN → Prop} (hw : xw_X0_asks VA TA x1 x2 ν Q) : xMet l S A (dV + 8) 0 0 2 yX0_asks [.ref (S.2.1 0), .int x1, .int x2] ν (pI Q) :=
  x_met (plainFor_of_name (by decide)) hD ⟨⟨by decide, by decide, by show _ = some 2; decide +kernel⟩, by decide, q1634, q171⟩ (Nat.le_of_ble_eq_true rfl) (fun κ Z h hT hN hR => xt_X0_asks hV h hT hN hR hw)
def xw_X0_byteAt (x1 : Int32) (ν : XN) (Q : Int32 → XN → Prop) : Prop :=
  (vp_in x1 1600 ∧ Q ((fA ν.1 0 (Int32.toNatClampNeg x1)) &&& (255 : Int32)) ν)
theorem xt_X0_byteAt {κ : Cx} {S : Adr} {A : Nat → Prop} {Z : State → Prop} {Q : Int32 → XN → Prop} (h : XCx κ cX0_byteAt RX0 S A 1 0 0) (hT : (cxT κ).sig.returnType = some .int) (hN : (cxT κ).name = "byteAt") (hR : xRet κ S A 0 0 Z cX0_byteAt (pI Q)) {x1 : Int32} {ν : XN} (hw : xw_X0_byteAt x1 ν Q) : XG κ S A 0 0 Z 0 (ν, 0, 0) [some (.ref (S.2.1 0)), some (.int x1)] [] := by
  unfold xw_X0_byteAt at hw
  refine g_aload_0 0 h.1 dX0_byteAt_0 ?_
  refine xg_X0_35_0 1 h dX0_byteAt_1 ?_
  refine g_iload_1 4 h.1 dX0_byteAt_4 ?_
  obtain ⟨f1, hw⟩ := hw
  refine xa_bald 5 rfl f1 h dX0_byteAt_5 ?_
  refine g_sipush 6 _ sp_255 h.1 dX0_byteAt_6 ?_
  refine g_iand 9 h.1 dX0_byteAt_9 ?_
  exact hR.1 10 _ _ _ _ _ _ hT rfl dX0_byteAt_10 ⟨_, rfl, hw⟩
theorem xm_X0_byteAt {l : Launch} {S : Adr} {A : Nat → Prop} (hD : FD xT S xcl A) {x1 : Int32} {ν : XN} {Q : Int32 → XN → Prop} (hw : xw_X0_byteAt x1 ν Q) : xMet l S A 1 0 0 1 yX0_byteAt [.ref (S.2.1 0), .int x1] ν (pI Q) :=
  x_met (plainFor_of_name (by decide)) hD ⟨⟨by decide, by decide, by show _ = some 1; decide +kernel⟩, by decide, q1608, q171⟩ (Nat.le_of_ble_eq_true rfl) (fun κ Z h hT hN hR => xt_X0_byteAt h hT hN hR hw)
def xw_X0_isPlain (ν : XN) (Q : Int32 → XN → Prop) : Prop :=
  (∃ b1, fR ν.1 0 0 = .ref b1 ∧ (rc ν.2 b1 = 2 ∧ (((rI ν.2 b1 1) ≤ 0 → Q (0 : Int32) ν) ∧ (¬ (rI ν.2 b1 1) ≤ 0 → Q (1 : Int32) ν))))
theorem xt_X0_isPlain {κ : Cx} {S : Adr} {A : Nat → Prop} {Z : State → Prop} {Q : Int32 → XN → Prop} (h : XCx κ cX0_isPlain RX0 S A 1 0 0) (hT : (cxT κ).sig.returnType = some .boolean) (hN : (cxT κ).name = "isPlain") (hR : xRet κ S A 0 0 Z cX0_isPlain (pI Q)) {ν : XN} (hw : xw_X0_isPlain ν Q) : XG κ S A 0 0 Z 0 (ν, 0, 0) [some (.ref (S.2.1 0))] [] := by
  unfold xw_X0_isPlain at hw
  refine g_aload_0 0 h.1 dX0_isPlain_0 ?_
  refine xg_X0_31_0 1 h dX0_isPlain_1 ?_
  obtain ⟨b1, e2, hw⟩ := hw
  rw [e2]
  obtain ⟨f3, hw⟩ := hw
  refine xg_X0_157_1 4 f3 h dX0_isPlain_4 ?_
  refine g_if_le 7 14 h.1 dX0_isPlain_7 (by decide) (fun c => ?_) (fun c => ?_)
  · have hw := hw.1 c
    refine g_iconstv 14 _ ic_0 h.1 dX0_isPlain_14 ?_
    exact hR.1 15 _ _ _ _ _ _ hT rfl dX0_isPlain_15 ⟨_, rfl, hw⟩
  · have hw := hw.2 c
    refine g_iconstv 10 _ ic_1 h.1 dX0_isPlain_10 ?_
    refine g_goto 11 15 h.1 dX0_isPlain_11 (by decide) ?_
    exact hR.1 15 _ _ _ _ _ _ hT rfl dX0_isPlain_15 ⟨_, rfl, hw⟩
theorem xm_X0_isPlain {l : Launch} {S : Adr} {A : Nat → Prop} (hD : FD xT S xcl A) {ν : XN} {Q : Int32 → XN → Prop} (hw : xw_X0_isPlain ν Q) : xMet l S A 1 0 0 0 yX0_isPlain [.ref (S.2.1 0)] ν (pI Q) :=
  x_met (plainFor_of_name (by decide)) hD ⟨⟨by decide, by decide, by show _ = some 0; decide +kernel⟩, by decide, q1513, q171⟩ (Nat.le_of_ble_eq_true rfl) (fun κ Z h hT hN hR => xt_X0_isPlain h hT hN hR hw)
def xw_X0_isAhead (x1 : Int32) (x2 : Int32) (x3 : Int32) (ν : XN) (Q : Int32 → XN → Prop) : Prop :=
  (xw_X0_isPlain ν (fun r2 ν1 => ((r2 = 0 → Q (0 : Int32) ν1) ∧ (¬ r2 = 0 → (xw_X0_is x1 x2 x3 ν1 (fun r4 ν3 => ((r4 = 0 → Q (0 : Int32) ν3) ∧ (¬ r4 = 0 → (((999 : Int32) < ((fI ν3.1 10 0) + x1) → Q (0 : Int32) ν3) ∧ (¬ (999 : Int32) < ((fI ν3.1 10 0) + x1) → Q (1 : Int32) ν3))))))))))
theorem xt_X0_isAhead {κ : Cx} {S : Adr} {A : Nat → Prop} {Z : State → Prop} {Q : Int32 → XN → Prop} (h : XCx κ cX0_isAhead RX0 S A 2 0 0) (hT : (cxT κ).sig.returnType = some .boolean) (hN : (cxT κ).name = "isAhead") (hR : xRet κ S A 0 0 Z cX0_isAhead (pI Q)) {x1 : Int32} {x2 : Int32} {x3 : Int32} {ν : XN} (hw : xw_X0_isAhead x1 x2 x3 ν Q) : XG κ S A 0 0 Z 0 (ν, 0, 0) [some (.ref (S.2.1 0)), some (.int x1), some (.int x2), some (.int x3)] [] := by
  unfold xw_X0_isAhead at hw
  refine g_aload_0 0 h.1 dX0_isAhead_0 ?_
  refine xcV_I_0 1 h (xm_X0_isPlain h.2.2.1 hw) (by decide) (Nat.le_of_eq (Nat.zero_add _)) (Nat.le_of_eq (Nat.zero_add _)) q1512 qs52 (fun H hI => x_recvK h rfl rfl hI) q1510 (Nat.le_of_ble_eq_true rfl) dX0_isAhead_1 (fun r2 ν1 hw => ?_)
  refine g_if_eq 4 35 h.1 dX0_isAhead_4 (by decide) (fun c => ?_) (fun c => ?_)
  · have hw := hw.1 c
    refine g_iconstv 35 _ ic_0 h.1 dX0_isAhead_35 ?_
    exact hR.1 36 _ _ _ _ _ _ hT rfl dX0_isAhead_36 ⟨_, rfl, hw⟩
  · have hw := hw.2 c
    refine g_iload_1 7 h.1 dX0_isAhead_7 ?_
    refine g_iload_2 8 h.1 dX0_isAhead_8 ?_
    refine g_iload_3 9 h.1 dX0_isAhead_9 ?_
    refine xcS_I_3 10 h (xm_X0_is h.2.2.1 hw) (by decide) (Nat.le_of_eq (Nat.zero_add _)) (Nat.le_of_eq (Nat.zero_add _)) q705 q1312 (Nat.le_of_ble_eq_true rfl) dX0_isAhead_10 (fun r4 ν3 hw => ?_)
    refine g_if_eq 13 35 h.1 dX0_isAhead_13 (by decide) (fun c => ?_) (fun c => ?_)
    · have hw := hw.1 c
      refine g_iconstv 35 _ ic_0 h.1 dX0_isAhead_35 ?_
      exact hR.1 36 _ _ _ _ _ _ hT rfl dX0_isAhead_36 ⟨_, rfl, hw⟩
    · have hw := hw.2 c
      refine g_aload_0 16 h.1 dX0_isAhead_16 ?_
      refine xg_X0_69_0 17 h dX0_isAhead_17 ?_
      refine xg_X0_191_5 20 rfl h dX0_isAhead_20 ?_
      refine g_iload_1 23 h.1 dX0_isAhead_23 ?_
      refine g_iadd 24 h.1 dX0_isAhead_24 ?_
      refine g_sipush 25 _ sp_999 h.1 dX0_isAhead_25 ?_
      refine g_icmp_gt 28 35 h.1 dX0_isAhead_28 (by decide) (fun c => ?_) (fun c => ?_)
      · have hw := hw.1 c
        refine g_iconstv 35 _ ic_0 h.1 dX0_isAhead_35 ?_
        exact hR.1 36 _ _ _ _ _ _ hT rfl dX0_isAhead_36 ⟨_, rfl, hw⟩
      · have hw := hw.2 c
        refine g_iconstv 31 _ ic_1 h.1 dX0_isAhead_31 ?_
        refine g_goto 32 36 h.1 dX0_isAhead_32 (by decide) ?_
        exact hR.1 36 _ _ _ _ _ _ hT rfl dX0_isAhead_36 ⟨_, rfl, hw⟩
theorem xm_X0_isAhead {l : Launch} {S : Adr} {A : Nat → Prop} (hD : FD xT S xcl A) {x1 : Int32} {x2 : Int32} {x3 : Int32} {ν : XN} {Q : Int32 → XN → Prop} (hw : xw_X0_isAhead x1 x2 x3 ν Q) : xMet l S A 2 0 0 3 yX0_isAhead [.ref (S.2.1 0), .int x1, .int x2, .int x3] ν (pI Q) :=
  x_met (plainFor_of_name (by decide)) hD ⟨⟨by decide, by decide, by show _ = some 3; decide +kernel⟩, by decide, q1509, q171⟩ (Nat.le_of_ble_eq_true rfl) (fun κ Z h hT hN hR => xt_X0_isAhead h hT hN hR hw)
def xw_X0_draw (x1 : Int32) (ν : XN) (Q : Int32 → XN → Prop) : Prop :=
  (∀ ν1, ν1 = (sL ν.1 0 22 ((((1103515245 : Int64) * (fL ν.1 0 22)) + (12345 : Int64)) - (((1103515245 : Int64) * (fL ν.1 0 22)) + (12345 : Int64)) / (2147483648 : Int64) * (2147483648 : Int64)), ν.2) → (¬ (Int32.toInt64 x1) = 0 ∧ Q (Int64.toInt32 (((fL ν1.1 0 22) / (64 : Int64)) - ((fL ν1.1 0 22) / (64 : Int64)) / (Int32.toInt64 x1) * (Int32.toInt64 x1))) ν1))
theorem xt_X0_draw {κ : Cx} {S : Adr} {A : Nat → Prop} {Z : State → Prop} {Q : Int32 → XN → Prop} (h : XCx κ cX0_draw RX0 S A 1 0 0) (hT : (cxT κ).sig.returnType = some .int) (hN : (cxT κ).name = "draw") (hR : xRet κ S A 0 0 Z cX0_draw (pI Q)) {x1 : Int32} {ν : XN} (hw : xw_X0_draw x1 ν Q) : XG κ S A 0 0 Z 0 (ν, 0, 0) [some (.ref (S.2.1 0)), some (.int x1)] [] := by
  unfold xw_X0_draw at hw
  refine g_aload_0 0 h.1 dX0_draw_0 ?_
  refine g_ldc2 1 h.1 q1667 dX0_draw_1 ?_
  refine g_aload_0 4 h.1 dX0_draw_4 ?_
  refine xg_X0_108_0 5 h dX0_draw_5 ?_
  refine g_lmul 8 h.1 dX0_draw_8 ?_
  refine g_ldc2 9 h.1 q1668 dX0_draw_9 ?_
  refine g_ladd 12 h.1 dX0_draw_12 ?_
  refine g_ldc2 13 h.1 q1669 dX0_draw_13 ?_
  refine g_lrem 16 (by decide) h.1 dX0_draw_16 ?_
  refine xp_X0_108_0 17 h dX0_draw_17 (fun ν1 e2 => ?_)
  have hw := hw ν1 e2
  refine g_aload_0 20 h.1 dX0_draw_20 ?_
  refine xg_X0_108_0 21 h dX0_draw_21 ?_
  refine g_ldc2 24 h.1 q1670 dX0_draw_24 ?_
  refine g_ldiv 27 (by decide) h.1 dX0_draw_27 ?_
  refine g_iload_1 28 h.1 dX0_draw_28 ?_
  refine g_i2l 29 h.1 dX0_draw_29 ?_
  obtain ⟨f3, hw⟩ := hw
  refine g_lrem 30 f3 h.1 dX0_draw_30 ?_
  refine g_l2i 31 h.1 dX0_draw_31 ?_
  exact hR.1 32 _ _ _ _ _ _ hT rfl dX0_draw_32 ⟨_, rfl, hw⟩
theorem xm_X0_draw {l : Launch} {S : Adr} {A : Nat → Prop} (hD : FD xT S xcl A) {x1 : Int32} {ν : XN} {Q : Int32 → XN → Prop} (hw : xw_X0_draw x1 ν Q) : xMet l S A 1 0 0 1 yX0_draw [.ref (S.2.1 0), .int x1] ν (pI Q) :=
  x_met (plainFor_of_name (by decide)) hD ⟨⟨by decide, by decide, by show _ = some 1; decide +kernel⟩, by decide, q1666, q171⟩ (Nat.le_of_ble_eq_true rfl) (fun κ Z h hT hN hR => xt_X0_draw h hT hN hR hw)
def xw_X0_chance_99 (VA : Nat → Nat → XN → (Int64 → XN → Prop) → Prop) (TA : Nat → Nat → XN → (Int32 → XN → Prop) → Prop) (X25 : Int32 → Int32 → Int32 → XN → Prop) (x1 : Int32) (x2 : Int32) (x3 : Int32) (ν : XN) (Q : Int32 → XN → Prop) : Prop :=
  (xw_X5_passes VA TA 10 ν (fun r26 ν25 => X25 x1 x2 (x3 + 1) ν25))
theorem xt_X0_chance_99 {κ : Cx} {S : Adr} {A : Nat → Prop} {Z : State → Prop} {Q : Int32 → XN → Prop} {dV : Nat} {VA : Nat → Nat → XN → (Int64 → XN → Prop) → Prop} {TA : Nat → Nat → XN → (Int32 → XN → Prop) → Prop} (hV : HVT S A dV VA TA) (h : XCx κ cX0_chance RX0 S A (dV + 9) 0 0) (hT : (cxT κ).sig.returnType = some .int) (hN : (cxT κ).name = "chance") (hR : xRet κ S A 0 0 Z cX0_chance (pI Q)) {X25 : Int32 → Int32 → Int32 → XN → Prop} (hX25 : ∀ (x1 : Int32) (x2 : Int32) (x3 : Int32) (ν : XN), X25 x1 x2 x3 ν → XG κ S A 0 0 Z 25 (ν, 0, 0) [some (.ref (S.2.1 0)), some (.int x1), some (.int x2), some (.int x3), none] []) {x1 : Int32} {x2 : Int32} {x3 : Int32} {ν : XN} (hw : xw_X0_chance_99 VA TA X25 x1 x2 x3 ν Q) : XG κ S A 0 0 Z 99 (ν, 0, 0) [some (.ref (S.2.1 0)), some (.int x1), some (.int x2), some (.int x3), none] [] := by
  unfold xw_X0_chance_99 at hw
  refine g_aload_0 99 h.1 dX0_chance_99 ?_
  refine xg_X0_69_0 100 h dX0_chance_100 ?_
  refine xcV_I_0 103 h (xm_X5_passes hV h.2.2.1 hw) (by omega) (Nat.le_of_eq (Nat.zero_add _)) (Nat.le_of_eq (Nat.zero_add _)) q1519 q1520 (fun H hI => x_recvK h rfl rfl hI) q1546 (Nat.le_of_ble_eq_true rfl) dX0_chance_103 (fun r26 ν25 hw => ?_)
  refine g_pop 106 rfl h.1 dX0_chance_106 ?_
  refine g_iinc_3 107 (x3 + 1) (congrArg _ ic_1) h.1 rfl dX0_chance_107 ?_
  refine g_goto 110 25 h.1 dX0_chance_110 (by decide) ?_
  exact g_le (hX25 _ _ _ _ hw) ⟨rfl, rfl, rfl, rfl, trivial⟩
def xw_X0_chance_97 (VA : Nat → Nat → XN → (Int64 → XN → Prop) → Prop) (TA : Nat → Nat → XN → (Int32 → XN → Prop) → Prop) (X25 : Int32 → Int32 → Int32 → XN → Prop) (x1 : Int32) (x3 : Int32) (y0 : Int32) (y1 : Int32) (ν : XN) (Q : Int32 → XN → Prop) : Prop :=
  xw_X0_chance_99 VA TA X25 x1 (y1 + y0) x3 ν Q
theorem xt_X0_chance_97 {κ : Cx} {S : Adr} {A : Nat → Prop} {Z : State → Prop} {Q : Int32 → XN → Prop} {dV : Nat} {VA : Nat → Nat → XN → (Int64 → XN → Prop) → Prop} {TA : Nat → Nat → XN → (Int32 → XN → Prop) → Prop} (hV : HVT S A dV VA TA) (h : XCx κ cX0_chance RX0 S A (dV + 9) 0 0) (hT : (cxT κ).sig.returnType = some .int) (hN : (cxT κ).name = "chance") (hR : xRet κ S A 0 0 Z cX0_chance (pI Q)) {X25 : Int32 → Int32 → Int32 → XN → Prop} (hX25 : ∀ (x1 : Int32) (x2 : Int32) (x3 : Int32) (ν : XN), X25 x1 x2 x3 ν → XG κ S A 0 0 Z 25 (ν, 0, 0) [some (.ref (S.2.1 0)), some (.int x1), some (.int x2), some (.int x3), none] []) {x1 : Int32} {x3 : Int32} {y0 : Int32} {y1 : Int32} {ν : XN} (hw : xw_X0_chance_97 VA TA X25 x1 x3 y0 y1 ν Q) : XG κ S A 0 0 Z 97 (ν, 0, 0) [some (.ref (S.2.1 0)), some (.int x1), none, some (.int x3), none] [.int y0, .int y1] := by
  unfold xw_X0_chance_97 at hw
  refine g_iadd 97 h.1 dX0_chance_97 ?_
  refine g_istore_2 98 h.1 rfl dX0_chance_98 ?_
  exact g_le (xt_X0_chance_99 hV h hT hN hR hX25 hw) ⟨rfl, rfl, rfl, rfl, trivial⟩
def xw_X0_chance_25 (VA : Nat → Nat → XN → (Int64 → XN → Prop) → Prop) (TA : Nat → Nat → XN → (Int32 → XN → Prop) → Prop) (x1 : Int32) (x2 : Int32) (x3 : Int32) (ν : XN) (Q : Int32 → XN → Prop) : Prop :=
  ∀ X25 : Int32 → Int32 → Int32 → XN → Prop, (∀ (x1 : Int32) (x2 : Int32) (x3 : Int32) (ν : XN), ((x1 ≤ x3 → Q x2 ν) ∧ (¬ x1 ≤ x3 → (xw_X0_draw (100 : Int32) ν (fun r7 ν6 => (∃ b8, fR ν6.1 0 0 = .ref b8 ∧ (rc ν6.2 b8 = 2 ∧ (((rI ν6.2 b8 3) ≤ r7 → xw_X0_chance_99 VA TA X25 x1 x2 x3 ν6 Q) ∧ (¬ (rI ν6.2 b8 3) ≤ r7 → (xw_X0_people ν6 (fun r12 ν11 => ((r12 ≤ 0 → xw_X0_chance_99 VA TA X25 x1 x2 x3 ν11 Q) ∧ (¬ r12 ≤ 0 → (xw_X0_topics ν11 (fun r14 ν13 => ((r14 ≤ 0 → xw_X0_chance_99 VA TA X25 x1 x2 x3 ν13 Q) ∧ (¬ r14 ≤ 0 → (xw_X0_people ν13 (fun r16 ν15 => (xw_X0_draw r16 ν15 (fun r18 ν17 => (xw_X0_topics ν17 (fun r20 ν19 => (xw_X0_draw r20 ν19 (fun r22 ν21 => (xw_X5_asked VA TA 10 r18 r22 ν21 (fun r24 ν23 => ((¬ r24 = (2 : Int32) → xw_X0_chance_97 VA TA X25 x1 x3 (0 : Int32) x2 ν23 Q) ∧ (r24 = (2 : Int32) → xw_X0_chance_97 VA TA X25 x1 x3 (1 : Int32) x2 ν23 Q)))))))))))))))))))))))))))) → X25 x1 x2 x3 ν) → X25 x1 x2 x3 ν
theorem xt_X0_chance_25 {κ : Cx} {S : Adr} {A : Nat → Prop} {Z : State → Prop} {Q : Int32 → XN → Prop} {dV : Nat} {VA : Nat → Nat → XN → (Int64 → XN → Prop) → Prop} {TA : Nat → Nat → XN → (Int32 → XN → Prop) → Prop} (hV : HVT S A dV VA TA) (h : XCx κ cX0_chance RX0 S A (dV + 9) 0 0) (hT : (cxT κ).sig.returnType = some .int) (hN : (cxT κ).name = "chance") (hR : xRet κ S A 0 0 Z cX0_chance (pI Q)) {x1 : Int32} {x2 : Int32} {x3 : Int32} {ν : XN} (hw : xw_X0_chance_25 VA TA x1 x2 x3 ν Q) : XG κ S A 0 0 Z 25 (ν, 0, 0) [some (.ref (S.2.1 0)), some (.int x1), some (.int x2), some (.int x3), none] [] := by
  refine hw (fun x1 x2 x3 ν => XG κ S A 0 0 Z 25 (ν, 0, 0) [some (.ref (S.2.1 0)), some (.int x1), some (.int x2), some (.int x3), none] []) ?_
  clear hw
  intro x1 x2 x3 ν hw
  have hX25 : ∀ (x1 : Int32) (x2 : Int32) (x3 : Int32) (ν : XN), XG κ S A 0 0 Z 25 (ν, 0, 0) [some (.ref (S.2.1 0)), some (.int x1), some (.int x2), some (.int x3), none] [] → XG κ S A 0 0 Z 25 (ν, 0, 0) [some (.ref (S.2.1 0)), some (.int x1), some (.int x2), some (.int x3), none] [] := fun _ _ _ _ hh => hh
  refine g_iload_3 25 h.1 dX0_chance_25 ?_
  refine g_iload_1 26 h.1 dX0_chance_26 ?_
  refine g_icmp_ge 27 113 h.1 dX0_chance_27 (by decide) (fun c => ?_) (fun c => ?_)
  · have hw := hw.1 c
    refine g_iload_2 113 h.1 dX0_chance_113 ?_
    exact hR.1 114 _ _ _ _ _ _ hT rfl dX0_chance_114 ⟨_, rfl, hw⟩
  · have hw := hw.2 c
    refine g_aload_0 30 h.1 dX0_chance_30 ?_
    refine g_bipush 31 _ bp_100 h.1 dX0_chance_31 ?_
    refine xcV_I_1 33 h (xm_X0_draw h.2.2.1 hw) (by omega) (Nat.le_of_eq (Nat.zero_add _)) (Nat.le_of_eq (Nat.zero_add _)) q1665 qs63 (fun H hI => x_recvK h rfl rfl hI) q1663 (Nat.le_of_ble_eq_true rfl) dX0_chance_33 (fun r7 ν6 hw => ?_)
    refine g_aload_0 36 h.1 dX0_chance_36 ?_
    refine xg_X0_31_0 37 h dX0_chance_37 ?_
    obtain ⟨b8, e9, hw⟩ := hw
    rw [e9]
    obtain ⟨f10, hw⟩ := hw
    refine xg_X0_334_1 40 f10 h dX0_chance_40 ?_
    refine g_icmp_ge 43 99 h.1 dX0_chance_43 (by decide) (fun c => ?_) (fun c => ?_)
    · have hw := hw.1 c
      exact g_le (xt_X0_chance_99 hV h hT hN hR hX25 hw) ⟨rfl, rfl, rfl, rfl, trivial⟩
    · have hw := hw.2 c
      refine g_aload_0 46 h.1 dX0_chance_46 ?_
      refine xcV_I_0 47 h (xm_X0_people h.2.2.1 hw) (by omega) (Nat.le_of_eq (Nat.zero_add _)) (Nat.le_of_eq (Nat.zero_add _)) q1284 qs38 (fun H hI => x_recvK h rfl rfl hI) q1303 (Nat.le_of_ble_eq_true rfl) dX0_chance_47 (fun r12 ν11 hw => ?_)
      refine g_if_le 50 99 h.1 dX0_chance_50 (by decide) (fun c => ?_) (fun c => ?_)
      · have hw := hw.1 c
        exact g_le (xt_X0_chance_99 hV h hT hN hR hX25 hw) ⟨rfl, rfl, rfl, rfl, trivial⟩
      · have hw := hw.2 c
        refine g_aload_0 53 h.1 dX0_chance_53 ?_
        refine xcV_I_0 54 h (xm_X0_topics h.2.2.1 hw) (by omega) (Nat.le_of_eq (Nat.zero_add _)) (Nat.le_of_eq (Nat.zero_add _)) q1301 qs39 (fun H hI => x_recvK h rfl rfl hI) q1299 (Nat.le_of_ble_eq_true rfl) dX0_chance_54 (fun r14 ν13 hw => ?_)
        refine g_if_le 57 99 h.1 dX0_chance_57 (by decide) (fun c => ?_) (fun c => ?_)
        · have hw := hw.1 c
          exact g_le (xt_X0_chance_99 hV h hT hN hR hX25 hw) ⟨rfl, rfl, rfl, rfl, trivial⟩
        · have hw := hw.2 c
          refine g_aload_0 60 h.1 dX0_chance_60 ?_
          refine g_aload_0 61 h.1 dX0_chance_61 ?_
          refine xcV_I_0 62 h (xm_X0_people h.2.2.1 hw) (by omega) (Nat.le_of_eq (Nat.zero_add _)) (Nat.le_of_eq (Nat.zero_add _)) q1284 qs38 (fun H hI => x_recvK h rfl rfl hI) q1303 (Nat.le_of_ble_eq_true rfl) dX0_chance_62 (fun r16 ν15 hw => ?_)
          refine xcV_I_1 65 h (xm_X0_draw h.2.2.1 hw) (by omega) (Nat.le_of_eq (Nat.zero_add _)) (Nat.le_of_eq (Nat.zero_add _)) q1665 qs63 (fun H hI => x_recvK h rfl rfl hI) q1663 (Nat.le_of_ble_eq_true rfl) dX0_chance_65 (fun r18 ν17 hw => ?_)
          refine g_istore_4 68 h.1 rfl dX0_chance_68 ?_
          refine g_iload_2 70 h.1 dX0_chance_70 ?_
          refine g_aload_0 71 h.1 dX0_chance_71 ?_
          refine xg_X0_69_0 72 h dX0_chance_72 ?_
          refine g_iload_4 75 h.1 dX0_chance_75 ?_
          refine g_aload_0 77 h.1 dX0_chance_77 ?_
          refine g_aload_0 78 h.1 dX0_chance_78 ?_
          refine xcV_I_0 79 h (xm_X0_topics h.2.2.1 hw) (by omega) (Nat.le_of_eq (Nat.zero_add _)) (Nat.le_of_eq (Nat.zero_add _)) q1301 qs39 (fun H hI => x_recvK h rfl rfl hI) q1299 (Nat.le_of_ble_eq_true rfl) dX0_chance_79 (fun r20 ν19 hw => ?_)
          refine xcV_I_1 82 h (xm_X0_draw h.2.2.1 hw) (by omega) (Nat.le_of_eq (Nat.zero_add _)) (Nat.le_of_eq (Nat.zero_add _)) q1665 qs63 (fun H hI => x_recvK h rfl rfl hI) q1663 (Nat.le_of_ble_eq_true rfl) dX0_chance_82 (fun r22 ν21 hw => ?_)
          refine xcV_I_2 85 h (xm_X5_asked hV h.2.2.1 hw) (by omega) (Nat.le_of_eq (Nat.zero_add _)) (Nat.le_of_eq (Nat.zero_add _)) q1535 q1536 (fun H hI => x_recvK h rfl rfl hI) q1555 (Nat.le_of_ble_eq_true rfl) dX0_chance_85 (fun r24 ν23 hw => ?_)
          refine g_iconstv 88 _ ic_2 h.1 dX0_chance_88 ?_
          refine g_icmp_ne 89 96 h.1 dX0_chance_89 (by decide) (fun c => ?_) (fun c => ?_)
          · have hw := hw.1 c
            refine g_iconstv 96 _ ic_0 h.1 dX0_chance_96 ?_
            exact g_le (xt_X0_chance_97 hV h hT hN hR hX25 hw) ⟨rfl, rfl, rfl, trivial⟩
          · have hw := hw.2 c
            refine g_iconstv 92 _ ic_1 h.1 dX0_chance_92 ?_
            refine g_goto 93 97 h.1 dX0_chance_93 (by decide) ?_
            exact g_le (xt_X0_chance_97 hV h hT hN hR hX25 hw) ⟨rfl, rfl, rfl, trivial⟩
def xw_X0_chance (VA : Nat → Nat → XN → (Int64 → XN → Prop) → Prop) (TA : Nat → Nat → XN → (Int32 → XN → Prop) → Prop) (x1 : Int32) (ν : XN) (Q : Int32 → XN → Prop) : Prop :=
  (xw_X0_isAhead x1 (1 : Int32) (100 : Int32) ν (fun r2 ν1 => ((¬ r2 = 0 → (xw_X0_remembers ν1 (fun ν3 => xw_X0_chance_25 VA TA x1 (0 : Int32) (0 : Int32) ν3 Q))) ∧ (r2 = 0 → (xw_X0_refuses (3 : Int32) ν1 (fun r5 ν4 => Q r5 ν4))))))
theorem xt_X0_chance {κ : Cx} {S : Adr} {A : Nat → Prop} {Z : State → Prop} {Q : Int32 → XN → Prop} {dV : Nat} {VA : Nat → Nat → XN → (Int64 → XN → Prop) → Prop} {TA : Nat → Nat → XN → (Int32 → XN → Prop) → Prop} (hV : HVT S A dV VA TA) (h : XCx κ cX0_chance RX0 S A (dV + 9) 0 0) (hT : (cxT κ).sig.returnType = some .int) (hN : (cxT κ).name = "chance") (hR : xRet κ S A 0 0 Z cX0_chance (pI Q)) {x1 : Int32} {ν : XN} (hw : xw_X0_chance VA TA x1 ν Q) : XG κ S A 0 0 Z 0 (ν, 0, 0) [some (.ref (S.2.1 0)), some (.int x1), none, none, none] [] := by
  unfold xw_X0_chance at hw
  refine g_aload_0 0 h.1 dX0_chance_0 ?_
  refine g_iload_1 1 h.1 dX0_chance_1 ?_
  refine g_iconstv 2 _ ic_1 h.1 dX0_chance_2 ?_
  refine g_bipush 3 _ bp_100 h.1 dX0_chance_3 ?_
  refine xcV_I_3 5 h (xm_X0_isAhead h.2.2.1 hw) (by omega) (Nat.le_of_eq (Nat.zero_add _)) (Nat.le_of_eq (Nat.zero_add _)) q1508 qs51 (fun H hI => x_recvK h rfl rfl hI) q1506 (Nat.le_of_ble_eq_true rfl) dX0_chance_5 (fun r2 ν1 hw => ?_)
  refine g_if_ne 8 17 h.1 dX0_chance_8 (by decide) (fun c => ?_) (fun c => ?_)
  · have hw := hw.1 c
    refine g_aload_0 17 h.1 dX0_chance_17 ?_
    refine xcV_V_0 18 h (xm_X0_remembers h.2.2.1 hw) (by omega) (Nat.le_of_eq (Nat.zero_add _)) (Nat.le_of_eq (Nat.zero_add _)) q1637 qs62 (fun H hI => x_recvK h rfl rfl hI) q1635 (Nat.le_of_ble_eq_true rfl) dX0_chance_18 (fun ν3 hw => ?_)
    refine g_iconstv 21 _ ic_0 h.1 dX0_chance_21 ?_
    refine g_istore_2 22 h.1 rfl dX0_chance_22 ?_
    refine g_iconstv 23 _ ic_0 h.1 dX0_chance_23 ?_
    refine g_istore_3 24 h.1 rfl dX0_chance_24 ?_
    exact g_le (xt_X0_chance_25 hV h hT hN hR hw) ⟨rfl, rfl, rfl, rfl, trivial⟩
  · have hw := hw.2 c
    refine g_aload_0 11 h.1 dX0_chance_11 ?_
    refine g_iconstv 12 _ ic_3 h.1 dX0_chance_12 ?_
    refine xcV_I_1 13 h (xm_X0_refuses h.2.2.1 hw) (by omega) (Nat.le_of_eq (Nat.zero_add _)) (Nat.le_of_eq (Nat.zero_add _)) q559 qs1 (fun H hI => x_recvK h rfl rfl hI) q557 (Nat.le_of_ble_eq_true rfl) dX0_chance_13 (fun r5 ν4 hw => ?_)
    exact hR.1 16 _ _ _ _ _ _ hT rfl dX0_chance_16 ⟨_, rfl, hw⟩
theorem xm_X0_chance {l : Launch} {S : Adr} {A : Nat → Prop} {dV : Nat} {VA : Nat → Nat → XN → (Int64 → XN → Prop) → Prop} {TA : Nat → Nat → XN → (Int32 → XN → Prop) → Prop} (hV : HVT S A dV VA TA) (hD : FD xT S xcl A) {x1 : Int32} {ν : XN} {Q : Int32 → XN → Prop} (hw : xw_X0_chance VA TA x1 ν Q) : xMet l S A (dV + 9) 0 0 1 yX0_chance [.ref (S.2.1 0), .int x1] ν (pI Q) :=
  x_met (plainFor_of_name (by decide)) hD ⟨⟨by decide, by decide, by show _ = some 1; decide +kernel⟩, by decide, q1662, q171⟩ (Nat.le_of_ble_eq_true rfl) (fun κ Z h hT hN hR => xt_X0_chance hV h hT hN hR hw)
def xw_X0_check_6 (x0 : Nat) (x1 : Int32) (x2 : Int32) (x3 : Int32) (ν : XN) (Q : Int32 → XN → Prop) : Prop :=
  ∀ X6 : Nat → Int32 → Int32 → Int32 → XN → Prop, (∀ (x0 : Nat) (x1 : Int32) (x2 : Int32) (x3 : Int32) (ν : XN), ((x1 ≤ x3 → Q x2 ν) ∧ (¬ x1 ≤ x3 → (xok 2 x0 ∧ (vp_in x3 (xlen x0) ∧ X6 x0 x1 ((((3 : Int32) * x2) + ((fA ν.1 x0 (Int32.toNatClampNeg x3)) &&& (255 : Int32))) - (((3 : Int32) * x2) + ((fA ν.1 x0 (Int32.toNatClampNeg x3)) &&& (255 : Int32))) / (251 : Int32) * (251 : Int32)) (x3 + 1) ν)))) → X6 x0 x1 x2 x3 ν) → X6 x0 x1 x2 x3 ν
theorem xt_X0_check_6 {κ : Cx} {S : Adr} {A : Nat → Prop} {Z : State → Prop} {Q : Int32 → XN → Prop} (h : XCx κ cX0_check RX0 S A 1 0 0) (hT : (cxT κ).sig.returnType = some .int) (hN : (cxT κ).name = "check") (hR : xRet κ S A 0 0 Z cX0_check (pI Q)) {x0 : Nat} {x1 : Int32} {x2 : Int32} {x3 : Int32} {ν : XN} (hw : xw_X0_check_6 x0 x1 x2 x3 ν Q) : XG κ S A 0 0 Z 6 (ν, 0, 0) [some (.ref (S.2.2.1 x0)), some (.int x1), some (.int x2), some (.int x3)] [] := by
  refine hw (fun x0 x1 x2 x3 ν => XG κ S A 0 0 Z 6 (ν, 0, 0) [some (.ref (S.2.2.1 x0)), some (.int x1), some (.int x2), some (.int x3)] []) ?_
  clear hw
  intro x0 x1 x2 x3 ν hw
  have hX6 : ∀ (x0 : Nat) (x1 : Int32) (x2 : Int32) (x3 : Int32) (ν : XN), XG κ S A 0 0 Z 6 (ν, 0, 0) [some (.ref (S.2.2.1 x0)), some (.int x1), some (.int x2), some (.int x3)] [] → XG κ S A 0 0 Z 6 (ν, 0, 0) [some (.ref (S.2.2.1 x0)), some (.int x1), some (.int x2), some (.int x3)] [] := fun _ _ _ _ _ hh => hh
  refine g_iload_3 6 h.1 dX0_check_6 ?_
  refine g_iload_1 7 h.1 dX0_check_7 ?_
  refine g_icmp_ge 8 33 h.1 dX0_check_8 (by decide) (fun c => ?_) (fun c => ?_)
  · have hw := hw.1 c
    refine g_iload_2 33 h.1 dX0_check_33 ?_
    exact hR.1 34 _ _ _ _ _ _ hT rfl dX0_check_34 ⟨_, rfl, hw⟩
  · have hw := hw.2 c
    refine g_iconstv 11 _ ic_3 h.1 dX0_check_11 ?_
    refine g_iload_2 12 h.1 dX0_check_12 ?_
    refine g_imul 13 h.1 dX0_check_13 ?_
    refine g_aload_0 14 h.1 dX0_check_14 ?_
    refine g_iload_3 15 h.1 dX0_check_15 ?_
    obtain ⟨f1, hw⟩ := hw
    obtain ⟨f2, hw⟩ := hw
    refine xa_bald 16 f1 f2 h dX0_check_16 ?_
    refine g_sipush 17 _ sp_255 h.1 dX0_check_17 ?_
    refine g_iand 20 h.1 dX0_check_20 ?_
    refine g_iadd 21 h.1 dX0_check_21 ?_
    refine g_sipush 22 _ sp_251 h.1 dX0_check_22 ?_
    refine g_irem 25 (by decide) h.1 dX0_check_25 ?_
    refine g_istore_2 26 h.1 rfl dX0_check_26 ?_
    refine g_iinc_3 27 (x3 + 1) (congrArg _ ic_1) h.1 rfl dX0_check_27 ?_
    refine g_goto 30 6 h.1 dX0_check_30 (by decide) ?_
    exact g_le (hX6 _ _ _ _ _ hw) ⟨rfl, rfl, rfl, rfl, trivial⟩
def xw_X0_check (x0 : Nat) (x1 : Int32) (ν : XN) (Q : Int32 → XN → Prop) : Prop :=
  xw_X0_check_6 x0 x1 (227 : Int32) (0 : Int32) ν Q
theorem xt_X0_check {κ : Cx} {S : Adr} {A : Nat → Prop} {Z : State → Prop} {Q : Int32 → XN → Prop} (h : XCx κ cX0_check RX0 S A 1 0 0) (hT : (cxT κ).sig.returnType = some .int) (hN : (cxT κ).name = "check") (hR : xRet κ S A 0 0 Z cX0_check (pI Q)) {x0 : Nat} {x1 : Int32} {ν : XN} (hw : xw_X0_check x0 x1 ν Q) : XG κ S A 0 0 Z 0 (ν, 0, 0) [some (.ref (S.2.2.1 x0)), some (.int x1), none, none] [] := by
  unfold xw_X0_check at hw
  refine g_sipush 0 _ sp_227 h.1 dX0_check_0 ?_
  refine g_istore_2 3 h.1 rfl dX0_check_3 ?_
  refine g_iconstv 4 _ ic_0 h.1 dX0_check_4 ?_
  refine g_istore_3 5 h.1 rfl dX0_check_5 ?_
  exact g_le (xt_X0_check_6 h hT hN hR hw) ⟨rfl, rfl, rfl, rfl, trivial⟩
theorem xm_X0_check {l : Launch} {S : Adr} {A : Nat → Prop} (hD : FD xT S xcl A) {x0 : Nat} {x1 : Int32} {ν : XN} {Q : Int32 → XN → Prop} (hw : xw_X0_check x0 x1 ν Q) : xMet l S A 1 0 0 2 yX0_check [.ref (S.2.2.1 x0), .int x1] ν (pI Q) :=
  x_met (plainFor_of_name (by decide)) hD ⟨⟨by decide, by decide, by show _ = some 2; decide +kernel⟩, by decide, q1731, q171⟩ (Nat.le_of_ble_eq_true rfl) (fun κ Z h hT hN hR => xt_X0_check h hT hN hR hw)
def xw_X0_personOn_20 (x1 : Int32) (x2 : Int32) (x3 : Int32) (x4 : Int32) (ν : XN) (Q : Int32 → XN → Prop) : Prop :=
  ∀ X20 : Int32 → Int32 → Int32 → Int32 → XN → Prop, (∀ (x1 : Int32) (x2 : Int32) (x3 : Int32) (x4 : Int32) (ν : XN), ((x1 ≤ x4 → (xok 1 (xft 11 4) ∧ (vp_in x1 (xlen (xft 11 4)) ∧ (∀ ν5, ν5 = (sA ν.1 (xft 11 4) (Int32.toNatClampNeg x1) x3, ν.2) → (xw_X0_byteAt (x2 + (2 : Int32)) ν5 (fun r10 ν9 => (xok 1 (xft 11 5) ∧ (vp_in x1 (xlen (xft 11 5)) ∧ (∀ ν11, ν11 = (sA ν9.1 (xft 11 5) (Int32.toNatClampNeg x1) r10, ν9.2) → (xw_X0_byteAt (x2 + (3 : Int32)) ν11 (fun r16 ν15 => (xok 1 (xft 11 6) ∧ (vp_in x1 (xlen (xft 11 6)) ∧ (∀ ν17, ν17 = (sA ν15.1 (xft 11 6) (Int32.toNatClampNeg x1) r16, ν15.2) → (xw_X0_byteAt x2 ν17 (fun r22 ν21 => (xw_X0_byteAt (x2 + (1 : Int32)) ν21 (fun r24 ν23 => (xw_X0_isIn r22 r24 ν23 (fun r26 ν25 => ((r26 = 0 → Q (0 : Int32) ν25) ∧ (¬ r26 = 0 → (xw_X0_byteAt (x2 + (2 : Int32)) ν25 (fun r28 ν27 => (((9 : Int32) < r28 → Q (0 : Int32) ν27) ∧ (¬ (9 : Int32) < r28 → (xw_X0_byteAt (x2 + (3 : Int32)) ν27 (fun r30 ν29 => (xw_X0_topics ν29 (fun r32 ν31 => ((((1 : Int32) <<< (r32 &&& 31)) ≤ r30 → Q (0 : Int32) ν31) ∧ (¬ ((1 : Int32) <<< (r32 &&& 31)) ≤ r30 → Q (1 : Int32) ν31)))))))))))))))))))))))))))))))) ∧ (¬ x1 ≤ x4 → (xok 1 (xft 11 4) ∧ (vp_in x4 (xlen (xft 11 4)) ∧ ((¬ (fA ν.1 (xft 11 4) (Int32.toNatClampNeg x4)) = x3 → X20 x1 x2 x3 (x4 + 1) ν) ∧ ((fA ν.1 (xft 11 4) (Int32.toNatClampNeg x4)) = x3 → Q (0 : Int32) ν)))))) → X20 x1 x2 x3 x4 ν) → X20 x1 x2 x3 x4 ν
theorem xt_X0_personOn_20 {κ : Cx} {S : Adr} {A : Nat → Prop} {Z : State → Prop} {Q : Int32 → XN → Prop} (h : XCx κ cX0_personOn RX0 S A 3 0 0) (hT : (cxT κ).sig.returnType = some .boolean) (hN : (cxT κ).name = "personOn") (hR : xRet κ S A 0 0 Z cX0_personOn (pI Q)) {x1 : Int32} {x2 : Int32} {x3 : Int32} {x4 : Int32} {ν : XN} (hw : xw_X0_personOn_20 x1 x2 x3 x4 ν Q) : XG κ S A 0 0 Z 20 (ν, 0, 0) [some (.ref (S.2.1 0)), some (.int x1), some (.int x2), some (.int x3), some (.int x4)] [] := by
  refine hw (fun x1 x2 x3 x4 ν => XG κ S A 0 0 Z 20 (ν, 0, 0) [some (.ref (S.2.1 0)), some (.int x1), some (.int x2), some (.int x3), some (.int x4)] []) ?_
  clear hw
  intro x1 x2 x3 x4 ν hw
  have hX20 : ∀ (x1 : Int32) (x2 : Int32) (x3 : Int32) (x4 : Int32) (ν : XN), XG κ S A 0 0 Z 20 (ν, 0, 0) [some (.ref (S.2.1 0)), some (.int x1), some (.int x2), some (.int x3), some (.int x4)] [] → XG κ S A 0 0 Z 20 (ν, 0, 0) [some (.ref (S.2.1 0)), some (.int x1), some (.int x2), some (.int x3), some (.int x4)] [] := fun _ _ _ _ _ hh => hh
  refine g_iload_4 20 h.1 dX0_personOn_20 ?_
  refine g_iload_1 22 h.1 dX0_personOn_22 ?_
  refine g_icmp_ge 23 48 h.1 dX0_personOn_23 (by decide) (fun c => ?_) (fun c => ?_)
  · have hw := hw.1 c
    refine g_aload_0 48 h.1 dX0_personOn_48 ?_
    refine xg_X0_73_0 49 h dX0_personOn_49 ?_
    refine xg_X0_216_5 52 rfl h dX0_personOn_52 ?_
    refine g_iload_1 55 h.1 dX0_personOn_55 ?_
    refine g_iload_3 56 h.1 dX0_personOn_56 ?_
    obtain ⟨f7, hw⟩ := hw
    obtain ⟨f8, hw⟩ := hw
    refine xa_iast 57 f7 f8 h dX0_personOn_57 (fun ν5 e6 => ?_)
    have hw := hw ν5 e6
    refine g_aload_0 58 h.1 dX0_personOn_58 ?_
    refine xg_X0_73_0 59 h dX0_personOn_59 ?_
    refine xg_X0_219_5 62 rfl h dX0_personOn_62 ?_
    refine g_iload_1 65 h.1 dX0_personOn_65 ?_
    refine g_aload_0 66 h.1 dX0_personOn_66 ?_
    refine g_iload_2 67 h.1 dX0_personOn_67 ?_
    refine g_iconstv 68 _ ic_2 h.1 dX0_personOn_68 ?_
    refine g_iadd 69 h.1 dX0_personOn_69 ?_
    refine xcV_I_1 70 h (xm_X0_byteAt h.2.2.1 hw) (by decide) (Nat.le_of_eq (Nat.zero_add _)) (Nat.le_of_eq (Nat.zero_add _)) q1607 qs59 (fun H hI => x_recvK h rfl rfl hI) q1605 (Nat.le_of_ble_eq_true rfl) dX0_personOn_70 (fun r10 ν9 hw => ?_)
    obtain ⟨f13, hw⟩ := hw
    obtain ⟨f14, hw⟩ := hw
    refine xa_iast 73 f13 f14 h dX0_personOn_73 (fun ν11 e12 => ?_)
    have hw := hw ν11 e12
    refine g_aload_0 74 h.1 dX0_personOn_74 ?_
    refine xg_X0_73_0 75 h dX0_personOn_75 ?_
    refine xg_X0_222_5 78 rfl h dX0_personOn_78 ?_
    refine g_iload_1 81 h.1 dX0_personOn_81 ?_
    refine g_aload_0 82 h.1 dX0_personOn_82 ?_
    refine g_iload_2 83 h.1 dX0_personOn_83 ?_
    refine g_iconstv 84 _ ic_3 h.1 dX0_personOn_84 ?_
    refine g_iadd 85 h.1 dX0_personOn_85 ?_
    refine xcV_I_1 86 h (xm_X0_byteAt h.2.2.1 hw) (by decide) (Nat.le_of_eq (Nat.zero_add _)) (Nat.le_of_eq (Nat.zero_add _)) q1607 qs59 (fun H hI => x_recvK h rfl rfl hI) q1605 (Nat.le_of_ble_eq_true rfl) dX0_personOn_86 (fun r16 ν15 hw => ?_)
    obtain ⟨f19, hw⟩ := hw
    obtain ⟨f20, hw⟩ := hw
    refine xa_iast 89 f19 f20 h dX0_personOn_89 (fun ν17 e18 => ?_)
    have hw := hw ν17 e18
    refine g_aload_0 90 h.1 dX0_personOn_90 ?_
    refine g_aload_0 91 h.1 dX0_personOn_91 ?_
    refine g_iload_2 92 h.1 dX0_personOn_92 ?_
    refine xcV_I_1 93 h (xm_X0_byteAt h.2.2.1 hw) (by decide) (Nat.le_of_eq (Nat.zero_add _)) (Nat.le_of_eq (Nat.zero_add _)) q1607 qs59 (fun H hI => x_recvK h rfl rfl hI) q1605 (Nat.le_of_ble_eq_true rfl) dX0_personOn_93 (fun r22 ν21 hw => ?_)
    refine g_aload_0 96 h.1 dX0_personOn_96 ?_
    refine g_iload_2 97 h.1 dX0_personOn_97 ?_
    refine g_iconstv 98 _ ic_1 h.1 dX0_personOn_98 ?_
    refine g_iadd 99 h.1 dX0_personOn_99 ?_
    refine xcV_I_1 100 h (xm_X0_byteAt h.2.2.1 hw) (by decide) (Nat.le_of_eq (Nat.zero_add _)) (Nat.le_of_eq (Nat.zero_add _)) q1607 qs59 (fun H hI => x_recvK h rfl rfl hI) q1605 (Nat.le_of_ble_eq_true rfl) dX0_personOn_100 (fun r24 ν23 hw => ?_)
    refine xcV_I_2 103 h (xm_X0_isIn h.2.2.1 hw) (by decide) (Nat.le_of_eq (Nat.zero_add _)) (Nat.le_of_eq (Nat.zero_add _)) q1310 qs41 (fun H hI => x_recvK h rfl rfl hI) q1308 (Nat.le_of_ble_eq_true rfl) dX0_personOn_103 (fun r26 ν25 hw => ?_)
    refine g_if_eq 106 141 h.1 dX0_personOn_106 (by decide) (fun c => ?_) (fun c => ?_)
    · have hw := hw.1 c
      refine g_iconstv 141 _ ic_0 h.1 dX0_personOn_141 ?_
      exact hR.1 142 _ _ _ _ _ _ hT rfl dX0_personOn_142 ⟨_, rfl, hw⟩
    · have hw := hw.2 c
      refine g_aload_0 109 h.1 dX0_personOn_109 ?_
      refine g_iload_2 110 h.1 dX0_personOn_110 ?_
      refine g_iconstv 111 _ ic_2 h.1 dX0_personOn_111 ?_
      refine g_iadd 112 h.1 dX0_personOn_112 ?_
      refine xcV_I_1 113 h (xm_X0_byteAt h.2.2.1 hw) (by decide) (Nat.le_of_eq (Nat.zero_add _)) (Nat.le_of_eq (Nat.zero_add _)) q1607 qs59 (fun H hI => x_recvK h rfl rfl hI) q1605 (Nat.le_of_ble_eq_true rfl) dX0_personOn_113 (fun r28 ν27 hw => ?_)
      refine g_bipush 116 _ bp_9 h.1 dX0_personOn_116 ?_
      refine g_icmp_gt 118 141 h.1 dX0_personOn_118 (by decide) (fun c => ?_) (fun c => ?_)
      · have hw := hw.1 c
        refine g_iconstv 141 _ ic_0 h.1 dX0_personOn_141 ?_
        exact hR.1 142 _ _ _ _ _ _ hT rfl dX0_personOn_142 ⟨_, rfl, hw⟩
      · have hw := hw.2 c
        refine g_aload_0 121 h.1 dX0_personOn_121 ?_
        refine g_iload_2 122 h.1 dX0_personOn_122 ?_
        refine g_iconstv 123 _ ic_3 h.1 dX0_personOn_123 ?_
        refine g_iadd 124 h.1 dX0_personOn_124 ?_
        refine xcV_I_1 125 h (xm_X0_byteAt h.2.2.1 hw) (by decide) (Nat.le_of_eq (Nat.zero_add _)) (Nat.le_of_eq (Nat.zero_add _)) q1607 qs59 (fun H hI => x_recvK h rfl rfl hI) q1605 (Nat.le_of_ble_eq_true rfl) dX0_personOn_125 (fun r30 ν29 hw => ?_)
        refine g_iconstv 128 _ ic_1 h.1 dX0_personOn_128 ?_
        refine g_aload_0 129 h.1 dX0_personOn_129 ?_
        refine xcV_I_0 130 h (xm_X0_topics h.2.2.1 hw) (by decide) (Nat.le_of_eq (Nat.zero_add _)) (Nat.le_of_eq (Nat.zero_add _)) q1301 qs39 (fun H hI => x_recvK h rfl rfl hI) q1299 (Nat.le_of_ble_eq_true rfl) dX0_personOn_130 (fun r32 ν31 hw => ?_)
        refine g_ishl 133 h.1 dX0_personOn_133 ?_
        refine g_icmp_ge 134 141 h.1 dX0_personOn_134 (by decide) (fun c => ?_) (fun c => ?_)
        · have hw := hw.1 c
          refine g_iconstv 141 _ ic_0 h.1 dX0_personOn_141 ?_
          exact hR.1 142 _ _ _ _ _ _ hT rfl dX0_personOn_142 ⟨_, rfl, hw⟩
        · have hw := hw.2 c
          refine g_iconstv 137 _ ic_1 h.1 dX0_personOn_137 ?_
          refine g_goto 138 142 h.1 dX0_personOn_138 (by decide) ?_
          exact hR.1 142 _ _ _ _ _ _ hT rfl dX0_personOn_142 ⟨_, rfl, hw⟩
  · have hw := hw.2 c
    refine g_aload_0 26 h.1 dX0_personOn_26 ?_
    refine xg_X0_73_0 27 h dX0_personOn_27 ?_
    refine xg_X0_216_5 30 rfl h dX0_personOn_30 ?_
    refine g_iload_4 33 h.1 dX0_personOn_33 ?_
    obtain ⟨f33, hw⟩ := hw
    obtain ⟨f34, hw⟩ := hw
    refine xa_iald 35 f33 f34 h dX0_personOn_35 ?_
    refine g_iload_3 36 h.1 dX0_personOn_36 ?_
    refine g_icmp_ne 37 42 h.1 dX0_personOn_37 (by decide) (fun c => ?_) (fun c => ?_)
    · have hw := hw.1 c
      refine g_iinc_4 42 (x4 + 1) (congrArg _ ic_1) h.1 rfl dX0_personOn_42 ?_
      refine g_goto 45 20 h.1 dX0_personOn_45 (by decide) ?_
      exact g_le (hX20 _ _ _ _ _ hw) ⟨rfl, rfl, rfl, rfl, rfl, trivial⟩
    · have hw := hw.2 c
      refine g_iconstv 40 _ ic_0 h.1 dX0_personOn_40 ?_
      exact hR.1 41 _ _ _ _ _ _ hT rfl dX0_personOn_41 ⟨_, rfl, hw⟩
def xw_X0_personOn (x1 : Int32) (x2 : Int32) (ν : XN) (Q : Int32 → XN → Prop) : Prop :=
  (xw_X0_byteAt (x2 + (1 : Int32)) ν (fun r2 ν1 => (xw_X0_byteAt x2 ν1 (fun r4 ν3 => xw_X0_personOn_20 x1 x2 (((8 : Int32) * r2) + r4) (0 : Int32) ν3 Q))))
theorem xt_X0_personOn {κ : Cx} {S : Adr} {A : Nat → Prop} {Z : State → Prop} {Q : Int32 → XN → Prop} (h : XCx κ cX0_personOn RX0 S A 3 0 0) (hT : (cxT κ).sig.returnType = some .boolean) (hN : (cxT κ).name = "personOn") (hR : xRet κ S A 0 0 Z cX0_personOn (pI Q)) {x1 : Int32} {x2 : Int32} {ν : XN} (hw : xw_X0_personOn x1 x2 ν Q) : XG κ S A 0 0 Z 0 (ν, 0, 0) [some (.ref (S.2.1 0)), some (.int x1), some (.int x2), none, none] [] := by
  unfold xw_X0_personOn at hw
  refine g_bipush 0 _ bp_8 h.1 dX0_personOn_0 ?_
  refine g_aload_0 2 h.1 dX0_personOn_2 ?_
  refine g_iload_2 3 h.1 dX0_personOn_3 ?_
  refine g_iconstv 4 _ ic_1 h.1 dX0_personOn_4 ?_
  refine g_iadd 5 h.1 dX0_personOn_5 ?_
  refine xcV_I_1 6 h (xm_X0_byteAt h.2.2.1 hw) (by decide) (Nat.le_of_eq (Nat.zero_add _)) (Nat.le_of_eq (Nat.zero_add _)) q1607 qs59 (fun H hI => x_recvK h rfl rfl hI) q1605 (Nat.le_of_ble_eq_true rfl) dX0_personOn_6 (fun r2 ν1 hw => ?_)
  refine g_imul 9 h.1 dX0_personOn_9 ?_
  refine g_aload_0 10 h.1 dX0_personOn_10 ?_
  refine g_iload_2 11 h.1 dX0_personOn_11 ?_
  refine xcV_I_1 12 h (xm_X0_byteAt h.2.2.1 hw) (by decide) (Nat.le_of_eq (Nat.zero_add _)) (Nat.le_of_eq (Nat.zero_add _)) q1607 qs59 (fun H hI => x_recvK h rfl rfl hI) q1605 (Nat.le_of_ble_eq_true rfl) dX0_personOn_12 (fun r4 ν3 hw => ?_)
  refine g_iadd 15 h.1 dX0_personOn_15 ?_
  refine g_istore_3 16 h.1 rfl dX0_personOn_16 ?_
  refine g_iconstv 17 _ ic_0 h.1 dX0_personOn_17 ?_
  refine g_istore_4 18 h.1 rfl dX0_personOn_18 ?_
  exact g_le (xt_X0_personOn_20 h hT hN hR hw) ⟨rfl, rfl, rfl, rfl, rfl, trivial⟩
theorem xm_X0_personOn {l : Launch} {S : Adr} {A : Nat → Prop} (hD : FD xT S xcl A) {x1 : Int32} {x2 : Int32} {ν : XN} {Q : Int32 → XN → Prop} (hw : xw_X0_personOn x1 x2 ν Q) : xMet l S A 3 0 0 2 yX0_personOn [.ref (S.2.1 0), .int x1, .int x2] ν (pI Q) :=
  x_met (plainFor_of_name (by decide)) hD ⟨⟨by decide, by decide, by show _ = some 2; decide +kernel⟩, by decide, q1747, q171⟩ (Nat.le_of_ble_eq_true rfl) (fun κ Z h hT hN hR => xt_X0_personOn h hT hN hR hw)
def xw_X0_comesOn_161 (X110 : Int32 → Int32 → XN → Prop) (x4 : Int32) (x5 : Int32) (ν : XN) (Q : Int32 → XN → Prop) : Prop :=
  X110 x4 (x5 + 1) ν
theorem xt_X0_comesOn_161 {κ : Cx} {S : Adr} {A : Nat → Prop} {Z : State → Prop} {Q : Int32 → XN → Prop} (h : XCx κ cX0_comesOn RX0 S A 4 0 0) (hT : (cxT κ).sig.returnType = some .boolean) (hN : (cxT κ).name = "comesOn") (hR : xRet κ S A 0 0 Z cX0_comesOn (pI Q)) {X110 : Int32 → Int32 → XN → Prop} (hX110 : ∀ (x4 : Int32) (x5 : Int32) (ν : XN), X110 x4 x5 ν → XG κ S A 0 0 Z 110 (ν, 0, 0) [some (.ref (S.2.1 0)), none, none, none, some (.int x4), some (.int x5)] []) {x4 : Int32} {x5 : Int32} {ν : XN} (hw : xw_X0_comesOn_161 X110 x4 x5 ν Q) : XG κ S A 0 0 Z 161 (ν, 0, 0) [some (.ref (S.2.1 0)), none, none, none, some (.int x4), some (.int x5)] [] := by
  unfold xw_X0_comesOn_161 at hw
  refine g_iinc_5 161 (x5 + 1) (congrArg _ ic_1) h.1 rfl dX0_comesOn_161 ?_
  refine g_goto 164 110 h.1 dX0_comesOn_164 (by decide) ?_
  exact g_le (hX110 _ _ _ hw) ⟨rfl, rfl, rfl, trivial⟩
def xw_X0_comesOn_170 (x4 : Int32) (x5 : Int32) (ν : XN) (Q : Int32 → XN → Prop) : Prop :=
  ∀ X170 : Int32 → Int32 → XN → Prop, (∀ (x4 : Int32) (x5 : Int32) (ν : XN), (xw_X0_people ν (fun r37 ν36 => ((r37 ≤ x5 → Q (1 : Int32) ν36) ∧ (¬ r37 ≤ x5 → (xw_X0_personOn x5 (x4 + ((4 : Int32) * x5)) ν36 (fun r39 ν38 => ((¬ r39 = 0 → X170 x4 (x5 + 1) ν38) ∧ (r39 = 0 → Q (0 : Int32) ν38)))))))) → X170 x4 x5 ν) → X170 x4 x5 ν
theorem xt_X0_comesOn_170 {κ : Cx} {S : Adr} {A : Nat → Prop} {Z : State → Prop} {Q : Int32 → XN → Prop} (h : XCx κ cX0_comesOn RX0 S A 4 0 0) (hT : (cxT κ).sig.returnType = some .boolean) (hN : (cxT κ).name = "comesOn") (hR : xRet κ S A 0 0 Z cX0_comesOn (pI Q)) {x4 : Int32} {x5 : Int32} {ν : XN} (hw : xw_X0_comesOn_170 x4 x5 ν Q) : XG κ S A 0 0 Z 170 (ν, 0, 0) [some (.ref (S.2.1 0)), none, none, none, some (.int x4), some (.int x5)] [] := by
  refine hw (fun x4 x5 ν => XG κ S A 0 0 Z 170 (ν, 0, 0) [some (.ref (S.2.1 0)), none, none, none, some (.int x4), some (.int x5)] []) ?_
  clear hw
  intro x4 x5 ν hw
  have hX170 : ∀ (x4 : Int32) (x5 : Int32) (ν : XN), XG κ S A 0 0 Z 170 (ν, 0, 0) [some (.ref (S.2.1 0)), none, none, none, some (.int x4), some (.int x5)] [] → XG κ S A 0 0 Z 170 (ν, 0, 0) [some (.ref (S.2.1 0)), none, none, none, some (.int x4), some (.int x5)] [] := fun _ _ _ hh => hh
  refine g_iload_5 170 h.1 dX0_comesOn_170 ?_
  refine g_aload_0 172 h.1 dX0_comesOn_172 ?_
  refine xcV_I_0 173 h (xm_X0_people h.2.2.1 hw) (by decide) (Nat.le_of_eq (Nat.zero_add _)) (Nat.le_of_eq (Nat.zero_add _)) q1284 qs38 (fun H hI => x_recvK h rfl rfl hI) q1303 (Nat.le_of_ble_eq_true rfl) dX0_comesOn_173 (fun r37 ν36 hw => ?_)
  refine g_icmp_ge 176 203 h.1 dX0_comesOn_176 (by decide) (fun c => ?_) (fun c => ?_)
  · have hw := hw.1 c
    refine g_iconstv 203 _ ic_1 h.1 dX0_comesOn_203 ?_
    exact hR.1 204 _ _ _ _ _ _ hT rfl dX0_comesOn_204 ⟨_, rfl, hw⟩
  · have hw := hw.2 c
    refine g_aload_0 179 h.1 dX0_comesOn_179 ?_
    refine g_iload_5 180 h.1 dX0_comesOn_180 ?_
    refine g_iload_4 182 h.1 dX0_comesOn_182 ?_
    refine g_iconstv 184 _ ic_4 h.1 dX0_comesOn_184 ?_
    refine g_iload_5 185 h.1 dX0_comesOn_185 ?_
    refine g_imul 187 h.1 dX0_comesOn_187 ?_
    refine g_iadd 188 h.1 dX0_comesOn_188 ?_
    refine xcV_I_2 189 h (xm_X0_personOn h.2.2.1 hw) (by decide) (Nat.le_of_eq (Nat.zero_add _)) (Nat.le_of_eq (Nat.zero_add _)) q1746 qs66 (fun H hI => x_recvK h rfl rfl hI) q1744 (Nat.le_of_ble_eq_true rfl) dX0_comesOn_189 (fun r39 ν38 hw => ?_)
    refine g_if_ne 192 197 h.1 dX0_comesOn_192 (by decide) (fun c => ?_) (fun c => ?_)
    · have hw := hw.1 c
      refine g_iinc_5 197 (x5 + 1) (congrArg _ ic_1) h.1 rfl dX0_comesOn_197 ?_
      refine g_goto 200 170 h.1 dX0_comesOn_200 (by decide) ?_
      exact g_le (hX170 _ _ _ hw) ⟨rfl, rfl, rfl, trivial⟩
    · have hw := hw.2 c
      refine g_iconstv 195 _ ic_0 h.1 dX0_comesOn_195 ?_
      exact hR.1 196 _ _ _ _ _ _ hT rfl dX0_comesOn_196 ⟨_, rfl, hw⟩
def xw_X0_comesOn_110 (x4 : Int32) (x5 : Int32) (ν : XN) (Q : Int32 → XN → Prop) : Prop :=
  ∀ X110 : Int32 → Int32 → XN → Prop, (∀ (x4 : Int32) (x5 : Int32) (ν : XN), (((64 : Int32) ≤ x5 → xw_X0_comesOn_170 x4 (0 : Int32) ν Q) ∧ (¬ (64 : Int32) ≤ x5 → (xw_X0_isCell x5 ν (fun r27 ν26 => ((¬ r27 = 0 → (xw_X0_byteAt x4 ν26 (fun r29 ν28 => (xok 1 (xft 11 3) ∧ (vp_in x5 (xlen (xft 11 3)) ∧ (∀ ν30, ν30 = (sA ν28.1 (xft 11 3) (Int32.toNatClampNeg x5) r29, ν28.2) → (xw_X0_byteAt x4 ν30 (fun r35 ν34 => ((r35 ≤ (99 : Int32) → xw_X0_comesOn_161 X110 (x4 + 1) x5 ν34 Q) ∧ (¬ r35 ≤ (99 : Int32) → Q (0 : Int32) ν34)))))))))) ∧ (r27 = 0 → xw_X0_comesOn_161 X110 x4 x5 ν26 Q)))))) → X110 x4 x5 ν) → X110 x4 x5 ν
theorem xt_X0_comesOn_110 {κ : Cx} {S : Adr} {A : Nat → Prop} {Z : State → Prop} {Q : Int32 → XN → Prop} (h : XCx κ cX0_comesOn RX0 S A 4 0 0) (hT : (cxT κ).sig.returnType = some .boolean) (hN : (cxT κ).name = "comesOn") (hR : xRet κ S A 0 0 Z cX0_comesOn (pI Q)) {x4 : Int32} {x5 : Int32} {ν : XN} (hw : xw_X0_comesOn_110 x4 x5 ν Q) : XG κ S A 0 0 Z 110 (ν, 0, 0) [some (.ref (S.2.1 0)), none, none, none, some (.int x4), some (.int x5)] [] := by
  refine hw (fun x4 x5 ν => XG κ S A 0 0 Z 110 (ν, 0, 0) [some (.ref (S.2.1 0)), none, none, none, some (.int x4), some (.int x5)] []) ?_
  clear hw
  intro x4 x5 ν hw
  have hX110 : ∀ (x4 : Int32) (x5 : Int32) (ν : XN), XG κ S A 0 0 Z 110 (ν, 0, 0) [some (.ref (S.2.1 0)), none, none, none, some (.int x4), some (.int x5)] [] → XG κ S A 0 0 Z 110 (ν, 0, 0) [some (.ref (S.2.1 0)), none, none, none, some (.int x4), some (.int x5)] [] := fun _ _ _ hh => hh
  refine g_iload_5 110 h.1 dX0_comesOn_110 ?_
  refine g_bipush 112 _ bp_64 h.1 dX0_comesOn_112 ?_
  refine g_icmp_ge 114 167 h.1 dX0_comesOn_114 (by decide) (fun c => ?_) (fun c => ?_)
  · have hw := hw.1 c
    refine g_iconstv 167 _ ic_0 h.1 dX0_comesOn_167 ?_
    refine g_istore_5 168 h.1 rfl dX0_comesOn_168 ?_
    exact g_le (xt_X0_comesOn_170 h hT hN hR hw) ⟨rfl, rfl, rfl, trivial⟩
  · have hw := hw.2 c
    refine g_aload_0 117 h.1 dX0_comesOn_117 ?_
    refine g_iload_5 118 h.1 dX0_comesOn_118 ?_
    refine xcV_I_1 120 h (xm_X0_isCell h.2.2.1 hw) (by decide) (Nat.le_of_eq (Nat.zero_add _)) (Nat.le_of_eq (Nat.zero_add _)) q1306 qs40 (fun H hI => x_recvK h rfl rfl hI) q1304 (Nat.le_of_ble_eq_true rfl) dX0_comesOn_120 (fun r27 ν26 hw => ?_)
    refine g_if_ne 123 129 h.1 dX0_comesOn_123 (by decide) (fun c => ?_) (fun c => ?_)
    · have hw := hw.1 c
      refine g_aload_0 129 h.1 dX0_comesOn_129 ?_
      refine xg_X0_73_0 130 h dX0_comesOn_130 ?_
      refine xg_X0_198_5 133 rfl h dX0_comesOn_133 ?_
      refine g_iload_5 136 h.1 dX0_comesOn_136 ?_
      refine g_aload_0 138 h.1 dX0_comesOn_138 ?_
      refine g_iload_4 139 h.1 dX0_comesOn_139 ?_
      refine xcV_I_1 141 h (xm_X0_byteAt h.2.2.1 hw) (by decide) (Nat.le_of_eq (Nat.zero_add _)) (Nat.le_of_eq (Nat.zero_add _)) q1607 qs59 (fun H hI => x_recvK h rfl rfl hI) q1605 (Nat.le_of_ble_eq_true rfl) dX0_comesOn_141 (fun r29 ν28 hw => ?_)
      obtain ⟨f32, hw⟩ := hw
      obtain ⟨f33, hw⟩ := hw
      refine xa_iast 144 f32 f33 h dX0_comesOn_144 (fun ν30 e31 => ?_)
      have hw := hw ν30 e31
      refine g_aload_0 145 h.1 dX0_comesOn_145 ?_
      refine g_iload_4 146 h.1 dX0_comesOn_146 ?_
      refine xcV_I_1 148 h (xm_X0_byteAt h.2.2.1 hw) (by decide) (Nat.le_of_eq (Nat.zero_add _)) (Nat.le_of_eq (Nat.zero_add _)) q1607 qs59 (fun H hI => x_recvK h rfl rfl hI) q1605 (Nat.le_of_ble_eq_true rfl) dX0_comesOn_148 (fun r35 ν34 hw => ?_)
      refine g_bipush 151 _ bp_99 h.1 dX0_comesOn_151 ?_
      refine g_icmp_le 153 158 h.1 dX0_comesOn_153 (by decide) (fun c => ?_) (fun c => ?_)
      · have hw := hw.1 c
        refine g_iinc_4 158 (x4 + 1) (congrArg _ ic_1) h.1 rfl dX0_comesOn_158 ?_
        exact g_le (xt_X0_comesOn_161 h hT hN hR hX110 hw) ⟨rfl, rfl, rfl, trivial⟩
      · have hw := hw.2 c
        refine g_iconstv 156 _ ic_0 h.1 dX0_comesOn_156 ?_
        exact hR.1 157 _ _ _ _ _ _ hT rfl dX0_comesOn_157 ⟨_, rfl, hw⟩
    · have hw := hw.2 c
      refine g_goto 126 161 h.1 dX0_comesOn_126 (by decide) ?_
      exact g_le (xt_X0_comesOn_161 h hT hN hR hX110 hw) ⟨rfl, rfl, rfl, trivial⟩
def xw_X0_comesOn (x1 : Int32) (ν : XN) (Q : Int32 → XN → Prop) : Prop :=
  (∃ b1, fR ν.1 0 0 = .ref b1 ∧ (rc ν.2 b1 = 2 ∧ (∃ b4, fR ν.1 0 0 = .ref b4 ∧ (rc ν.2 b4 = 2 ∧ (xw_X0_byteAt (0 : Int32) ν (fun r8 ν7 => (xw_X0_byteAt (1 : Int32) ν7 (fun r10 ν9 => (xw_X0_isPlain ν9 (fun r12 ν11 => ((r12 = 0 → Q (0 : Int32) ν11) ∧ (¬ r12 = 0 → (xw_X0_people ν11 (fun r14 ν13 => ((¬ x1 = (((3 : Int32) + ((rI ν.2 b1 1) * (rI ν.2 b4 2))) + ((4 : Int32) * r14)) → Q (0 : Int32) ν13) ∧ (x1 = (((3 : Int32) + ((rI ν.2 b1 1) * (rI ν.2 b4 2))) + ((4 : Int32) * r14)) → (xw_X0_byteAt (x1 - (1 : Int32)) ν13 (fun r16 ν15 => (xw_X0_check 0 (x1 - (1 : Int32)) ν15 (fun r18 ν17 => ((¬ r16 = r18 → Q (0 : Int32) ν17) ∧ (r16 = r18 → ((((r8 <<< ((8 : Int32) &&& 31)) ||| r10) ≤ (999 : Int32) → (xw_X5_copy 11 10 ν17 (fun r20 ν19 => (xoc r20 = 5 ∧ (∀ ν21, ν21 = (sI ν19.1 r20 0 ((r8 <<< ((8 : Int32) &&& 31)) ||| r10), ν19.2) → (∀ ν24, ν24 = (sI ν21.1 11 1 (0 : Int32), ν21.2) → xw_X0_comesOn_110 (2 : Int32) (0 : Int32) ν24 Q)))))) ∧ (¬ ((r8 <<< ((8 : Int32) &&& 31)) ||| r10) ≤ (999 : Int32) → Q (0 : Int32) ν17))))))))))))))))))))))))
theorem xt_X0_comesOn {κ : Cx} {S : Adr} {A : Nat → Prop} {Z : State → Prop} {Q : Int32 → XN → Prop} (h : XCx κ cX0_comesOn RX0 S A 4 0 0) (hT : (cxT κ).sig.returnType = some .boolean) (hN : (cxT κ).name = "comesOn") (hR : xRet κ S A 0 0 Z cX0_comesOn (pI Q)) {x1 : Int32} {ν : XN} (hw : xw_X0_comesOn x1 ν Q) : XG κ S A 0 0 Z 0 (ν, 0, 0) [some (.ref (S.2.1 0)), some (.int x1), none, none, none, none] [] := by
  unfold xw_X0_comesOn at hw
  refine g_aload_0 0 h.1 dX0_comesOn_0 ?_
  refine xg_X0_31_0 1 h dX0_comesOn_1 ?_
  obtain ⟨b1, e2, hw⟩ := hw
  rw [e2]
  obtain ⟨f3, hw⟩ := hw
  refine xg_X0_157_1 4 f3 h dX0_comesOn_4 ?_
  refine g_aload_0 7 h.1 dX0_comesOn_7 ?_
  refine xg_X0_31_0 8 h dX0_comesOn_8 ?_
  obtain ⟨b4, e5, hw⟩ := hw
  rw [e5]
  obtain ⟨f6, hw⟩ := hw
  refine xg_X0_180_1 11 f6 h dX0_comesOn_11 ?_
  refine g_imul 14 h.1 dX0_comesOn_14 ?_
  refine g_istore_2 15 h.1 rfl dX0_comesOn_15 ?_
  refine g_aload_0 16 h.1 dX0_comesOn_16 ?_
  refine g_iconstv 17 _ ic_0 h.1 dX0_comesOn_17 ?_
  refine xcV_I_1 18 h (xm_X0_byteAt h.2.2.1 hw) (by decide) (Nat.le_of_eq (Nat.zero_add _)) (Nat.le_of_eq (Nat.zero_add _)) q1607 qs59 (fun H hI => x_recvK h rfl rfl hI) q1605 (Nat.le_of_ble_eq_true rfl) dX0_comesOn_18 (fun r8 ν7 hw => ?_)
  refine g_bipush 21 _ bp_8 h.1 dX0_comesOn_21 ?_
  refine g_ishl 23 h.1 dX0_comesOn_23 ?_
  refine g_aload_0 24 h.1 dX0_comesOn_24 ?_
  refine g_iconstv 25 _ ic_1 h.1 dX0_comesOn_25 ?_
  refine xcV_I_1 26 h (xm_X0_byteAt h.2.2.1 hw) (by decide) (Nat.le_of_eq (Nat.zero_add _)) (Nat.le_of_eq (Nat.zero_add _)) q1607 qs59 (fun H hI => x_recvK h rfl rfl hI) q1605 (Nat.le_of_ble_eq_true rfl) dX0_comesOn_26 (fun r10 ν9 hw => ?_)
  refine g_ior 29 h.1 dX0_comesOn_29 ?_
  refine g_istore_3 30 h.1 rfl dX0_comesOn_30 ?_
  refine g_aload_0 31 h.1 dX0_comesOn_31 ?_
  refine xcV_I_0 32 h (xm_X0_isPlain h.2.2.1 hw) (by decide) (Nat.le_of_eq (Nat.zero_add _)) (Nat.le_of_eq (Nat.zero_add _)) q1512 qs52 (fun H hI => x_recvK h rfl rfl hI) q1510 (Nat.le_of_ble_eq_true rfl) dX0_comesOn_32 (fun r12 ν11 hw => ?_)
  refine g_if_eq 35 79 h.1 dX0_comesOn_35 (by decide) (fun c => ?_) (fun c => ?_)
  · have hw := hw.1 c
    refine g_iconstv 79 _ ic_0 h.1 dX0_comesOn_79 ?_
    exact hR.1 80 _ _ _ _ _ _ hT rfl dX0_comesOn_80 ⟨_, rfl, hw⟩
  · have hw := hw.2 c
    refine g_iload_1 38 h.1 dX0_comesOn_38 ?_
    refine g_iconstv 39 _ ic_3 h.1 dX0_comesOn_39 ?_
    refine g_iload_2 40 h.1 dX0_comesOn_40 ?_
    refine g_iadd 41 h.1 dX0_comesOn_41 ?_
    refine g_iconstv 42 _ ic_4 h.1 dX0_comesOn_42 ?_
    refine g_aload_0 43 h.1 dX0_comesOn_43 ?_
    refine xcV_I_0 44 h (xm_X0_people h.2.2.1 hw) (by decide) (Nat.le_of_eq (Nat.zero_add _)) (Nat.le_of_eq (Nat.zero_add _)) q1284 qs38 (fun H hI => x_recvK h rfl rfl hI) q1303 (Nat.le_of_ble_eq_true rfl) dX0_comesOn_44 (fun r14 ν13 hw => ?_)
    refine g_imul 47 h.1 dX0_comesOn_47 ?_
    refine g_iadd 48 h.1 dX0_comesOn_48 ?_
    refine g_icmp_ne 49 79 h.1 dX0_comesOn_49 (by decide) (fun c => ?_) (fun c => ?_)
    · have hw := hw.1 c
      refine g_iconstv 79 _ ic_0 h.1 dX0_comesOn_79 ?_
      exact hR.1 80 _ _ _ _ _ _ hT rfl dX0_comesOn_80 ⟨_, rfl, hw⟩
    · have hw := hw.2 c
      refine g_aload_0 52 h.1 dX0_comesOn_52 ?_
      refine g_iload_1 53 h.1 dX0_comesOn_53 ?_
      refine g_iconstv 54 _ ic_1 h.1 dX0_comesOn_54 ?_
      refine g_isub 55 h.1 dX0_comesOn_55 ?_
      refine xcV_I_1 56 h (xm_X0_byteAt h.2.2.1 hw) (by decide) (Nat.le_of_eq (Nat.zero_add _)) (Nat.le_of_eq (Nat.zero_add _)) q1607 qs59 (fun H hI => x_recvK h rfl rfl hI) q1605 (Nat.le_of_ble_eq_true rfl) dX0_comesOn_56 (fun r16 ν15 hw => ?_)
      refine g_aload_0 59 h.1 dX0_comesOn_59 ?_
      refine xg_X0_35_0 60 h dX0_comesOn_60 ?_
      refine g_iload_1 63 h.1 dX0_comesOn_63 ?_
      refine g_iconstv 64 _ ic_1 h.1 dX0_comesOn_64 ?_
      refine g_isub 65 h.1 dX0_comesOn_65 ?_
      refine xcS_I_2 66 h (xm_X0_check h.2.2.1 hw) (by decide) (Nat.le_of_eq (Nat.zero_add _)) (Nat.le_of_eq (Nat.zero_add _)) q1730 q1729 (Nat.le_of_ble_eq_true rfl) dX0_comesOn_66 (fun r18 ν17 hw => ?_)
      refine g_icmp_ne 69 79 h.1 dX0_comesOn_69 (by decide) (fun c => ?_) (fun c => ?_)
      · have hw := hw.1 c
        refine g_iconstv 79 _ ic_0 h.1 dX0_comesOn_79 ?_
        exact hR.1 80 _ _ _ _ _ _ hT rfl dX0_comesOn_80 ⟨_, rfl, hw⟩
      · have hw := hw.2 c
        refine g_iload_3 72 h.1 dX0_comesOn_72 ?_
        refine g_sipush 73 _ sp_999 h.1 dX0_comesOn_73 ?_
        refine g_icmp_le 76 81 h.1 dX0_comesOn_76 (by decide) (fun c => ?_) (fun c => ?_)
        · have hw := hw.1 c
          refine g_aload_0 81 h.1 dX0_comesOn_81 ?_
          refine xg_X0_73_0 82 h dX0_comesOn_82 ?_
          refine g_aload_0 85 h.1 dX0_comesOn_85 ?_
          refine xg_X0_69_0 86 h dX0_comesOn_86 ?_
          refine xcV_K_1 89 h (xm_X5_copy h.2.2.1 hw) (by decide) (Nat.le_of_eq (Nat.zero_add _)) (Nat.le_of_eq (Nat.zero_add _)) q1436 q1437 (fun H hI => x_recvK h rfl rfl hI) q1435 (Nat.le_of_ble_eq_true rfl) dX0_comesOn_89 (fun r20 ν19 hw => ?_)
          refine g_iload_3 92 h.1 dX0_comesOn_92 ?_
          obtain ⟨f23, hw⟩ := hw
          refine xp_X0_191_5 93 f23 h dX0_comesOn_93 (fun ν21 e22 => ?_)
          have hw := hw ν21 e22
          refine g_aload_0 96 h.1 dX0_comesOn_96 ?_
          refine xg_X0_73_0 97 h dX0_comesOn_97 ?_
          refine g_iconstv 100 _ ic_0 h.1 dX0_comesOn_100 ?_
          refine xp_X0_201_5 101 rfl h dX0_comesOn_101 (fun ν24 e25 => ?_)
          have hw := hw ν24 e25
          refine g_iconstv 104 _ ic_2 h.1 dX0_comesOn_104 ?_
          refine g_istore_4 105 h.1 rfl dX0_comesOn_105 ?_
          refine g_iconstv 107 _ ic_0 h.1 dX0_comesOn_107 ?_
          refine g_istore_5 108 h.1 rfl dX0_comesOn_108 ?_
          exact g_le (xt_X0_comesOn_110 h hT hN hR hw) ⟨rfl, rfl, rfl, trivial⟩
        · have hw := hw.2 c
          refine g_iconstv 79 _ ic_0 h.1 dX0_comesOn_79 ?_
          exact hR.1 80 _ _ _ _ _ _ hT rfl dX0_comesOn_80 ⟨_, rfl, hw⟩
theorem xm_X0_comesOn {l : Launch} {S : Adr} {A : Nat → Prop} (hD : FD xT S xcl A) {x1 : Int32} {ν : XN} {Q : Int32 → XN → Prop} (hw : xw_X0_comesOn x1 ν Q) : xMet l S A 4 0 0 1 yX0_comesOn [.ref (S.2.1 0), .int x1] ν (pI Q) :=
  x_met (plainFor_of_name (by decide)) hD ⟨⟨by decide, by decide, by show _ = some 1; decide +kernel⟩, by decide, q1743, q171⟩ (Nat.le_of_ble_eq_true rfl) (fun κ Z h hT hN hR => xt_X0_comesOn h hT hN hR hw)
def xw_X0_days_46 (VA : Nat → Nat → XN → (Int64 → XN → Prop) → Prop) (TA : Nat → Nat → XN → (Int32 → XN → Prop) → Prop) (X25 : Int32 → Int32 → Int32 → XN → Prop) (x1 : Int32) (x3 : Int32) (y0 : Int32) (y1 : Int32) (ν : XN) (Q : Int32 → XN → Prop) : Prop :=
  X25 x1 (y1 + y0) (x3 + 1) ν
theorem xt_X0_days_46 {κ : Cx} {S : Adr} {A : Nat → Prop} {Z : State → Prop} {Q : Int32 → XN → Prop} {dV : Nat} {VA : Nat → Nat → XN → (Int64 → XN → Prop) → Prop} {TA : Nat → Nat → XN → (Int32 → XN → Prop) → Prop} (hV : HVT S A dV VA TA) (h : XCx κ cX0_days RX0 S A (dV + 9) 0 0) (hT : (cxT κ).sig.returnType = some .int) (hN : (cxT κ).name = "days") (hR : xRet κ S A 0 0 Z cX0_days (pI Q)) {X25 : Int32 → Int32 → Int32 → XN → Prop} (hX25 : ∀ (x1 : Int32) (x2 : Int32) (x3 : Int32) (ν : XN), X25 x1 x2 x3 ν → XG κ S A 0 0 Z 25 (ν, 0, 0) [some (.ref (S.2.1 0)), some (.int x1), some (.int x2), some (.int x3)] []) {x1 : Int32} {x3 : Int32} {y0 : Int32} {y1 : Int32} {ν : XN} (hw : xw_X0_days_46 VA TA X25 x1 x3 y0 y1 ν Q) : XG κ S A 0 0 Z 46 (ν, 0, 0) [some (.ref (S.2.1 0)), some (.int x1), none, some (.int x3)] [.int y0, .int y1] := by
  unfold xw_X0_days_46 at hw
  refine g_iadd 46 h.1 dX0_days_46 ?_
  refine g_istore_2 47 h.1 rfl dX0_days_47 ?_
  refine g_iinc_3 48 (x3 + 1) (congrArg _ ic_1) h.1 rfl dX0_days_48 ?_
  refine g_goto 51 25 h.1 dX0_days_51 (by decide) ?_
  exact g_le (hX25 _ _ _ _ hw) ⟨rfl, rfl, rfl, rfl, trivial⟩
def xw_X0_days_25 (VA : Nat → Nat → XN → (Int64 → XN → Prop) → Prop) (TA : Nat → Nat → XN → (Int32 → XN → Prop) → Prop) (x1 : Int32) (x2 : Int32) (x3 : Int32) (ν : XN) (Q : Int32 → XN → Prop) : Prop :=
  ∀ X25 : Int32 → Int32 → Int32 → XN → Prop, (∀ (x1 : Int32) (x2 : Int32) (x3 : Int32) (ν : XN), ((x1 ≤ x3 → Q x2 ν) ∧ (¬ x1 ≤ x3 → (xw_X5_passes VA TA 10 ν (fun r7 ν6 => ((r7 = 0 → xw_X0_days_46 VA TA X25 x1 x3 (0 : Int32) x2 ν6 Q) ∧ (¬ r7 = 0 → xw_X0_days_46 VA TA X25 x1 x3 (1 : Int32) x2 ν6 Q)))))) → X25 x1 x2 x3 ν) → X25 x1 x2 x3 ν
theorem xt_X0_days_25 {κ : Cx} {S : Adr} {A : Nat → Prop} {Z : State → Prop} {Q : Int32 → XN → Prop} {dV : Nat} {VA : Nat → Nat → XN → (Int64 → XN → Prop) → Prop} {TA : Nat → Nat → XN → (Int32 → XN → Prop) → Prop} (hV : HVT S A dV VA TA) (h : XCx κ cX0_days RX0 S A (dV + 9) 0 0) (hT : (cxT κ).sig.returnType = some .int) (hN : (cxT κ).name = "days") (hR : xRet κ S A 0 0 Z cX0_days (pI Q)) {x1 : Int32} {x2 : Int32} {x3 : Int32} {ν : XN} (hw : xw_X0_days_25 VA TA x1 x2 x3 ν Q) : XG κ S A 0 0 Z 25 (ν, 0, 0) [some (.ref (S.2.1 0)), some (.int x1), some (.int x2), some (.int x3)] [] := by
  refine hw (fun x1 x2 x3 ν => XG κ S A 0 0 Z 25 (ν, 0, 0) [some (.ref (S.2.1 0)), some (.int x1), some (.int x2), some (.int x3)] []) ?_
  clear hw
  intro x1 x2 x3 ν hw
  have hX25 : ∀ (x1 : Int32) (x2 : Int32) (x3 : Int32) (ν : XN), XG κ S A 0 0 Z 25 (ν, 0, 0) [some (.ref (S.2.1 0)), some (.int x1), some (.int x2), some (.int x3)] [] → XG κ S A 0 0 Z 25 (ν, 0, 0) [some (.ref (S.2.1 0)), some (.int x1), some (.int x2), some (.int x3)] [] := fun _ _ _ _ hh => hh
  refine g_iload_3 25 h.1 dX0_days_25 ?_
  refine g_iload_1 26 h.1 dX0_days_26 ?_
  refine g_icmp_ge 27 54 h.1 dX0_days_27 (by decide) (fun c => ?_) (fun c => ?_)
  · have hw := hw.1 c
    refine g_iload_2 54 h.1 dX0_days_54 ?_
    exact hR.1 55 _ _ _ _ _ _ hT rfl dX0_days_55 ⟨_, rfl, hw⟩
  · have hw := hw.2 c
    refine g_iload_2 30 h.1 dX0_days_30 ?_
    refine g_aload_0 31 h.1 dX0_days_31 ?_
    refine xg_X0_69_0 32 h dX0_days_32 ?_
    refine xcV_I_0 35 h (xm_X5_passes hV h.2.2.1 hw) (by omega) (Nat.le_of_eq (Nat.zero_add _)) (Nat.le_of_eq (Nat.zero_add _)) q1519 q1520 (fun H hI => x_recvK h rfl rfl hI) q1546 (Nat.le_of_ble_eq_true rfl) dX0_days_35 (fun r7 ν6 hw => ?_)
    refine g_if_eq 38 45 h.1 dX0_days_38 (by decide) (fun c => ?_) (fun c => ?_)
    · have hw := hw.1 c
      refine g_iconstv 45 _ ic_0 h.1 dX0_days_45 ?_
      exact g_le (xt_X0_days_46 hV h hT hN hR hX25 hw) ⟨rfl, rfl, rfl, trivial⟩
    · have hw := hw.2 c
      refine g_iconstv 41 _ ic_1 h.1 dX0_days_41 ?_
      refine g_goto 42 46 h.1 dX0_days_42 (by decide) ?_
      exact g_le (xt_X0_days_46 hV h hT hN hR hX25 hw) ⟨rfl, rfl, rfl, trivial⟩
def xw_X0_days (VA : Nat → Nat → XN → (Int64 → XN → Prop) → Prop) (TA : Nat → Nat → XN → (Int32 → XN → Prop) → Prop) (x1 : Int32) (ν : XN) (Q : Int32 → XN → Prop) : Prop :=
  (xw_X0_isAhead x1 (1 : Int32) (100 : Int32) ν (fun r2 ν1 => ((¬ r2 = 0 → (xw_X0_remembers ν1 (fun ν3 => xw_X0_days_25 VA TA x1 (0 : Int32) (0 : Int32) ν3 Q))) ∧ (r2 = 0 → (xw_X0_refuses (3 : Int32) ν1 (fun r5 ν4 => Q r5 ν4))))))
theorem xt_X0_days {κ : Cx} {S : Adr} {A : Nat → Prop} {Z : State → Prop} {Q : Int32 → XN → Prop} {dV : Nat} {VA : Nat → Nat → XN → (Int64 → XN → Prop) → Prop} {TA : Nat → Nat → XN → (Int32 → XN → Prop) → Prop} (hV : HVT S A dV VA TA) (h : XCx κ cX0_days RX0 S A (dV + 9) 0 0) (hT : (cxT κ).sig.returnType = some .int) (hN : (cxT κ).name = "days") (hR : xRet κ S A 0 0 Z cX0_days (pI Q)) {x1 : Int32} {ν : XN} (hw : xw_X0_days VA TA x1 ν Q) : XG κ S A 0 0 Z 0 (ν, 0, 0) [some (.ref (S.2.1 0)), some (.int x1), none, none] [] := by
  unfold xw_X0_days at hw
  refine g_aload_0 0 h.1 dX0_days_0 ?_
  refine g_iload_1 1 h.1 dX0_days_1 ?_
  refine g_iconstv 2 _ ic_1 h.1 dX0_days_2 ?_
  refine g_bipush 3 _ bp_100 h.1 dX0_days_3 ?_
  refine xcV_I_3 5 h (xm_X0_isAhead h.2.2.1 hw) (by omega) (Nat.le_of_eq (Nat.zero_add _)) (Nat.le_of_eq (Nat.zero_add _)) q1508 qs51 (fun H hI => x_recvK h rfl rfl hI) q1506 (Nat.le_of_ble_eq_true rfl) dX0_days_5 (fun r2 ν1 hw => ?_)
  refine g_if_ne 8 17 h.1 dX0_days_8 (by decide) (fun c => ?_) (fun c => ?_)
  · have hw := hw.1 c
    refine g_aload_0 17 h.1 dX0_days_17 ?_
    refine xcV_V_0 18 h (xm_X0_remembers h.2.2.1 hw) (by omega) (Nat.le_of_eq (Nat.zero_add _)) (Nat.le_of_eq (Nat.zero_add _)) q1637 qs62 (fun H hI => x_recvK h rfl rfl hI) q1635 (Nat.le_of_ble_eq_true rfl) dX0_days_18 (fun ν3 hw => ?_)
    refine g_iconstv 21 _ ic_0 h.1 dX0_days_21 ?_
    refine g_istore_2 22 h.1 rfl dX0_days_22 ?_
    refine g_iconstv 23 _ ic_0 h.1 dX0_days_23 ?_
    refine g_istore_3 24 h.1 rfl dX0_days_24 ?_
    exact g_le (xt_X0_days_25 hV h hT hN hR hw) ⟨rfl, rfl, rfl, rfl, trivial⟩
  · have hw := hw.2 c
    refine g_aload_0 11 h.1 dX0_days_11 ?_
    refine g_iconstv 12 _ ic_3 h.1 dX0_days_12 ?_
    refine xcV_I_1 13 h (xm_X0_refuses h.2.2.1 hw) (by omega) (Nat.le_of_eq (Nat.zero_add _)) (Nat.le_of_eq (Nat.zero_add _)) q559 qs1 (fun H hI => x_recvK h rfl rfl hI) q557 (Nat.le_of_ble_eq_true rfl) dX0_days_13 (fun r5 ν4 hw => ?_)
    exact hR.1 16 _ _ _ _ _ _ hT rfl dX0_days_16 ⟨_, rfl, hw⟩
theorem xm_X0_days {l : Launch} {S : Adr} {A : Nat → Prop} {dV : Nat} {VA : Nat → Nat → XN → (Int64 → XN → Prop) → Prop} {TA : Nat → Nat → XN → (Int32 → XN → Prop) → Prop} (hV : HVT S A dV VA TA) (hD : FD xT S xcl A) {x1 : Int32} {ν : XN} {Q : Int32 → XN → Prop} (hw : xw_X0_days VA TA x1 ν Q) : xMet l S A (dV + 9) 0 0 1 yX0_days [.ref (S.2.1 0), .int x1] ν (pI Q) :=
  x_met (plainFor_of_name (by decide)) hD ⟨⟨by decide, by decide, by show _ = some 1; decide +kernel⟩, by decide, q1658, q171⟩ (Nat.le_of_ble_eq_true rfl) (fun κ Z h hT hN hR => xt_X0_days hV h hT hN hR hw)
def xw_X0_ease_20 (ν : XN) (Q : Int32 → XN → Prop) : Prop :=
  (xw_X0_refuses (2 : Int32) ν (fun r11 ν10 => ((r11 < 0 → Q (0 : Int32) ν10) ∧ (¬ r11 < 0 → Q (1 : Int32) ν10))))
theorem xt_X0_ease_20 {κ : Cx} {S : Adr} {A : Nat → Prop} {Z : State → Prop} {Q : Int32 → XN → Prop} (h : XCx κ cX0_ease RX0 S A 4 0 0) (hT : (cxT κ).sig.returnType = some .boolean) (hN : (cxT κ).name = "ease") (hR : xRet κ S A 0 0 Z cX0_ease (pI Q)) {ν : XN} (hw : xw_X0_ease_20 ν Q) : XG κ S A 0 0 Z 20 (ν, 0, 0) [some (.ref (S.2.1 0)), none] [] := by
  unfold xw_X0_ease_20 at hw
  refine g_aload_0 20 h.1 dX0_ease_20 ?_
  refine g_iconstv 21 _ ic_2 h.1 dX0_ease_21 ?_
  refine xcV_I_1 22 h (xm_X0_refuses h.2.2.1 hw) (by decide) (Nat.le_of_eq (Nat.zero_add _)) (Nat.le_of_eq (Nat.zero_add _)) q559 qs1 (fun H hI => x_recvK h rfl rfl hI) q557 (Nat.le_of_ble_eq_true rfl) dX0_ease_22 (fun r11 ν10 hw => ?_)
  refine g_if_lt 25 32 h.1 dX0_ease_25 (by decide) (fun c => ?_) (fun c => ?_)
  · have hw := hw.1 c
    refine g_iconstv 32 _ ic_0 h.1 dX0_ease_32 ?_
    exact hR.1 33 _ _ _ _ _ _ hT rfl dX0_ease_33 ⟨_, rfl, hw⟩
  · have hw := hw.2 c
    refine g_iconstv 28 _ ic_1 h.1 dX0_ease_28 ?_
    refine g_goto 29 33 h.1 dX0_ease_29 (by decide) ?_
    exact hR.1 33 _ _ _ _ _ _ hT rfl dX0_ease_33 ⟨_, rfl, hw⟩
def xw_X0_ease (x1 : Int32) (ν : XN) (Q : Int32 → XN → Prop) : Prop :=
  (xw_X0_isPerson x1 ν (fun r2 ν1 => ((r2 = 0 → xw_X0_ease_20 ν1 Q) ∧ (¬ r2 = 0 → (xok 1 (xft 10 5) ∧ (vp_in x1 (xlen (xft 10 5)) ∧ ((¬ (fA ν1.1 (xft 10 5) (Int32.toNatClampNeg x1)) = 0 → (xw_X0_remembers ν1 (fun ν5 => (xok 1 (xft 10 5) ∧ (vp_in x1 (xlen (xft 10 5)) ∧ (∀ ν6, ν6 = (sA ν5.1 (xft 10 5) (Int32.toNatClampNeg x1) (0 : Int32), ν5.2) → Q (1 : Int32) ν6)))))) ∧ ((fA ν1.1 (xft 10 5) (Int32.toNatClampNeg x1)) = 0 → xw_X0_ease_20 ν1 Q))))))))
theorem xt_X0_ease {κ : Cx} {S : Adr} {A : Nat → Prop} {Z : State → Prop} {Q : Int32 → XN → Prop} (h : XCx κ cX0_ease RX0 S A 4 0 0) (hT : (cxT κ).sig.returnType = some .boolean) (hN : (cxT κ).name = "ease") (hR : xRet κ S A 0 0 Z cX0_ease (pI Q)) {x1 : Int32} {ν : XN} (hw : xw_X0_ease x1 ν Q) : XG κ S A 0 0 Z 0 (ν, 0, 0) [some (.ref (S.2.1 0)), some (.int x1)] [] := by
  unfold xw_X0_ease at hw
  refine g_aload_0 0 h.1 dX0_ease_0 ?_
  refine g_iload_1 1 h.1 dX0_ease_1 ?_
  refine xcV_I_1 2 h (xm_X0_isPerson h.2.2.1 hw) (by decide) (Nat.le_of_eq (Nat.zero_add _)) (Nat.le_of_eq (Nat.zero_add _)) q1348 qs42 (fun H hI => x_recvK h rfl rfl hI) q1346 (Nat.le_of_ble_eq_true rfl) dX0_ease_2 (fun r2 ν1 hw => ?_)
  refine g_if_eq 5 20 h.1 dX0_ease_5 (by decide) (fun c => ?_) (fun c => ?_)
  · have hw := hw.1 c
    exact g_le (xt_X0_ease_20 h hT hN hR hw) ⟨rfl, trivial⟩
  · have hw := hw.2 c
    refine g_aload_0 8 h.1 dX0_ease_8 ?_
    refine xg_X0_69_0 9 h dX0_ease_9 ?_
    refine xg_X0_219_5 12 rfl h dX0_ease_12 ?_
    refine g_iload_1 15 h.1 dX0_ease_15 ?_
    obtain ⟨f3, hw⟩ := hw
    obtain ⟨f4, hw⟩ := hw
    refine xa_iald 16 f3 f4 h dX0_ease_16 ?_
    refine g_if_ne 17 34 h.1 dX0_ease_17 (by decide) (fun c => ?_) (fun c => ?_)
    · have hw := hw.1 c
      refine g_aload_0 34 h.1 dX0_ease_34 ?_
      refine xcV_V_0 35 h (xm_X0_remembers h.2.2.1 hw) (by decide) (Nat.le_of_eq (Nat.zero_add _)) (Nat.le_of_eq (Nat.zero_add _)) q1637 qs62 (fun H hI => x_recvK h rfl rfl hI) q1635 (Nat.le_of_ble_eq_true rfl) dX0_ease_35 (fun ν5 hw => ?_)
      refine g_aload_0 38 h.1 dX0_ease_38 ?_
      refine xg_X0_69_0 39 h dX0_ease_39 ?_
      refine xg_X0_219_5 42 rfl h dX0_ease_42 ?_
      refine g_iload_1 45 h.1 dX0_ease_45 ?_
      refine g_iconstv 46 _ ic_0 h.1 dX0_ease_46 ?_
      obtain ⟨f8, hw⟩ := hw
      obtain ⟨f9, hw⟩ := hw
      refine xa_iast 47 f8 f9 h dX0_ease_47 (fun ν6 e7 => ?_)
      have hw := hw ν6 e7
      refine g_iconstv 48 _ ic_1 h.1 dX0_ease_48 ?_
      exact hR.1 49 _ _ _ _ _ _ hT rfl dX0_ease_49 ⟨_, rfl, hw⟩
    · have hw := hw.2 c
      exact g_le (xt_X0_ease_20 h hT hN hR hw) ⟨rfl, trivial⟩
theorem xm_X0_ease {l : Launch} {S : Adr} {A : Nat → Prop} (hD : FD xT S xcl A) {x1 : Int32} {ν : XN} {Q : Int32 → XN → Prop} (hw : xw_X0_ease x1 ν Q) : xMet l S A 4 0 0 1 yX0_ease [.ref (S.2.1 0), .int x1] ν (pI Q) :=
  x_met (plainFor_of_name (by decide)) hD ⟨⟨by decide, by decide, by show _ = some 1; decide +kernel⟩, by decide, q1654, q171⟩ (Nat.le_of_ble_eq_true rfl) (fun κ Z h hT hN hR => xt_X0_ease h hT hN hR hw)
def xw_X0_end_12 (ν : XN) (Q : Int32 → XN → Prop) : Prop :=
  (xw_X0_refuses (0 : Int32) ν (fun r4 ν3 => ((r4 < 0 → Q (0 : Int32) ν3) ∧ (¬ r4 < 0 → Q (1 : Int32) ν3))))
theorem xt_X0_end_12 {κ : Cx} {S : Adr} {A : Nat → Prop} {Z : State → Prop} {Q : Int32 → XN → Prop} (h : XCx κ cX0_end RX0 S A 2 0 0) (hT : (cxT κ).sig.returnType = some .boolean) (hN : (cxT κ).name = "end") (hR : xRet κ S A 0 0 Z cX0_end (pI Q)) {ν : XN} (hw : xw_X0_end_12 ν Q) : XG κ S A 0 0 Z 12 (ν, 0, 0) [some (.ref (S.2.1 0)), none] [] := by
  unfold xw_X0_end_12 at hw
  refine g_aload_0 12 h.1 dX0_end_12 ?_
  refine g_iconstv 13 _ ic_0 h.1 dX0_end_13 ?_
  refine xcV_I_1 14 h (xm_X0_refuses h.2.2.1 hw) (by decide) (Nat.le_of_eq (Nat.zero_add _)) (Nat.le_of_eq (Nat.zero_add _)) q559 qs1 (fun H hI => x_recvK h rfl rfl hI) q557 (Nat.le_of_ble_eq_true rfl) dX0_end_14 (fun r4 ν3 hw => ?_)
  refine g_if_lt 17 24 h.1 dX0_end_17 (by decide) (fun c => ?_) (fun c => ?_)
  · have hw := hw.1 c
    refine g_iconstv 24 _ ic_0 h.1 dX0_end_24 ?_
    exact hR.1 25 _ _ _ _ _ _ hT rfl dX0_end_25 ⟨_, rfl, hw⟩
  · have hw := hw.2 c
    refine g_iconstv 20 _ ic_1 h.1 dX0_end_20 ?_
    refine g_goto 21 25 h.1 dX0_end_21 (by decide) ?_
    exact hR.1 25 _ _ _ _ _ _ hT rfl dX0_end_25 ⟨_, rfl, hw⟩
def xw_X0_end (x1 : Int32) (ν : XN) (Q : Int32 → XN → Prop) : Prop :=
  ((x1 < 0 → xw_X0_end_12 ν Q) ∧ (¬ x1 < 0 → ((x1 ≤ (fI ν.1 0 2) → (∀ ν1, ν1 = (sI ν.1 0 2 x1, ν.2) → Q (1 : Int32) ν1)) ∧ (¬ x1 ≤ (fI ν.1 0 2) → xw_X0_end_12 ν Q))))
theorem xt_X0_end {κ : Cx} {S : Adr} {A : Nat → Prop} {Z : State → Prop} {Q : Int32 → XN → Prop} (h : XCx κ cX0_end RX0 S A 2 0 0) (hT : (cxT κ).sig.returnType = some .boolean) (hN : (cxT κ).name = "end") (hR : xRet κ S A 0 0 Z cX0_end (pI Q)) {x1 : Int32} {ν : XN} (hw : xw_X0_end x1 ν Q) : XG κ S A 0 0 Z 0 (ν, 0, 0) [some (.ref (S.2.1 0)), some (.int x1)] [] := by
  unfold xw_X0_end at hw
  refine g_iload_1 0 h.1 dX0_end_0 ?_
  refine g_if_lt 1 12 h.1 dX0_end_1 (by decide) (fun c => ?_) (fun c => ?_)
  · have hw := hw.1 c
    exact g_le (xt_X0_end_12 h hT hN hR hw) ⟨rfl, trivial⟩
  · have hw := hw.2 c
    refine g_iload_1 4 h.1 dX0_end_4 ?_
    refine g_aload_0 5 h.1 dX0_end_5 ?_
    refine xg_X0_115_0 6 h dX0_end_6 ?_
    refine g_icmp_le 9 26 h.1 dX0_end_9 (by decide) (fun c => ?_) (fun c => ?_)
    · have hw := hw.1 c
      refine g_aload_0 26 h.1 dX0_end_26 ?_
      refine g_iload_1 27 h.1 dX0_end_27 ?_
      refine xp_X0_115_0 28 h dX0_end_28 (fun ν1 e2 => ?_)
      have hw := hw ν1 e2
      refine g_iconstv 31 _ ic_1 h.1 dX0_end_31 ?_
      exact hR.1 32 _ _ _ _ _ _ hT rfl dX0_end_32 ⟨_, rfl, hw⟩
    · have hw := hw.2 c
      exact g_le (xt_X0_end_12 h hT hN hR hw) ⟨rfl, trivial⟩
theorem xm_X0_end {l : Launch} {S : Adr} {A : Nat → Prop} (hD : FD xT S xcl A) {x1 : Int32} {ν : XN} {Q : Int32 → XN → Prop} (hw : xw_X0_end x1 ν Q) : xMet l S A 2 0 0 1 yX0_end [.ref (S.2.1 0), .int x1] ν (pI Q) :=
  x_met (plainFor_of_name (by decide)) hD ⟨⟨by decide, by decide, by show _ = some 1; decide +kernel⟩, by decide, q568, q171⟩ (Nat.le_of_ble_eq_true rfl) (fun κ Z h hT hN hR => xt_X0_end h hT hN hR hw)
def xw_X0_fault (x1 : Int32) (ν : XN) (Q : Int32 → XN → Prop) : Prop :=
  ((¬ x1 = 0 → ((¬ x1 = (1 : Int32) → Q (-1 : Int32) ν) ∧ (x1 = (1 : Int32) → Q (fI ν.1 0 4) ν))) ∧ (x1 = 0 → Q (fI ν.1 0 3) ν))
theorem xt_X0_fault {κ : Cx} {S : Adr} {A : Nat → Prop} {Z : State → Prop} {Q : Int32 → XN → Prop} (h : XCx κ cX0_fault RX0 S A 1 0 0) (hT : (cxT κ).sig.returnType = some .int) (hN : (cxT κ).name = "fault") (hR : xRet κ S A 0 0 Z cX0_fault (pI Q)) {x1 : Int32} {ν : XN} (hw : xw_X0_fault x1 ν Q) : XG κ S A 0 0 Z 0 (ν, 0, 0) [some (.ref (S.2.1 0)), some (.int x1)] [] := by
  unfold xw_X0_fault at hw
  refine g_iload_1 0 h.1 dX0_fault_0 ?_
  refine g_if_ne 1 11 h.1 dX0_fault_1 (by decide) (fun c => ?_) (fun c => ?_)
  · have hw := hw.1 c
    refine g_iload_1 11 h.1 dX0_fault_11 ?_
    refine g_iconstv 12 _ ic_1 h.1 dX0_fault_12 ?_
    refine g_icmp_ne 13 23 h.1 dX0_fault_13 (by decide) (fun c => ?_) (fun c => ?_)
    · have hw := hw.1 c
      refine g_iconstv 23 _ ic_m1 h.1 dX0_fault_23 ?_
      exact hR.1 24 _ _ _ _ _ _ hT rfl dX0_fault_24 ⟨_, rfl, hw⟩
    · have hw := hw.2 c
      refine g_aload_0 16 h.1 dX0_fault_16 ?_
      refine xg_X0_39_0 17 h dX0_fault_17 ?_
      refine g_goto 20 24 h.1 dX0_fault_20 (by decide) ?_
      exact hR.1 24 _ _ _ _ _ _ hT rfl dX0_fault_24 ⟨_, rfl, hw⟩
  · have hw := hw.2 c
    refine g_aload_0 4 h.1 dX0_fault_4 ?_
    refine xg_X0_126_0 5 h dX0_fault_5 ?_
    refine g_goto 8 24 h.1 dX0_fault_8 (by decide) ?_
    exact hR.1 24 _ _ _ _ _ _ hT rfl dX0_fault_24 ⟨_, rfl, hw⟩
theorem xm_X0_fault {l : Launch} {S : Adr} {A : Nat → Prop} (hD : FD xT S xcl A) {x1 : Int32} {ν : XN} {Q : Int32 → XN → Prop} (hw : xw_X0_fault x1 ν Q) : xMet l S A 1 0 0 1 yX0_fault [.ref (S.2.1 0), .int x1] ν (pI Q) :=
  x_met (plainFor_of_name (by decide)) hD ⟨⟨by decide, by decide, by show _ = some 1; decide +kernel⟩, by decide, q1294, q171⟩ (Nat.le_of_ble_eq_true rfl) (fun κ Z h hT hN hR => xt_X0_fault h hT hN hR hw)
def xw_X0_put_3 (x1 : Int32) (x2 : Int32) (ν : XN) (Q : XN → Prop) : Prop :=
  ∀ X3 : Int32 → Int32 → XN → Prop, (∀ (x1 : Int32) (x2 : Int32) (ν : XN), ((x2 < 0 → Q ν) ∧ (¬ x2 < 0 → (∀ ν1, ν1 = (sI ν.1 0 2 ((fI ν.1 0 2) + (1 : Int32)), ν.2) → (vp_in (fI ν.1 0 2) 1600 ∧ (∀ ν3, ν3 = (sA ν1.1 0 (Int32.toNatClampNeg (fI ν.1 0 2)) (vp_nar .byte (Int8.toInt32 (Int32.toInt8 (x1 >>> (x2 &&& 31))))), ν1.2) → X3 x1 (x2 + -8) ν3))))) → X3 x1 x2 ν) → X3 x1 x2 ν
theorem xt_X0_put_3 {κ : Cx} {S : Adr} {A : Nat → Prop} {Z : State → Prop} {Q : XN → Prop} (h : XCx κ cX0_put RX0 S A 1 0 0) (hT : (cxT κ).sig.returnType = none) (hN : (cxT κ).name = "put") (hR : xRet κ S A 0 0 Z cX0_put (pV Q)) {x1 : Int32} {x2 : Int32} {ν : XN} (hw : xw_X0_put_3 x1 x2 ν Q) : XG κ S A 0 0 Z 3 (ν, 0, 0) [some (.ref (S.2.1 0)), some (.int x1), some (.int x2)] [] := by
  refine hw (fun x1 x2 ν => XG κ S A 0 0 Z 3 (ν, 0, 0) [some (.ref (S.2.1 0)), some (.int x1), some (.int x2)] []) ?_
  clear hw
  intro x1 x2 ν hw
  have hX3 : ∀ (x1 : Int32) (x2 : Int32) (ν : XN), XG κ S A 0 0 Z 3 (ν, 0, 0) [some (.ref (S.2.1 0)), some (.int x1), some (.int x2)] [] → XG κ S A 0 0 Z 3 (ν, 0, 0) [some (.ref (S.2.1 0)), some (.int x1), some (.int x2)] [] := fun _ _ _ hh => hh
  refine g_iload_2 3 h.1 dX0_put_3 ?_
  refine g_if_lt 4 33 h.1 dX0_put_4 (by decide) (fun c => ?_) (fun c => ?_)
  · have hw := hw.1 c
    exact hR.2.2.1 33 _ _ _ _ hT dX0_put_33 ⟨rfl, hw⟩
  · have hw := hw.2 c
    refine g_aload_0 7 h.1 dX0_put_7 ?_
    refine xg_X0_35_0 8 h dX0_put_8 ?_
    refine g_aload_0 11 h.1 dX0_put_11 ?_
    refine g_dup 12 rfl h.1 dX0_put_12 ?_
    refine xg_X0_115_0 13 h dX0_put_13 ?_
    refine g_dup_x1 16 rfl rfl h.1 dX0_put_16 ?_
    refine g_iconstv 17 _ ic_1 h.1 dX0_put_17 ?_
    refine g_iadd 18 h.1 dX0_put_18 ?_
    refine xp_X0_115_0 19 h dX0_put_19 (fun ν1 e2 => ?_)
    have hw := hw ν1 e2
    refine g_iload_1 22 h.1 dX0_put_22 ?_
    refine g_iload_2 23 h.1 dX0_put_23 ?_
    refine g_ishr 24 h.1 dX0_put_24 ?_
    refine g_i2b 25 h.1 dX0_put_25 ?_
    obtain ⟨f5, hw⟩ := hw
    refine xa_bast 26 rfl f5 h dX0_put_26 (fun ν3 e4 => ?_)
    have hw := hw ν3 e4
    refine g_iinc_2 27 (x2 + -8) (congrArg _ ic_m8) h.1 rfl dX0_put_27 ?_
    refine g_goto 30 3 h.1 dX0_put_30 (by decide) ?_
    exact g_le (hX3 _ _ _ hw) ⟨rfl, rfl, rfl, trivial⟩
def xw_X0_put (x1 : Int32) (ν : XN) (Q : XN → Prop) : Prop :=
  xw_X0_put_3 x1 (24 : Int32) ν Q
theorem xt_X0_put {κ : Cx} {S : Adr} {A : Nat → Prop} {Z : State → Prop} {Q : XN → Prop} (h : XCx κ cX0_put RX0 S A 1 0 0) (hT : (cxT κ).sig.returnType = none) (hN : (cxT κ).name = "put") (hR : xRet κ S A 0 0 Z cX0_put (pV Q)) {x1 : Int32} {ν : XN} (hw : xw_X0_put x1 ν Q) : XG κ S A 0 0 Z 0 (ν, 0, 0) [some (.ref (S.2.1 0)), some (.int x1), none] [] := by
  unfold xw_X0_put at hw
  refine g_bipush 0 _ bp_24 h.1 dX0_put_0 ?_
  refine g_istore_2 2 h.1 rfl dX0_put_2 ?_
  exact g_le (xt_X0_put_3 h hT hN hR hw) ⟨rfl, rfl, rfl, trivial⟩
theorem xm_X0_put {l : Launch} {S : Adr} {A : Nat → Prop} (hD : FD xT S xcl A) {x1 : Int32} {ν : XN} {Q : XN → Prop} (hw : xw_X0_put x1 ν Q) : xMet l S A 1 0 0 1 yX0_put [.ref (S.2.1 0), .int x1] ν (pV Q) :=
  x_met (plainFor_of_name (by decide)) hD ⟨⟨by decide, by decide, by show _ = some 1; decide +kernel⟩, by decide, q564, q171⟩ (Nat.le_of_ble_eq_true rfl) (fun κ Z h hT hN hR => xt_X0_put h hT hN hR hw)
def xw_X0_feed (x1 : Int32) (x2 : Int32) (x3 : Int32) (x4 : Int32) (x5 : Int32) (ν : XN) (Q : Int32 → XN → Prop) : Prop :=
  ((((fI ν.1 0 2) + (20 : Int32)) ≤ (1600 : Int32) → (xw_X0_put x1 ν (fun ν1 => (xw_X0_put x2 ν1 (fun ν2 => (xw_X0_put x3 ν2 (fun ν3 => (xw_X0_put x4 ν3 (fun ν4 => (xw_X0_put x5 ν4 (fun ν5 => Q (fI ν5.1 0 2) ν5))))))))))) ∧ (¬ ((fI ν.1 0 2) + (20 : Int32)) ≤ (1600 : Int32) → (xw_X0_refuses (0 : Int32) ν (fun r7 ν6 => Q r7 ν6))))
theorem xt_X0_feed {κ : Cx} {S : Adr} {A : Nat → Prop} {Z : State → Prop} {Q : Int32 → XN → Prop} (h : XCx κ cX0_feed RX0 S A 2 0 0) (hT : (cxT κ).sig.returnType = some .int) (hN : (cxT κ).name = "feed") (hR : xRet κ S A 0 0 Z cX0_feed (pI Q)) {x1 : Int32} {x2 : Int32} {x3 : Int32} {x4 : Int32} {x5 : Int32} {ν : XN} (hw : xw_X0_feed x1 x2 x3 x4 x5 ν Q) : XG κ S A 0 0 Z 0 (ν, 0, 0) [some (.ref (S.2.1 0)), some (.int x1), some (.int x2), some (.int x3), some (.int x4), some (.int x5)] [] := by
  unfold xw_X0_feed at hw
  refine g_aload_0 0 h.1 dX0_feed_0 ?_
  refine xg_X0_115_0 1 h dX0_feed_1 ?_
  refine g_bipush 4 _ bp_20 h.1 dX0_feed_4 ?_
  refine g_iadd 6 h.1 dX0_feed_6 ?_
  refine g_sipush 7 _ sp_1600 h.1 dX0_feed_7 ?_
  refine g_icmp_le 10 19 h.1 dX0_feed_10 (by decide) (fun c => ?_) (fun c => ?_)
  · have hw := hw.1 c
    refine g_aload_0 19 h.1 dX0_feed_19 ?_
    refine g_iload_1 20 h.1 dX0_feed_20 ?_
    refine xcV_V_1 21 h (xm_X0_put h.2.2.1 hw) (by decide) (Nat.le_of_eq (Nat.zero_add _)) (Nat.le_of_eq (Nat.zero_add _)) q563 qs2 (fun H hI => x_recvK h rfl rfl hI) q561 (Nat.le_of_ble_eq_true rfl) dX0_feed_21 (fun ν1 hw => ?_)
    refine g_aload_0 24 h.1 dX0_feed_24 ?_
    refine g_iload_2 25 h.1 dX0_feed_25 ?_
    refine xcV_V_1 26 h (xm_X0_put h.2.2.1 hw) (by decide) (Nat.le_of_eq (Nat.zero_add _)) (Nat.le_of_eq (Nat.zero_add _)) q563 qs2 (fun H hI => x_recvK h rfl rfl hI) q561 (Nat.le_of_ble_eq_true rfl) dX0_feed_26 (fun ν2 hw => ?_)
    refine g_aload_0 29 h.1 dX0_feed_29 ?_
    refine g_iload_3 30 h.1 dX0_feed_30 ?_
    refine xcV_V_1 31 h (xm_X0_put h.2.2.1 hw) (by decide) (Nat.le_of_eq (Nat.zero_add _)) (Nat.le_of_eq (Nat.zero_add _)) q563 qs2 (fun H hI => x_recvK h rfl rfl hI) q561 (Nat.le_of_ble_eq_true rfl) dX0_feed_31 (fun ν3 hw => ?_)
    refine g_aload_0 34 h.1 dX0_feed_34 ?_
    refine g_iload_4 35 h.1 dX0_feed_35 ?_
    refine xcV_V_1 37 h (xm_X0_put h.2.2.1 hw) (by decide) (Nat.le_of_eq (Nat.zero_add _)) (Nat.le_of_eq (Nat.zero_add _)) q563 qs2 (fun H hI => x_recvK h rfl rfl hI) q561 (Nat.le_of_ble_eq_true rfl) dX0_feed_37 (fun ν4 hw => ?_)
    refine g_aload_0 40 h.1 dX0_feed_40 ?_
    refine g_iload_5 41 h.1 dX0_feed_41 ?_
    refine xcV_V_1 43 h (xm_X0_put h.2.2.1 hw) (by decide) (Nat.le_of_eq (Nat.zero_add _)) (Nat.le_of_eq (Nat.zero_add _)) q563 qs2 (fun H hI => x_recvK h rfl rfl hI) q561 (Nat.le_of_ble_eq_true rfl) dX0_feed_43 (fun ν5 hw => ?_)
    refine g_aload_0 46 h.1 dX0_feed_46 ?_
    refine xg_X0_115_0 47 h dX0_feed_47 ?_
    exact hR.1 50 _ _ _ _ _ _ hT rfl dX0_feed_50 ⟨_, rfl, hw⟩
  · have hw := hw.2 c
    refine g_aload_0 13 h.1 dX0_feed_13 ?_
    refine g_iconstv 14 _ ic_0 h.1 dX0_feed_14 ?_
    refine xcV_I_1 15 h (xm_X0_refuses h.2.2.1 hw) (by decide) (Nat.le_of_eq (Nat.zero_add _)) (Nat.le_of_eq (Nat.zero_add _)) q559 qs1 (fun H hI => x_recvK h rfl rfl hI) q557 (Nat.le_of_ble_eq_true rfl) dX0_feed_15 (fun r7 ν6 hw => ?_)
    exact hR.1 18 _ _ _ _ _ _ hT rfl dX0_feed_18 ⟨_, rfl, hw⟩
theorem xm_X0_feed {l : Launch} {S : Adr} {A : Nat → Prop} (hD : FD xT S xcl A) {x1 : Int32} {x2 : Int32} {x3 : Int32} {x4 : Int32} {x5 : Int32} {ν : XN} {Q : Int32 → XN → Prop} (hw : xw_X0_feed x1 x2 x3 x4 x5 ν Q) : xMet l S A 2 0 0 5 yX0_feed [.ref (S.2.1 0), .int x1, .int x2, .int x3, .int x4, .int x5] ν (pI Q) :=
  x_met (plainFor_of_name (by decide)) hD ⟨⟨by decide, by decide, by show _ = some 5; decide +kernel⟩, by decide, q556, q171⟩ (Nat.le_of_ble_eq_true rfl) (fun κ Z h hT hN hR => xt_X0_feed h hT hN hR hw)
def xw_J9_equals_9 (x0 : Nat) (x1 : Nat) (x2 : Int32) (ν : XN) (Q : Int32 → XN → Prop) : Prop :=
  ∀ X9 : Nat → Nat → Int32 → XN → Prop, (∀ (x0 : Nat) (x1 : Nat) (x2 : Int32) (ν : XN), (rc ν.2 x0 = 102 ∧ (((Int32.ofNat (rn ν.2 x0)) ≤ x2 → Q (1 : Int32) ν) ∧ (¬ (Int32.ofNat (rn ν.2 x0)) ≤ x2 → (rc ν.2 x0 = 102 ∧ (vp_in x2 (rn ν.2 x0) ∧ (rc ν.2 x1 = 102 ∧ (vp_in x2 (rn ν.2 x1) ∧ (((rI ν.2 x0 (Int32.toNatClampNeg x2)) = (rI ν.2 x1 (Int32.toNatClampNeg x2)) → X9 x0 x1 (x2 + 1) ν) ∧ (¬ (rI ν.2 x0 (Int32.toNatClampNeg x2)) = (rI ν.2 x1 (Int32.toNatClampNeg x2)) → Q (0 : Int32) ν))))))))) → X9 x0 x1 x2 ν) → X9 x0 x1 x2 ν
theorem xt_J9_equals_9 {κ : Cx} {S : Adr} {A : Nat → Prop} {Z : State → Prop} {Q : Int32 → XN → Prop} (h : XCx κ cJ9_equals RJ9 S A 1 0 0) (hT : (cxT κ).sig.returnType = some .boolean) (hN : (cxT κ).name = "equals") (hR : xRet κ S A 0 0 Z cJ9_equals (pI Q)) {x0 : Nat} {x1 : Nat} {x2 : Int32} {ν : XN} (hw : xw_J9_equals_9 x0 x1 x2 ν Q) : XG κ S A 0 0 Z 9 (ν, 0, 0) [some (.ref x0), some (.ref x1), some (.int x2)] [] := by
  refine hw (fun x0 x1 x2 ν => XG κ S A 0 0 Z 9 (ν, 0, 0) [some (.ref x0), some (.ref x1), some (.int x2)] []) ?_
  clear hw
  intro x0 x1 x2 ν hw
  have hX9 : ∀ (x0 : Nat) (x1 : Nat) (x2 : Int32) (ν : XN), XG κ S A 0 0 Z 9 (ν, 0, 0) [some (.ref x0), some (.ref x1), some (.int x2)] [] → XG κ S A 0 0 Z 9 (ν, 0, 0) [some (.ref x0), some (.ref x1), some (.int x2)] [] := fun _ _ _ _ hh => hh
  refine g_iload_2 9 h.1 dJ9_equals_9 ?_
  refine g_aload_0 10 h.1 dJ9_equals_10 ?_
  obtain ⟨f3, hw⟩ := hw
  refine ra_alen2 11 f3 h dJ9_equals_11 ?_
  refine g_icmp_ge 12 32 h.1 dJ9_equals_12 (by decide) (fun c => ?_) (fun c => ?_)
  · have hw := hw.1 c
    refine g_iconstv 32 _ ic_1 h.1 dJ9_equals_32 ?_
    exact hR.1 33 _ _ _ _ _ _ hT rfl dJ9_equals_33 ⟨_, rfl, hw⟩
  · have hw := hw.2 c
    refine g_aload_0 15 h.1 dJ9_equals_15 ?_
    refine g_iload_2 16 h.1 dJ9_equals_16 ?_
    obtain ⟨f4, hw⟩ := hw
    obtain ⟨f5, hw⟩ := hw
    refine ra_bald 17 f4 f5 h dJ9_equals_17 ?_
    refine g_aload_1 18 h.1 dJ9_equals_18 ?_
    refine g_iload_2 19 h.1 dJ9_equals_19 ?_
    obtain ⟨f6, hw⟩ := hw
    obtain ⟨f7, hw⟩ := hw
    refine ra_bald 20 f6 f7 h dJ9_equals_20 ?_
    refine g_icmp_eq 21 26 h.1 dJ9_equals_21 (by decide) (fun c => ?_) (fun c => ?_)
    · have hw := hw.1 c
      refine g_iinc_2 26 (x2 + 1) (congrArg _ ic_1) h.1 rfl dJ9_equals_26 ?_
      refine g_goto 29 9 h.1 dJ9_equals_29 (by decide) ?_
      exact g_le (hX9 _ _ _ _ hw) ⟨rfl, rfl, rfl, trivial⟩
    · have hw := hw.2 c
      refine g_iconstv 24 _ ic_0 h.1 dJ9_equals_24 ?_
      exact hR.1 25 _ _ _ _ _ _ hT rfl dJ9_equals_25 ⟨_, rfl, hw⟩
def xw_J9_equals (x0 : Nat) (x1 : Nat) (ν : XN) (Q : Int32 → XN → Prop) : Prop :=
  (rc ν.2 x0 = 102 ∧ (rc ν.2 x1 = 102 ∧ ((¬ (Int32.ofNat (rn ν.2 x0)) = (Int32.ofNat (rn ν.2 x1)) → Q (0 : Int32) ν) ∧ ((Int32.ofNat (rn ν.2 x0)) = (Int32.ofNat (rn ν.2 x1)) → xw_J9_equals_9 x0 x1 (0 : Int32) ν Q))))
theorem xt_J9_equals {κ : Cx} {S : Adr} {A : Nat → Prop} {Z : State → Prop} {Q : Int32 → XN → Prop} (h : XCx κ cJ9_equals RJ9 S A 1 0 0) (hT : (cxT κ).sig.returnType = some .boolean) (hN : (cxT κ).name = "equals") (hR : xRet κ S A 0 0 Z cJ9_equals (pI Q)) {x0 : Nat} {x1 : Nat} {ν : XN} (hw : xw_J9_equals x0 x1 ν Q) : XG κ S A 0 0 Z 0 (ν, 0, 0) [some (.ref x0), some (.ref x1), none] [] := by
  unfold xw_J9_equals at hw
  refine g_aload_0 0 h.1 dJ9_equals_0 ?_
  obtain ⟨f1, hw⟩ := hw
  refine ra_alen2 1 f1 h dJ9_equals_1 ?_
  refine g_aload_1 2 h.1 dJ9_equals_2 ?_
  obtain ⟨f2, hw⟩ := hw
  refine ra_alen2 3 f2 h dJ9_equals_3 ?_
  refine g_icmp_ne 4 34 h.1 dJ9_equals_4 (by decide) (fun c => ?_) (fun c => ?_)
  · have hw := hw.1 c
    refine g_iconstv 34 _ ic_0 h.1 dJ9_equals_34 ?_
    exact hR.1 35 _ _ _ _ _ _ hT rfl dJ9_equals_35 ⟨_, rfl, hw⟩
  · have hw := hw.2 c
    refine g_iconstv 7 _ ic_0 h.1 dJ9_equals_7 ?_
    refine g_istore_2 8 h.1 rfl dJ9_equals_8 ?_
    exact g_le (xt_J9_equals_9 h hT hN hR hw) ⟨rfl, rfl, rfl, trivial⟩
theorem xm_J9_equals {l : Launch} {S : Adr} {A : Nat → Prop} (hD : FD xT S xcl A) {x0 : Nat} {x1 : Nat} {ν : XN} {Q : Int32 → XN → Prop} (hw : xw_J9_equals x0 x1 ν Q) : xMet l S A 1 0 0 2 yJ9_equals [.ref x0, .ref x1] ν (pI Q) :=
  x_met (by decide +kernel) hD ⟨⟨by decide, by decide, by show _ = some 2; decide +kernel⟩, by decide, q699, q187⟩ (Nat.le_of_ble_eq_true rfl) (fun κ Z h hT hN hR => xt_J9_equals h hT hN hR hw)
def xw_J6_equals_36 (x0 : Nat) (x2 : Nat) (ν : XN) (Q : Int32 → XN → Prop) : Prop :=
  (rc ν.2 x0 = 11 ∧ (rc ν.2 x2 = 11 ∧ (∃ b7, (rO ν.2 x2 0) = some b7 ∧ (∃ b9, (rO ν.2 x0 0) = some b9 ∧ (xw_J9_equals b9 b7 ν (fun r12 ν11 => ((r12 = 0 → Q (0 : Int32) ν11) ∧ (¬ r12 = 0 → Q (1 : Int32) ν11))))))))
theorem xt_J6_equals_36 {κ : Cx} {S : Adr} {A : Nat → Prop} {Z : State → Prop} {Q : Int32 → XN → Prop} (h : XCx κ cJ6_equals RJ6 S A 2 0 0) (hT : (cxT κ).sig.returnType = some .boolean) (hN : (cxT κ).name = "equals") (hR : xRet κ S A 0 0 Z cJ6_equals (pI Q)) {x0 : Nat} {x2 : Nat} {ν : XN} (hw : xw_J6_equals_36 x0 x2 ν Q) : XG κ S A 0 0 Z 36 (ν, 0, 0) [some (.ref x0), none, some (.ref x2)] [] := by
  unfold xw_J6_equals_36 at hw
  refine g_aload_0 36 h.1 dJ6_equals_36 ?_
  obtain ⟨f5, hw⟩ := hw
  refine xg_J6_9_10 37 f5 h dJ6_equals_37 ?_
  refine g_aload_2 40 h.1 dJ6_equals_40 ?_
  obtain ⟨f6, hw⟩ := hw
  refine xg_J6_9_10 41 f6 h dJ6_equals_41 ?_
  obtain ⟨b7, e8, hw⟩ := hw
  rw [e8]
  obtain ⟨b9, e10, hw⟩ := hw
  rw [e10]
  refine xcS_I_2 44 h (xm_J9_equals h.2.2.1 hw) (by decide) (Nat.le_of_eq (Nat.zero_add _)) (Nat.le_of_eq (Nat.zero_add _)) q698 q697 (Nat.le_of_ble_eq_true rfl) dJ6_equals_44 (fun r12 ν11 hw => ?_)
  refine g_if_eq 47 54 h.1 dJ6_equals_47 (by decide) (fun c => ?_) (fun c => ?_)
  · have hw := hw.1 c
    refine g_iconstv 54 _ ic_0 h.1 dJ6_equals_54 ?_
    exact hR.1 55 _ _ _ _ _ _ hT rfl dJ6_equals_55 ⟨_, rfl, hw⟩
  · have hw := hw.2 c
    refine g_iconstv 50 _ ic_1 h.1 dJ6_equals_50 ?_
    refine g_goto 51 55 h.1 dJ6_equals_51 (by decide) ?_
    exact hR.1 55 _ _ _ _ _ _ hT rfl dJ6_equals_55 ⟨_, rfl, hw⟩
def xw_J6_equals (x0 : Nat) (x1 : Nat) (ν : XN) (Q : Int32 → XN → Prop) : Prop :=
  ((¬ x0 = x1 → (rc ν.2 x1 = 11 ∧ (((1 : Int32) = 0 → Q (0 : Int32) ν) ∧ (¬ (1 : Int32) = 0 → ((rc ν.2 x1 = 11) ∧ (((1 : Int32) = 0 → xw_J6_equals_36 x0 x1 ν Q) ∧ (¬ (1 : Int32) = 0 → (rc ν.2 x0 = 11 ∧ (rc ν.2 x1 = 11 ∧ ((¬ (rI ν.2 x0 1) = (rI ν.2 x1 1) → Q (0 : Int32) ν) ∧ ((rI ν.2 x0 1) = (rI ν.2 x1 1) → xw_J6_equals_36 x0 x1 ν Q))))))))))) ∧ (x0 = x1 → Q (1 : Int32) ν))
theorem xt_J6_equals {κ : Cx} {S : Adr} {A : Nat → Prop} {Z : State → Prop} {Q : Int32 → XN → Prop} (h : XCx κ cJ6_equals RJ6 S A 2 0 0) (hT : (cxT κ).sig.returnType = some .boolean) (hN : (cxT κ).name = "equals") (hR : xRet κ S A 0 0 Z cJ6_equals (pI Q)) {x0 : Nat} {x1 : Nat} {ν : XN} (hw : xw_J6_equals x0 x1 ν Q) : XG κ S A 0 0 Z 0 (ν, 0, 0) [some (.ref x0), some (.ref x1), none] [] := by
  unfold xw_J6_equals at hw
  refine g_aload_0 0 h.1 dJ6_equals_0 ?_
  refine g_aload_1 1 h.1 dJ6_equals_1 ?_
  refine g_acmp_ne 2 7 h.1 dJ6_equals_2 (by decide) (fun c => ?_) (fun c => ?_)
  · have hw := hw.1 c
    refine g_aload_1 7 h.1 dJ6_equals_7 ?_
    obtain ⟨f1, hw⟩ := hw
    refine x_instS 8 10 f1 rfl h q618 dJ6_equals_8 ?_
    refine g_if_eq 11 54 h.1 dJ6_equals_11 (by decide) (fun c => ?_) (fun c => ?_)
    · have hw := hw.1 c
      refine g_iconstv 54 _ ic_0 h.1 dJ6_equals_54 ?_
      exact hR.1 55 _ _ _ _ _ _ hT rfl dJ6_equals_55 ⟨_, rfl, hw⟩
    · have hw := hw.2 c
      refine g_aload_1 14 h.1 dJ6_equals_14 ?_
      obtain ⟨f2, hw⟩ := hw
      refine xcs_J6_10 15 f2 h dJ6_equals_15 ?_
      refine g_astore_2 18 h.1 rfl dJ6_equals_18 ?_
      refine xs_J6_38 19 h dJ6_equals_19 ?_
      refine g_if_eq 22 36 h.1 dJ6_equals_22 (by decide) (fun c => ?_) (fun c => ?_)
      · have hw := hw.1 c
        exact g_le (xt_J6_equals_36 h hT hN hR hw) ⟨rfl, rfl, trivial⟩
      · have hw := hw.2 c
        refine g_aload_0 25 h.1 dJ6_equals_25 ?_
        obtain ⟨f3, hw⟩ := hw
        refine xg_J6_15_10 26 f3 h dJ6_equals_26 ?_
        refine g_aload_2 29 h.1 dJ6_equals_29 ?_
        obtain ⟨f4, hw⟩ := hw
        refine xg_J6_15_10 30 f4 h dJ6_equals_30 ?_
        refine g_icmp_ne 33 54 h.1 dJ6_equals_33 (by decide) (fun c => ?_) (fun c => ?_)
        · have hw := hw.1 c
          refine g_iconstv 54 _ ic_0 h.1 dJ6_equals_54 ?_
          exact hR.1 55 _ _ _ _ _ _ hT rfl dJ6_equals_55 ⟨_, rfl, hw⟩
        · have hw := hw.2 c
          exact g_le (xt_J6_equals_36 h hT hN hR hw) ⟨rfl, rfl, trivial⟩
  · have hw := hw.2 c
    refine g_iconstv 5 _ ic_1 h.1 dJ6_equals_5 ?_
    exact hR.1 6 _ _ _ _ _ _ hT rfl dJ6_equals_6 ⟨_, rfl, hw⟩
theorem xm_J6_equals {l : Launch} {S : Adr} {A : Nat → Prop} (hD : FD xT S xcl A) {x0 : Nat} {x1 : Nat} {ν : XN} {Q : Int32 → XN → Prop} (hw : xw_J6_equals x0 x1 ν Q) : xMet l S A 2 0 0 1 yJ6_equals [.ref x0, .ref x1] ν (pI Q) :=
  x_met (by decide +kernel) hD ⟨⟨by decide, by decide, by show _ = some 1; decide +kernel⟩, by decide, q696, q184⟩ (Nat.le_of_ble_eq_true rfl) (fun κ Z h hT hN hR => xt_J6_equals h hT hN hR hw)
def xw_X0_find_2 (x0 : Nat) (x1 : Nat) (x2 : Int32) (ν : XN) (Q : Int32 → XN → Prop) : Prop :=
  ∀ X2 : Nat → Nat → Int32 → XN → Prop, (∀ (x0 : Nat) (x1 : Nat) (x2 : Int32) (ν : XN), (rc ν.2 x1 = 110 ∧ (((Int32.ofNat (rn ν.2 x1)) ≤ x2 → Q (-1 : Int32) ν) ∧ (¬ (Int32.ofNat (rn ν.2 x1)) ≤ x2 → (rc ν.2 x1 = 110 ∧ (vp_in x2 (rn ν.2 x1) ∧ (∃ b4, (rO ν.2 x1 (Int32.toNatClampNeg x2)) = some b4 ∧ (rc ν.2 b4 = 11 ∧ (xw_J6_equals b4 x0 ν (fun r7 ν6 => ((r7 = 0 → X2 x0 x1 (x2 + 1) ν6) ∧ (¬ r7 = 0 → Q x2 ν6))))))))))) → X2 x0 x1 x2 ν) → X2 x0 x1 x2 ν
theorem xt_X0_find_2 {κ : Cx} {S : Adr} {A : Nat → Prop} {Z : State → Prop} {Q : Int32 → XN → Prop} (h : XCx κ cX0_find RX0 S A 3 0 0) (hT : (cxT κ).sig.returnType = some .int) (hN : (cxT κ).name = "find") (hR : xRet κ S A 0 0 Z cX0_find (pI Q)) {x0 : Nat} {x1 : Nat} {x2 : Int32} {ν : XN} (hw : xw_X0_find_2 x0 x1 x2 ν Q) : XG κ S A 0 0 Z 2 (ν, 0, 0) [some (.ref x0), some (.ref x1), some (.int x2)] [] := by
  refine hw (fun x0 x1 x2 ν => XG κ S A 0 0 Z 2 (ν, 0, 0) [some (.ref x0), some (.ref x1), some (.int x2)] []) ?_
  clear hw
  intro x0 x1 x2 ν hw
  have hX2 : ∀ (x0 : Nat) (x1 : Nat) (x2 : Int32) (ν : XN), XG κ S A 0 0 Z 2 (ν, 0, 0) [some (.ref x0), some (.ref x1), some (.int x2)] [] → XG κ S A 0 0 Z 2 (ν, 0, 0) [some (.ref x0), some (.ref x1), some (.int x2)] [] := fun _ _ _ _ hh => hh
  refine g_iload_2 2 h.1 dX0_find_2 ?_
  refine g_aload_1 3 h.1 dX0_find_3 ?_
  obtain ⟨f1, hw⟩ := hw
  refine ra_alen10 4 f1 h dX0_find_4 ?_
  refine g_icmp_ge 5 26 h.1 dX0_find_5 (by decide) (fun c => ?_) (fun c => ?_)
  · have hw := hw.1 c
    refine g_iconstv 26 _ ic_m1 h.1 dX0_find_26 ?_
    exact hR.1 27 _ _ _ _ _ _ hT rfl dX0_find_27 ⟨_, rfl, hw⟩
  · have hw := hw.2 c
    refine g_aload_1 8 h.1 dX0_find_8 ?_
    refine g_iload_2 9 h.1 dX0_find_9 ?_
    obtain ⟨f2, hw⟩ := hw
    obtain ⟨f3, hw⟩ := hw
    refine ra_aald10 10 f2 f3 h dX0_find_10 ?_
    refine g_aload_0 11 h.1 dX0_find_11 ?_
    obtain ⟨b4, e5, hw⟩ := hw
    rw [e5]
    obtain ⟨f8, hw⟩ := hw
    refine xcV_I_1 12 h (xm_J6_equals h.2.2.1 hw) (by decide) (Nat.le_of_eq (Nat.zero_add _)) (Nat.le_of_eq (Nat.zero_add _)) q694 q695 (fun H hI => x_recvR h f8 rfl hI) q811 (Nat.le_of_ble_eq_true rfl) dX0_find_12 (fun r7 ν6 hw => ?_)
    refine g_if_eq 15 20 h.1 dX0_find_15 (by decide) (fun c => ?_) (fun c => ?_)
    · have hw := hw.1 c
      refine g_iinc_2 20 (x2 + 1) (congrArg _ ic_1) h.1 rfl dX0_find_20 ?_
      refine g_goto 23 2 h.1 dX0_find_23 (by decide) ?_
      exact g_le (hX2 _ _ _ _ hw) ⟨rfl, rfl, rfl, trivial⟩
    · have hw := hw.2 c
      refine g_iload_2 18 h.1 dX0_find_18 ?_
      exact hR.1 19 _ _ _ _ _ _ hT rfl dX0_find_19 ⟨_, rfl, hw⟩
def xw_X0_find (x0 : Nat) (x1 : Nat) (ν : XN) (Q : Int32 → XN → Prop) : Prop :=
  xw_X0_find_2 x0 x1 (0 : Int32) ν Q
theorem xt_X0_find {κ : Cx} {S : Adr} {A : Nat → Prop} {Z : State → Prop} {Q : Int32 → XN → Prop} (h : XCx κ cX0_find RX0 S A 3 0 0) (hT : (cxT κ).sig.returnType = some .int) (hN : (cxT κ).name = "find") (hR : xRet κ S A 0 0 Z cX0_find (pI Q)) {x0 : Nat} {x1 : Nat} {ν : XN} (hw : xw_X0_find x0 x1 ν Q) : XG κ S A 0 0 Z 0 (ν, 0, 0) [some (.ref x0), some (.ref x1), none] [] := by
  unfold xw_X0_find at hw
  refine g_iconstv 0 _ ic_0 h.1 dX0_find_0 ?_
  refine g_istore_2 1 h.1 rfl dX0_find_1 ?_
  exact g_le (xt_X0_find_2 h hT hN hR hw) ⟨rfl, rfl, rfl, trivial⟩
theorem xm_X0_find {l : Launch} {S : Adr} {A : Nat → Prop} (hD : FD xT S xcl A) {x0 : Nat} {x1 : Nat} {ν : XN} {Q : Int32 → XN → Prop} (hw : xw_X0_find x0 x1 ν Q) : xMet l S A 3 0 0 2 yX0_find [.ref x0, .ref x1] ν (pI Q) :=
  x_met (plainFor_of_name (by decide)) hD ⟨⟨by decide, by decide, by show _ = some 2; decide +kernel⟩, by decide, q810, q171⟩ (Nat.le_of_ble_eq_true rfl) (fun κ Z h hT hN hR => xt_X0_find h hT hN hR hw)
def xw_X0_go_33 (ν : XN) (Q : Int32 → XN → Prop) : Prop :=
  (xw_X0_refuses (2 : Int32) ν (fun r13 ν12 => ((r13 < 0 → Q (0 : Int32) ν12) ∧ (¬ r13 < 0 → Q (1 : Int32) ν12))))
theorem xt_X0_go_33 {κ : Cx} {S : Adr} {A : Nat → Prop} {Z : State → Prop} {Q : Int32 → XN → Prop} (h : XCx κ cX0_go RX0 S A 4 0 0) (hT : (cxT κ).sig.returnType = some .boolean) (hN : (cxT κ).name = "go") (hR : xRet κ S A 0 0 Z cX0_go (pI Q)) {ν : XN} (hw : xw_X0_go_33 ν Q) : XG κ S A 0 0 Z 33 (ν, 0, 0) [some (.ref (S.2.1 0)), none, none, none] [] := by
  unfold xw_X0_go_33 at hw
  refine g_aload_0 33 h.1 dX0_go_33 ?_
  refine g_iconstv 34 _ ic_2 h.1 dX0_go_34 ?_
  refine xcV_I_1 35 h (xm_X0_refuses h.2.2.1 hw) (by decide) (Nat.le_of_eq (Nat.zero_add _)) (Nat.le_of_eq (Nat.zero_add _)) q559 qs1 (fun H hI => x_recvK h rfl rfl hI) q557 (Nat.le_of_ble_eq_true rfl) dX0_go_35 (fun r13 ν12 hw => ?_)
  refine g_if_lt 38 45 h.1 dX0_go_38 (by decide) (fun c => ?_) (fun c => ?_)
  · have hw := hw.1 c
    refine g_iconstv 45 _ ic_0 h.1 dX0_go_45 ?_
    exact hR.1 46 _ _ _ _ _ _ hT rfl dX0_go_46 ⟨_, rfl, hw⟩
  · have hw := hw.2 c
    refine g_iconstv 41 _ ic_1 h.1 dX0_go_41 ?_
    refine g_goto 42 46 h.1 dX0_go_42 (by decide) ?_
    exact hR.1 46 _ _ _ _ _ _ hT rfl dX0_go_46 ⟨_, rfl, hw⟩
def xw_X0_go (x1 : Int32) (x2 : Int32) (x3 : Int32) (ν : XN) (Q : Int32 → XN → Prop) : Prop :=
  (xw_X0_isPerson x1 ν (fun r2 ν1 => ((r2 = 0 → xw_X0_go_33 ν1 Q) ∧ (¬ r2 = 0 → (xw_X0_isIn x2 x3 ν1 (fun r4 ν3 => ((r4 = 0 → xw_X0_go_33 ν3 Q) ∧ (¬ r4 = 0 → (xw_X5_isFree 10 (((8 : Int32) * x3) + x2) ν3 (fun r6 ν5 => ((¬ r6 = 0 → (xw_X0_remembers ν5 (fun ν7 => (xok 1 (xft 10 4) ∧ (vp_in x1 (xlen (xft 10 4)) ∧ (∀ ν8, ν8 = (sA ν7.1 (xft 10 4) (Int32.toNatClampNeg x1) (((8 : Int32) * x3) + x2), ν7.2) → Q (1 : Int32) ν8)))))) ∧ (r6 = 0 → xw_X0_go_33 ν5 Q))))))))))))
theorem xt_X0_go {κ : Cx} {S : Adr} {A : Nat → Prop} {Z : State → Prop} {Q : Int32 → XN → Prop} (h : XCx κ cX0_go RX0 S A 4 0 0) (hT : (cxT κ).sig.returnType = some .boolean) (hN : (cxT κ).name = "go") (hR : xRet κ S A 0 0 Z cX0_go (pI Q)) {x1 : Int32} {x2 : Int32} {x3 : Int32} {ν : XN} (hw : xw_X0_go x1 x2 x3 ν Q) : XG κ S A 0 0 Z 0 (ν, 0, 0) [some (.ref (S.2.1 0)), some (.int x1), some (.int x2), some (.int x3)] [] := by
  unfold xw_X0_go at hw
  refine g_aload_0 0 h.1 dX0_go_0 ?_
  refine g_iload_1 1 h.1 dX0_go_1 ?_
  refine xcV_I_1 2 h (xm_X0_isPerson h.2.2.1 hw) (by decide) (Nat.le_of_eq (Nat.zero_add _)) (Nat.le_of_eq (Nat.zero_add _)) q1348 qs42 (fun H hI => x_recvK h rfl rfl hI) q1346 (Nat.le_of_ble_eq_true rfl) dX0_go_2 (fun r2 ν1 hw => ?_)
  refine g_if_eq 5 33 h.1 dX0_go_5 (by decide) (fun c => ?_) (fun c => ?_)
  · have hw := hw.1 c
    exact g_le (xt_X0_go_33 h hT hN hR hw) ⟨rfl, trivial⟩
  · have hw := hw.2 c
    refine g_aload_0 8 h.1 dX0_go_8 ?_
    refine g_iload_2 9 h.1 dX0_go_9 ?_
    refine g_iload_3 10 h.1 dX0_go_10 ?_
    refine xcV_I_2 11 h (xm_X0_isIn h.2.2.1 hw) (by decide) (Nat.le_of_eq (Nat.zero_add _)) (Nat.le_of_eq (Nat.zero_add _)) q1310 qs41 (fun H hI => x_recvK h rfl rfl hI) q1308 (Nat.le_of_ble_eq_true rfl) dX0_go_11 (fun r4 ν3 hw => ?_)
    refine g_if_eq 14 33 h.1 dX0_go_14 (by decide) (fun c => ?_) (fun c => ?_)
    · have hw := hw.1 c
      exact g_le (xt_X0_go_33 h hT hN hR hw) ⟨rfl, trivial⟩
    · have hw := hw.2 c
      refine g_aload_0 17 h.1 dX0_go_17 ?_
      refine xg_X0_69_0 18 h dX0_go_18 ?_
      refine g_bipush 21 _ bp_8 h.1 dX0_go_21 ?_
      refine g_iload_3 23 h.1 dX0_go_23 ?_
      refine g_imul 24 h.1 dX0_go_24 ?_
      refine g_iload_2 25 h.1 dX0_go_25 ?_
      refine g_iadd 26 h.1 dX0_go_26 ?_
      refine xcV_I_1 27 h (xm_X5_isFree h.2.2.1 hw) (by decide) (Nat.le_of_eq (Nat.zero_add _)) (Nat.le_of_eq (Nat.zero_add _)) q1648 q1649 (fun H hI => x_recvK h rfl rfl hI) q1647 (Nat.le_of_ble_eq_true rfl) dX0_go_27 (fun r6 ν5 hw => ?_)
      refine g_if_ne 30 47 h.1 dX0_go_30 (by decide) (fun c => ?_) (fun c => ?_)
      · have hw := hw.1 c
        refine g_aload_0 47 h.1 dX0_go_47 ?_
        refine xcV_V_0 48 h (xm_X0_remembers h.2.2.1 hw) (by decide) (Nat.le_of_eq (Nat.zero_add _)) (Nat.le_of_eq (Nat.zero_add _)) q1637 qs62 (fun H hI => x_recvK h rfl rfl hI) q1635 (Nat.le_of_ble_eq_true rfl) dX0_go_48 (fun ν7 hw => ?_)
        refine g_aload_0 51 h.1 dX0_go_51 ?_
        refine xg_X0_69_0 52 h dX0_go_52 ?_
        refine xg_X0_216_5 55 rfl h dX0_go_55 ?_
        refine g_iload_1 58 h.1 dX0_go_58 ?_
        refine g_bipush 59 _ bp_8 h.1 dX0_go_59 ?_
        refine g_iload_3 61 h.1 dX0_go_61 ?_
        refine g_imul 62 h.1 dX0_go_62 ?_
        refine g_iload_2 63 h.1 dX0_go_63 ?_
        refine g_iadd 64 h.1 dX0_go_64 ?_
        obtain ⟨f10, hw⟩ := hw
        obtain ⟨f11, hw⟩ := hw
        refine xa_iast 65 f10 f11 h dX0_go_65 (fun ν8 e9 => ?_)
        have hw := hw ν8 e9
        refine g_iconstv 66 _ ic_1 h.1 dX0_go_66 ?_
        exact hR.1 67 _ _ _ _ _ _ hT rfl dX0_go_67 ⟨_, rfl, hw⟩
      · have hw := hw.2 c
        exact g_le (xt_X0_go_33 h hT hN hR hw) ⟨rfl, trivial⟩
theorem xm_X0_go {l : Launch} {S : Adr} {A : Nat → Prop} (hD : FD xT S xcl A) {x1 : Int32} {x2 : Int32} {x3 : Int32} {ν : XN} {Q : Int32 → XN → Prop} (hw : xw_X0_go x1 x2 x3 ν Q) : xMet l S A 4 0 0 3 yX0_go [.ref (S.2.1 0), .int x1, .int x2, .int x3] ν (pI Q) :=
  x_met (plainFor_of_name (by decide)) hD ⟨⟨by decide, by decide, by show _ = some 3; decide +kernel⟩, by decide, q1646, q171⟩ (Nat.le_of_ble_eq_true rfl) (fun κ Z h hT hN hR => xt_X0_go h hT hN hR hw)
def xw_X0_has_2_133 (X105 : Int32 → Int32 → XN → Prop) (x3 : Int32) (y0 : Int32) (y1 : Int32) (ν : XN) (Q : Int32 → XN → Prop) : Prop :=
  X105 (y1 + y0) (x3 + 1) ν
theorem xt_X0_has_2_133 {κ : Cx} {S : Adr} {A : Nat → Prop} {Z : State → Prop} {Q : Int32 → XN → Prop} (h : XCx κ cX0_has_2 RX0 S A 4 0 0) (hT : (cxT κ).sig.returnType = some .int) (hN : (cxT κ).name = "has") (hR : xRet κ S A 0 0 Z cX0_has_2 (pI Q)) {X105 : Int32 → Int32 → XN → Prop} (hX105 : ∀ (x2 : Int32) (x3 : Int32) (ν : XN), X105 x2 x3 ν → XG κ S A 0 0 Z 105 (ν, 0, 0) [some (.ref (S.2.1 0)), none, some (.int x2), some (.int x3)] []) {x3 : Int32} {y0 : Int32} {y1 : Int32} {ν : XN} (hw : xw_X0_has_2_133 X105 x3 y0 y1 ν Q) : XG κ S A 0 0 Z 133 (ν, 0, 0) [some (.ref (S.2.1 0)), none, none, some (.int x3)] [.int y0, .int y1] := by
  unfold xw_X0_has_2_133 at hw
  refine g_iadd 133 h.1 dX0_has_2_133 ?_
  refine g_istore_2 134 h.1 rfl dX0_has_2_134 ?_
  refine g_iinc_3 135 (x3 + 1) (congrArg _ ic_1) h.1 rfl dX0_has_2_135 ?_
  refine g_goto 138 105 h.1 dX0_has_2_138 (by decide) ?_
  exact g_le (hX105 _ _ _ hw) ⟨rfl, rfl, rfl, trivial⟩
def xw_X0_has_2_105 (x2 : Int32) (x3 : Int32) (ν : XN) (Q : Int32 → XN → Prop) : Prop :=
  ∀ X105 : Int32 → Int32 → XN → Prop, (∀ (x2 : Int32) (x3 : Int32) (ν : XN), (((64 : Int32) ≤ x3 → Q x2 ν) ∧ (¬ (64 : Int32) ≤ x3 → (xw_X0_isCell x3 ν (fun r20 ν19 => ((r20 = 0 → xw_X0_has_2_133 X105 x3 (0 : Int32) x2 ν19 Q) ∧ (¬ r20 = 0 → (xok 1 (xft 10 3) ∧ (vp_in x3 (xlen (xft 10 3)) ∧ xw_X0_has_2_133 X105 x3 (fA ν19.1 (xft 10 3) (Int32.toNatClampNeg x3)) x2 ν19 Q)))))))) → X105 x2 x3 ν) → X105 x2 x3 ν
theorem xt_X0_has_2_105 {κ : Cx} {S : Adr} {A : Nat → Prop} {Z : State → Prop} {Q : Int32 → XN → Prop} (h : XCx κ cX0_has_2 RX0 S A 4 0 0) (hT : (cxT κ).sig.returnType = some .int) (hN : (cxT κ).name = "has") (hR : xRet κ S A 0 0 Z cX0_has_2 (pI Q)) {x2 : Int32} {x3 : Int32} {ν : XN} (hw : xw_X0_has_2_105 x2 x3 ν Q) : XG κ S A 0 0 Z 105 (ν, 0, 0) [some (.ref (S.2.1 0)), none, some (.int x2), some (.int x3)] [] := by
  refine hw (fun x2 x3 ν => XG κ S A 0 0 Z 105 (ν, 0, 0) [some (.ref (S.2.1 0)), none, some (.int x2), some (.int x3)] []) ?_
  clear hw
  intro x2 x3 ν hw
  have hX105 : ∀ (x2 : Int32) (x3 : Int32) (ν : XN), XG κ S A 0 0 Z 105 (ν, 0, 0) [some (.ref (S.2.1 0)), none, some (.int x2), some (.int x3)] [] → XG κ S A 0 0 Z 105 (ν, 0, 0) [some (.ref (S.2.1 0)), none, some (.int x2), some (.int x3)] [] := fun _ _ _ hh => hh
  refine g_iload_3 105 h.1 dX0_has_2_105 ?_
  refine g_bipush 106 _ bp_64 h.1 dX0_has_2_106 ?_
  refine g_icmp_ge 108 141 h.1 dX0_has_2_108 (by decide) (fun c => ?_) (fun c => ?_)
  · have hw := hw.1 c
    refine g_iload_2 141 h.1 dX0_has_2_141 ?_
    exact hR.1 142 _ _ _ _ _ _ hT rfl dX0_has_2_142 ⟨_, rfl, hw⟩
  · have hw := hw.2 c
    refine g_iload_2 111 h.1 dX0_has_2_111 ?_
    refine g_aload_0 112 h.1 dX0_has_2_112 ?_
    refine g_iload_3 113 h.1 dX0_has_2_113 ?_
    refine xcV_I_1 114 h (xm_X0_isCell h.2.2.1 hw) (by decide) (Nat.le_of_eq (Nat.zero_add _)) (Nat.le_of_eq (Nat.zero_add _)) q1306 qs40 (fun H hI => x_recvK h rfl rfl hI) q1304 (Nat.le_of_ble_eq_true rfl) dX0_has_2_114 (fun r20 ν19 hw => ?_)
    refine g_if_eq 117 132 h.1 dX0_has_2_117 (by decide) (fun c => ?_) (fun c => ?_)
    · have hw := hw.1 c
      refine g_iconstv 132 _ ic_0 h.1 dX0_has_2_132 ?_
      exact g_le (xt_X0_has_2_133 h hT hN hR hX105 hw) ⟨rfl, rfl, trivial⟩
    · have hw := hw.2 c
      refine g_aload_0 120 h.1 dX0_has_2_120 ?_
      refine xg_X0_69_0 121 h dX0_has_2_121 ?_
      refine xg_X0_198_5 124 rfl h dX0_has_2_124 ?_
      refine g_iload_3 127 h.1 dX0_has_2_127 ?_
      obtain ⟨f21, hw⟩ := hw
      obtain ⟨f22, hw⟩ := hw
      refine xa_iald 128 f21 f22 h dX0_has_2_128 ?_
      refine g_goto 129 133 h.1 dX0_has_2_129 (by decide) ?_
      exact g_le (xt_X0_has_2_133 h hT hN hR hX105 hw) ⟨rfl, rfl, trivial⟩
def xw_X0_has_2 (x1 : Int32) (ν : XN) (Q : Int32 → XN → Prop) : Prop :=
  ((x1 = 0 → (∃ b1, fR ν.1 0 0 = .ref b1 ∧ (rc ν.2 b1 = 2 ∧ Q (rI ν.2 b1 1) ν))) ∧ (¬ x1 = 0 → ((x1 = 1 → (∃ b4, fR ν.1 0 0 = .ref b4 ∧ (rc ν.2 b4 = 2 ∧ Q (rI ν.2 b4 2) ν))) ∧ (¬ x1 = 1 → ((x1 = 2 → (xw_X0_topics ν (fun r8 ν7 => Q r8 ν7))) ∧ (¬ x1 = 2 → ((x1 = 3 → (xw_X0_people ν (fun r10 ν9 => Q r10 ν9))) ∧ (¬ x1 = 3 → ((x1 = 4 → (∃ b11, fR ν.1 0 0 = .ref b11 ∧ (rc ν.2 b11 = 2 ∧ (∃ b14, (rO ν.2 b11 7) = some b14 ∧ (rc ν.2 b14 = 7 ∧ (xw_J2_size b14 ν (fun r17 ν16 => Q r17 ν16))))))) ∧ (¬ x1 = 4 → ((x1 = 5 → Q (fI ν.1 10 0) ν) ∧ (¬ x1 = 5 → ((x1 = 6 → xw_X0_has_2_105 (0 : Int32) (0 : Int32) ν Q) ∧ (¬ x1 = 6 → ((x1 = 7 → Q (fI ν.1 10 1) ν) ∧ (¬ x1 = 7 → ((x1 = 8 → Q (fI ν.1 0 18) ν) ∧ (¬ x1 = 8 → ((x1 = 9 → Q (fI ν.1 0 21) ν) ∧ (¬ x1 = 9 → Q (-1 : Int32) ν))))))))))))))))))))
theorem xt_X0_has_2 {κ : Cx} {S : Adr} {A : Nat → Prop} {Z : State → Prop} {Q : Int32 → XN → Prop} (h : XCx κ cX0_has_2 RX0 S A 4 0 0) (hT : (cxT κ).sig.returnType = some .int) (hN : (cxT κ).name = "has") (hR : xRet κ S A 0 0 Z cX0_has_2 (pI Q)) {x1 : Int32} {ν : XN} (hw : xw_X0_has_2 x1 ν Q) : XG κ S A 0 0 Z 0 (ν, 0, 0) [some (.ref (S.2.1 0)), some (.int x1), none, none] [] := by
  unfold xw_X0_has_2 at hw
  refine g_iconstv 0 _ ic_0 h.1 dX0_has_2_0 ?_
  refine g_istore_2 1 h.1 rfl dX0_has_2_1 ?_
  refine g_iload_1 2 h.1 dX0_has_2_2 ?_
  rcases Classical.em (x1 = 0) with c0 | c0
  · have hw := hw.1 c0
    refine g_tabIn 3 56 53 h.1 dX0_has_2_3 (by rw [c0]; decide) (by rw [c0]; decide) (by rw [c0]; decide) (by decide) ?_
    refine g_aload_0 56 h.1 dX0_has_2_56 ?_
    refine xg_X0_31_0 57 h dX0_has_2_57 ?_
    obtain ⟨b1, e2, hw⟩ := hw
    rw [e2]
    obtain ⟨f3, hw⟩ := hw
    refine xg_X0_157_1 60 f3 h dX0_has_2_60 ?_
    exact hR.1 63 _ _ _ _ _ _ hT rfl dX0_has_2_63 ⟨_, rfl, hw⟩
  · have hw := hw.2 c0
    rcases Classical.em (x1 = 1) with c1 | c1
    · have hw := hw.1 c1
      refine g_tabIn 3 64 61 h.1 dX0_has_2_3 (by rw [c1]; decide) (by rw [c1]; decide) (by rw [c1]; decide) (by decide) ?_
      refine g_aload_0 64 h.1 dX0_has_2_64 ?_
      refine xg_X0_31_0 65 h dX0_has_2_65 ?_
      obtain ⟨b4, e5, hw⟩ := hw
      rw [e5]
      obtain ⟨f6, hw⟩ := hw
      refine xg_X0_180_1 68 f6 h dX0_has_2_68 ?_
      exact hR.1 71 _ _ _ _ _ _ hT rfl dX0_has_2_71 ⟨_, rfl, hw⟩
    · have hw := hw.2 c1
      rcases Classical.em (x1 = 2) with c2 | c2
      · have hw := hw.1 c2
        refine g_tabIn 3 72 69 h.1 dX0_has_2_3 (by rw [c2]; decide) (by rw [c2]; decide) (by rw [c2]; decide) (by decide) ?_
        refine g_aload_0 72 h.1 dX0_has_2_72 ?_
        refine xcV_I_0 73 h (xm_X0_topics h.2.2.1 hw) (by decide) (Nat.le_of_eq (Nat.zero_add _)) (Nat.le_of_eq (Nat.zero_add _)) q1301 qs39 (fun H hI => x_recvK h rfl rfl hI) q1299 (Nat.le_of_ble_eq_true rfl) dX0_has_2_73 (fun r8 ν7 hw => ?_)
        exact hR.1 76 _ _ _ _ _ _ hT rfl dX0_has_2_76 ⟨_, rfl, hw⟩
      · have hw := hw.2 c2
        rcases Classical.em (x1 = 3) with c3 | c3
        · have hw := hw.1 c3
          refine g_tabIn 3 77 74 h.1 dX0_has_2_3 (by rw [c3]; decide) (by rw [c3]; decide) (by rw [c3]; decide) (by decide) ?_
          refine g_aload_0 77 h.1 dX0_has_2_77 ?_
          refine xcV_I_0 78 h (xm_X0_people h.2.2.1 hw) (by decide) (Nat.le_of_eq (Nat.zero_add _)) (Nat.le_of_eq (Nat.zero_add _)) q1284 qs38 (fun H hI => x_recvK h rfl rfl hI) q1303 (Nat.le_of_ble_eq_true rfl) dX0_has_2_78 (fun r10 ν9 hw => ?_)
          exact hR.1 81 _ _ _ _ _ _ hT rfl dX0_has_2_81 ⟨_, rfl, hw⟩
        · have hw := hw.2 c3
          rcases Classical.em (x1 = 4) with c4 | c4
          · have hw := hw.1 c4
            refine g_tabIn 3 82 79 h.1 dX0_has_2_3 (by rw [c4]; decide) (by rw [c4]; decide) (by rw [c4]; decide) (by decide) ?_
            refine g_aload_0 82 h.1 dX0_has_2_82 ?_
            refine xg_X0_31_0 83 h dX0_has_2_83 ?_
            obtain ⟨b11, e12, hw⟩ := hw
            rw [e12]
            obtain ⟨f13, hw⟩ := hw
            refine xg_X0_188_1 86 f13 h dX0_has_2_86 ?_
            obtain ⟨b14, e15, hw⟩ := hw
            rw [e15]
            obtain ⟨f18, hw⟩ := hw
            refine xcF_I_0 89 h h.2.1.2.2.1.1 (xm_J2_size h.2.2.1 hw) (by decide) (Nat.le_of_eq (Nat.zero_add _)) (Nat.le_of_eq (Nat.zero_add _)) ⟨by decide, by decide, by show _ = some 0; decide +kernel⟩ q793 q791 f18 q1287 (Nat.le_of_ble_eq_true rfl) dX0_has_2_89 (fun r17 ν16 hw => ?_)
            exact hR.1 94 _ _ _ _ _ _ hT rfl dX0_has_2_94 ⟨_, rfl, hw⟩
          · have hw := hw.2 c4
            rcases Classical.em (x1 = 5) with c5 | c5
            · have hw := hw.1 c5
              refine g_tabIn 3 95 92 h.1 dX0_has_2_3 (by rw [c5]; decide) (by rw [c5]; decide) (by rw [c5]; decide) (by decide) ?_
              refine g_aload_0 95 h.1 dX0_has_2_95 ?_
              refine xg_X0_69_0 96 h dX0_has_2_96 ?_
              refine xg_X0_191_5 99 rfl h dX0_has_2_99 ?_
              exact hR.1 102 _ _ _ _ _ _ hT rfl dX0_has_2_102 ⟨_, rfl, hw⟩
            · have hw := hw.2 c5
              rcases Classical.em (x1 = 6) with c6 | c6
              · have hw := hw.1 c6
                refine g_tabIn 3 103 100 h.1 dX0_has_2_3 (by rw [c6]; decide) (by rw [c6]; decide) (by rw [c6]; decide) (by decide) ?_
                refine g_iconstv 103 _ ic_0 h.1 dX0_has_2_103 ?_
                refine g_istore_3 104 h.1 rfl dX0_has_2_104 ?_
                exact g_le (xt_X0_has_2_105 h hT hN hR hw) ⟨rfl, rfl, rfl, trivial⟩
              · have hw := hw.2 c6
                rcases Classical.em (x1 = 7) with c7 | c7
                · have hw := hw.1 c7
                  refine g_tabIn 3 143 140 h.1 dX0_has_2_3 (by rw [c7]; decide) (by rw [c7]; decide) (by rw [c7]; decide) (by decide) ?_
                  refine g_aload_0 143 h.1 dX0_has_2_143 ?_
                  refine xg_X0_69_0 144 h dX0_has_2_144 ?_
                  refine xg_X0_201_5 147 rfl h dX0_has_2_147 ?_
                  exact hR.1 150 _ _ _ _ _ _ hT rfl dX0_has_2_150 ⟨_, rfl, hw⟩
                · have hw := hw.2 c7
                  rcases Classical.em (x1 = 8) with c8 | c8
                  · have hw := hw.1 c8
                    refine g_tabIn 3 151 148 h.1 dX0_has_2_3 (by rw [c8]; decide) (by rw [c8]; decide) (by rw [c8]; decide) (by decide) ?_
                    refine g_aload_0 151 h.1 dX0_has_2_151 ?_
                    refine xg_X0_151_0 152 h dX0_has_2_152 ?_
                    exact hR.1 155 _ _ _ _ _ _ hT rfl dX0_has_2_155 ⟨_, rfl, hw⟩
                  · have hw := hw.2 c8
                    rcases Classical.em (x1 = 9) with c9 | c9
                    · have hw := hw.1 c9
                      refine g_tabIn 3 156 153 h.1 dX0_has_2_3 (by rw [c9]; decide) (by rw [c9]; decide) (by rw [c9]; decide) (by decide) ?_
                      refine g_aload_0 156 h.1 dX0_has_2_156 ?_
                      refine xg_X0_148_0 157 h dX0_has_2_157 ?_
                      exact hR.1 160 _ _ _ _ _ _ hT rfl dX0_has_2_160 ⟨_, rfl, hw⟩
                    · have hw := hw.2 c9
                      refine g_tabOut 3 161 h.1 dX0_has_2_3 (tabOut_0_9 c0 c1 c2 c3 c4 c5 c6 c7 c8 c9) (by decide) ?_
                      refine g_iconstv 161 _ ic_m1 h.1 dX0_has_2_161 ?_
                      exact hR.1 162 _ _ _ _ _ _ hT rfl dX0_has_2_162 ⟨_, rfl, hw⟩
theorem xm_X0_has_2 {l : Launch} {S : Adr} {A : Nat → Prop} (hD : FD xT S xcl A) {x1 : Int32} {ν : XN} {Q : Int32 → XN → Prop} (hw : xw_X0_has_2 x1 ν Q) : xMet l S A 4 0 0 1 yX0_has_2 [.ref (S.2.1 0), .int x1] ν (pI Q) :=
  x_met (plainFor_of_name (by decide)) hD ⟨⟨by decide, by decide, by show _ = some 1; decide +kernel⟩, by decide, q1298, q171⟩ (Nat.le_of_ble_eq_true rfl) (fun κ Z h hT hN hR => xt_X0_has_2 h hT hN hR hw)
def xw_X0_height (x1 : Int32) (x2 : Int32) (ν : XN) (Q : Int32 → XN → Prop) : Prop :=
  (xw_X0_isIn x1 x2 ν (fun r2 ν1 => ((r2 = 0 → Q (-1 : Int32) ν1) ∧ (¬ r2 = 0 → (xok 1 (xft 10 3) ∧ (vp_in (((8 : Int32) * x2) + x1) (xlen (xft 10 3)) ∧ Q (fA ν1.1 (xft 10 3) (Int32.toNatClampNeg (((8 : Int32) * x2) + x1))) ν1))))))
theorem xt_X0_height {κ : Cx} {S : Adr} {A : Nat → Prop} {Z : State → Prop} {Q : Int32 → XN → Prop} (h : XCx κ cX0_height RX0 S A 3 0 0) (hT : (cxT κ).sig.returnType = some .int) (hN : (cxT κ).name = "height") (hR : xRet κ S A 0 0 Z cX0_height (pI Q)) {x1 : Int32} {x2 : Int32} {ν : XN} (hw : xw_X0_height x1 x2 ν Q) : XG κ S A 0 0 Z 0 (ν, 0, 0) [some (.ref (S.2.1 0)), some (.int x1), some (.int x2)] [] := by
  unfold xw_X0_height at hw
  refine g_aload_0 0 h.1 dX0_height_0 ?_
  refine g_iload_1 1 h.1 dX0_height_1 ?_
  refine g_iload_2 2 h.1 dX0_height_2 ?_
  refine xcV_I_2 3 h (xm_X0_isIn h.2.2.1 hw) (by decide) (Nat.le_of_eq (Nat.zero_add _)) (Nat.le_of_eq (Nat.zero_add _)) q1310 qs41 (fun H hI => x_recvK h rfl rfl hI) q1308 (Nat.le_of_ble_eq_true rfl) dX0_height_3 (fun r2 ν1 hw => ?_)
  refine g_if_eq 6 26 h.1 dX0_height_6 (by decide) (fun c => ?_) (fun c => ?_)
  · have hw := hw.1 c
    refine g_iconstv 26 _ ic_m1 h.1 dX0_height_26 ?_
    exact hR.1 27 _ _ _ _ _ _ hT rfl dX0_height_27 ⟨_, rfl, hw⟩
  · have hw := hw.2 c
    refine g_aload_0 9 h.1 dX0_height_9 ?_
    refine xg_X0_69_0 10 h dX0_height_10 ?_
    refine xg_X0_198_5 13 rfl h dX0_height_13 ?_
    refine g_bipush 16 _ bp_8 h.1 dX0_height_16 ?_
    refine g_iload_2 18 h.1 dX0_height_18 ?_
    refine g_imul 19 h.1 dX0_height_19 ?_
    refine g_iload_1 20 h.1 dX0_height_20 ?_
    refine g_iadd 21 h.1 dX0_height_21 ?_
    obtain ⟨f3, hw⟩ := hw
    obtain ⟨f4, hw⟩ := hw
    refine xa_iald 22 f3 f4 h dX0_height_22 ?_
    refine g_goto 23 27 h.1 dX0_height_23 (by decide) ?_
    exact hR.1 27 _ _ _ _ _ _ hT rfl dX0_height_27 ⟨_, rfl, hw⟩
theorem xm_X0_height {l : Launch} {S : Adr} {A : Nat → Prop} (hD : FD xT S xcl A) {x1 : Int32} {x2 : Int32} {ν : XN} {Q : Int32 → XN → Prop} (hw : xw_X0_height x1 x2 ν Q) : xMet l S A 3 0 0 2 yX0_height [.ref (S.2.1 0), .int x1, .int x2] ν (pI Q) :=
  x_met (plainFor_of_name (by decide)) hD ⟨⟨by decide, by decide, by show _ = some 2; decide +kernel⟩, by decide, q1341, q171⟩ (Nat.le_of_ble_eq_true rfl) (fun κ Z h hT hN hR => xt_X0_height h hT hN hR hw)
def xw_X0_held (x0 : Int64) (ν : XN) (Q : Int64 → XN → Prop) : Prop :=
  (xw_J12_min_2 (1000000 : Int64) x0 ν (fun r2 ν1 => (xw_J12_max_2 (-1000000 : Int64) r2 ν1 (fun r4 ν3 => Q r4 ν3))))
theorem xt_X0_held {κ : Cx} {S : Adr} {A : Nat → Prop} {Z : State → Prop} {Q : Int64 → XN → Prop} (h : XCx κ cX0_held RX0 S A 2 0 0) (hT : (cxT κ).sig.returnType = some .long) (hN : (cxT κ).name = "held") (hR : xRet κ S A 0 0 Z cX0_held (pJ Q)) {x0 : Int64} {ν : XN} (hw : xw_X0_held x0 ν Q) : XG κ S A 0 0 Z 0 (ν, 0, 0) [some (.long x0), none] [] := by
  unfold xw_X0_held at hw
  refine g_ldc2 0 h.1 q1407 dX0_held_0 ?_
  refine g_ldc2 3 h.1 q1408 dX0_held_3 ?_
  refine g_lload_0 6 h.1 dX0_held_6 ?_
  refine xcS_J_2 7 h (xm_J12_min_2 h.2.2.1 hw) (by decide) (Nat.le_of_eq (Nat.zero_add _)) (Nat.le_of_eq (Nat.zero_add _)) q1410 q1409 (Nat.le_of_ble_eq_true rfl) dX0_held_7 (fun r2 ν1 hw => ?_)
  refine xcS_J_2 10 h (xm_J12_max_2 h.2.2.1 hw) (by decide) (Nat.le_of_eq (Nat.zero_add _)) (Nat.le_of_eq (Nat.zero_add _)) q1413 q1412 (Nat.le_of_ble_eq_true rfl) dX0_held_10 (fun r4 ν3 hw => ?_)
  exact hR.2.1 13 _ _ _ _ _ hT dX0_held_13 ⟨_, rfl, hw⟩
theorem xm_X0_held {l : Launch} {S : Adr} {A : Nat → Prop} (hD : FD xT S xcl A) {x0 : Int64} {ν : XN} {Q : Int64 → XN → Prop} (hw : xw_X0_held x0 ν Q) : xMet l S A 2 0 0 1 yX0_held [.long x0] ν (pJ Q) :=
  x_met (plainFor_of_name (by decide)) hD ⟨⟨by decide, by decide, by show _ = some 1; decide +kernel⟩, by decide, q1406, q171⟩ (Nat.le_of_ble_eq_true rfl) (fun κ Z h hT hN hR => xt_X0_held h hT hN hR hw)
def xw_X0_writes (x1 : Int32) (ν : XN) (Q : XN → Prop) : Prop :=
  (∀ ν1, ν1 = (sI ν.1 0 25 ((fI ν.1 0 25) + (1 : Int32)), ν.2) → (vp_in (fI ν.1 0 25) 95 ∧ (∀ ν3, ν3 = (sA ν1.1 11 (Int32.toNatClampNeg (fI ν.1 0 25)) (vp_nar .byte (Int8.toInt32 (Int32.toInt8 x1))), ν1.2) → Q ν3)))
theorem xt_X0_writes {κ : Cx} {S : Adr} {A : Nat → Prop} {Z : State → Prop} {Q : XN → Prop} (h : XCx κ cX0_writes RX0 S A 1 0 0) (hT : (cxT κ).sig.returnType = none) (hN : (cxT κ).name = "writes") (hR : xRet κ S A 0 0 Z cX0_writes (pV Q)) {x1 : Int32} {ν : XN} (hw : xw_X0_writes x1 ν Q) : XG κ S A 0 0 Z 0 (ν, 0, 0) [some (.ref (S.2.1 0)), some (.int x1)] [] := by
  unfold xw_X0_writes at hw
  refine g_aload_0 0 h.1 dX0_writes_0 ?_
  refine xg_X0_112_0 1 h dX0_writes_1 ?_
  refine g_aload_0 4 h.1 dX0_writes_4 ?_
  refine g_dup 5 rfl h.1 dX0_writes_5 ?_
  refine xg_X0_363_0 6 h dX0_writes_6 ?_
  refine g_dup_x1 9 rfl rfl h.1 dX0_writes_9 ?_
  refine g_iconstv 10 _ ic_1 h.1 dX0_writes_10 ?_
  refine g_iadd 11 h.1 dX0_writes_11 ?_
  refine xp_X0_363_0 12 h dX0_writes_12 (fun ν1 e2 => ?_)
  have hw := hw ν1 e2
  refine g_iload_1 15 h.1 dX0_writes_15 ?_
  refine g_i2b 16 h.1 dX0_writes_16 ?_
  obtain ⟨f5, hw⟩ := hw
  refine xa_bast 17 rfl f5 h dX0_writes_17 (fun ν3 e4 => ?_)
  have hw := hw ν3 e4
  exact hR.2.2.1 18 _ _ _ _ hT dX0_writes_18 ⟨rfl, hw⟩
theorem xm_X0_writes {l : Launch} {S : Adr} {A : Nat → Prop} (hD : FD xT S xcl A) {x1 : Int32} {ν : XN} {Q : XN → Prop} (hw : xw_X0_writes x1 ν Q) : xMet l S A 1 0 0 1 yX0_writes [.ref (S.2.1 0), .int x1] ν (pV Q) :=
  x_met (plainFor_of_name (by decide)) hD ⟨⟨by decide, by decide, by show _ = some 1; decide +kernel⟩, by decide, q1728, q171⟩ (Nat.le_of_ble_eq_true rfl) (fun κ Z h hT hN hR => xt_X0_writes h hT hN hR hw)
def xw_X0_image_59 (X32 : Int32 → XN → Prop) (x1 : Int32) (ν : XN) (Q : Int32 → XN → Prop) : Prop :=
  X32 (x1 + 1) ν
theorem xt_X0_image_59 {κ : Cx} {S : Adr} {A : Nat → Prop} {Z : State → Prop} {Q : Int32 → XN → Prop} (h : XCx κ cX0_image RX0 S A 4 0 0) (hT : (cxT κ).sig.returnType = some .int) (hN : (cxT κ).name = "image") (hR : xRet κ S A 0 0 Z cX0_image (pI Q)) {X32 : Int32 → XN → Prop} (hX32 : ∀ (x1 : Int32) (ν : XN), X32 x1 ν → XG κ S A 0 0 Z 32 (ν, 0, 0) [some (.ref (S.2.1 0)), some (.int x1)] []) {x1 : Int32} {ν : XN} (hw : xw_X0_image_59 X32 x1 ν Q) : XG κ S A 0 0 Z 59 (ν, 0, 0) [some (.ref (S.2.1 0)), some (.int x1)] [] := by
  unfold xw_X0_image_59 at hw
  refine g_iinc_1 59 (x1 + 1) (congrArg _ ic_1) h.1 rfl dX0_image_59 ?_
  refine g_goto 62 32 h.1 dX0_image_62 (by decide) ?_
  exact g_le (hX32 _ _ hw) ⟨rfl, rfl, trivial⟩
def xw_X0_image_67 (x1 : Int32) (ν : XN) (Q : Int32 → XN → Prop) : Prop :=
  ∀ X67 : Int32 → XN → Prop, (∀ (x1 : Int32) (ν : XN), (xw_X0_people ν (fun r11 ν10 => ((r11 ≤ x1 → (xw_X0_check 11 (fI ν10.1 0 25) ν10 (fun r13 ν12 => (xw_X0_writes r13 ν12 (fun ν14 => Q (fI ν14.1 0 25) ν14))))) ∧ (¬ r11 ≤ x1 → (xok 1 (xft 10 4) ∧ (vp_in x1 (xlen (xft 10 4)) ∧ (xw_X0_writes ((fA ν10.1 (xft 10 4) (Int32.toNatClampNeg x1)) - (fA ν10.1 (xft 10 4) (Int32.toNatClampNeg x1)) / (8 : Int32) * (8 : Int32)) ν10 (fun ν17 => (xok 1 (xft 10 4) ∧ (vp_in x1 (xlen (xft 10 4)) ∧ (xw_X0_writes ((fA ν17.1 (xft 10 4) (Int32.toNatClampNeg x1)) / (8 : Int32)) ν17 (fun ν20 => (xok 1 (xft 10 5) ∧ (vp_in x1 (xlen (xft 10 5)) ∧ (xw_X0_writes (fA ν20.1 (xft 10 5) (Int32.toNatClampNeg x1)) ν20 (fun ν23 => (xok 1 (xft 10 6) ∧ (vp_in x1 (xlen (xft 10 6)) ∧ (xw_X0_writes (fA ν23.1 (xft 10 6) (Int32.toNatClampNeg x1)) ν23 (fun ν26 => X67 (x1 + 1) ν26)))))))))))))))))))) → X67 x1 ν) → X67 x1 ν
theorem xt_X0_image_67 {κ : Cx} {S : Adr} {A : Nat → Prop} {Z : State → Prop} {Q : Int32 → XN → Prop} (h : XCx κ cX0_image RX0 S A 4 0 0) (hT : (cxT κ).sig.returnType = some .int) (hN : (cxT κ).name = "image") (hR : xRet κ S A 0 0 Z cX0_image (pI Q)) {x1 : Int32} {ν : XN} (hw : xw_X0_image_67 x1 ν Q) : XG κ S A 0 0 Z 67 (ν, 0, 0) [some (.ref (S.2.1 0)), some (.int x1)] [] := by
  refine hw (fun x1 ν => XG κ S A 0 0 Z 67 (ν, 0, 0) [some (.ref (S.2.1 0)), some (.int x1)] []) ?_
  clear hw
  intro x1 ν hw
  have hX67 : ∀ (x1 : Int32) (ν : XN), XG κ S A 0 0 Z 67 (ν, 0, 0) [some (.ref (S.2.1 0)), some (.int x1)] [] → XG κ S A 0 0 Z 67 (ν, 0, 0) [some (.ref (S.2.1 0)), some (.int x1)] [] := fun _ _ hh => hh
  refine g_iload_1 67 h.1 dX0_image_67 ?_
  refine g_aload_0 68 h.1 dX0_image_68 ?_
  refine xcV_I_0 69 h (xm_X0_people h.2.2.1 hw) (by decide) (Nat.le_of_eq (Nat.zero_add _)) (Nat.le_of_eq (Nat.zero_add _)) q1284 qs38 (fun H hI => x_recvK h rfl rfl hI) q1303 (Nat.le_of_ble_eq_true rfl) dX0_image_69 (fun r11 ν10 hw => ?_)
  refine g_icmp_ge 72 139 h.1 dX0_image_72 (by decide) (fun c => ?_) (fun c => ?_)
  · have hw := hw.1 c
    refine g_aload_0 139 h.1 dX0_image_139 ?_
    refine g_aload_0 140 h.1 dX0_image_140 ?_
    refine xg_X0_112_0 141 h dX0_image_141 ?_
    refine g_aload_0 144 h.1 dX0_image_144 ?_
    refine xg_X0_363_0 145 h dX0_image_145 ?_
    refine xcS_I_2 148 h (xm_X0_check h.2.2.1 hw) (by decide) (Nat.le_of_eq (Nat.zero_add _)) (Nat.le_of_eq (Nat.zero_add _)) q1730 q1729 (Nat.le_of_ble_eq_true rfl) dX0_image_148 (fun r13 ν12 hw => ?_)
    refine xcV_V_1 151 h (xm_X0_writes h.2.2.1 hw) (by decide) (Nat.le_of_eq (Nat.zero_add _)) (Nat.le_of_eq (Nat.zero_add _)) q1727 qs64 (fun H hI => x_recvK h rfl rfl hI) q1725 (Nat.le_of_ble_eq_true rfl) dX0_image_151 (fun ν14 hw => ?_)
    refine g_aload_0 154 h.1 dX0_image_154 ?_
    refine xg_X0_363_0 155 h dX0_image_155 ?_
    exact hR.1 158 _ _ _ _ _ _ hT rfl dX0_image_158 ⟨_, rfl, hw⟩
  · have hw := hw.2 c
    refine g_aload_0 75 h.1 dX0_image_75 ?_
    refine g_aload_0 76 h.1 dX0_image_76 ?_
    refine xg_X0_69_0 77 h dX0_image_77 ?_
    refine xg_X0_216_5 80 rfl h dX0_image_80 ?_
    refine g_iload_1 83 h.1 dX0_image_83 ?_
    obtain ⟨f15, hw⟩ := hw
    obtain ⟨f16, hw⟩ := hw
    refine xa_iald 84 f15 f16 h dX0_image_84 ?_
    refine g_bipush 85 _ bp_8 h.1 dX0_image_85 ?_
    refine g_irem 87 (by decide) h.1 dX0_image_87 ?_
    refine xcV_V_1 88 h (xm_X0_writes h.2.2.1 hw) (by decide) (Nat.le_of_eq (Nat.zero_add _)) (Nat.le_of_eq (Nat.zero_add _)) q1727 qs64 (fun H hI => x_recvK h rfl rfl hI) q1725 (Nat.le_of_ble_eq_true rfl) dX0_image_88 (fun ν17 hw => ?_)
    refine g_aload_0 91 h.1 dX0_image_91 ?_
    refine g_aload_0 92 h.1 dX0_image_92 ?_
    refine xg_X0_69_0 93 h dX0_image_93 ?_
    refine xg_X0_216_5 96 rfl h dX0_image_96 ?_
    refine g_iload_1 99 h.1 dX0_image_99 ?_
    obtain ⟨f18, hw⟩ := hw
    obtain ⟨f19, hw⟩ := hw
    refine xa_iald 100 f18 f19 h dX0_image_100 ?_
    refine g_bipush 101 _ bp_8 h.1 dX0_image_101 ?_
    refine g_idiv 103 (by decide) h.1 dX0_image_103 ?_
    refine xcV_V_1 104 h (xm_X0_writes h.2.2.1 hw) (by decide) (Nat.le_of_eq (Nat.zero_add _)) (Nat.le_of_eq (Nat.zero_add _)) q1727 qs64 (fun H hI => x_recvK h rfl rfl hI) q1725 (Nat.le_of_ble_eq_true rfl) dX0_image_104 (fun ν20 hw => ?_)
    refine g_aload_0 107 h.1 dX0_image_107 ?_
    refine g_aload_0 108 h.1 dX0_image_108 ?_
    refine xg_X0_69_0 109 h dX0_image_109 ?_
    refine xg_X0_219_5 112 rfl h dX0_image_112 ?_
    refine g_iload_1 115 h.1 dX0_image_115 ?_
    obtain ⟨f21, hw⟩ := hw
    obtain ⟨f22, hw⟩ := hw
    refine xa_iald 116 f21 f22 h dX0_image_116 ?_
    refine xcV_V_1 117 h (xm_X0_writes h.2.2.1 hw) (by decide) (Nat.le_of_eq (Nat.zero_add _)) (Nat.le_of_eq (Nat.zero_add _)) q1727 qs64 (fun H hI => x_recvK h rfl rfl hI) q1725 (Nat.le_of_ble_eq_true rfl) dX0_image_117 (fun ν23 hw => ?_)
    refine g_aload_0 120 h.1 dX0_image_120 ?_
    refine g_aload_0 121 h.1 dX0_image_121 ?_
    refine xg_X0_69_0 122 h dX0_image_122 ?_
    refine xg_X0_222_5 125 rfl h dX0_image_125 ?_
    refine g_iload_1 128 h.1 dX0_image_128 ?_
    obtain ⟨f24, hw⟩ := hw
    obtain ⟨f25, hw⟩ := hw
    refine xa_iald 129 f24 f25 h dX0_image_129 ?_
    refine xcV_V_1 130 h (xm_X0_writes h.2.2.1 hw) (by decide) (Nat.le_of_eq (Nat.zero_add _)) (Nat.le_of_eq (Nat.zero_add _)) q1727 qs64 (fun H hI => x_recvK h rfl rfl hI) q1725 (Nat.le_of_ble_eq_true rfl) dX0_image_130 (fun ν26 hw => ?_)
    refine g_iinc_1 133 (x1 + 1) (congrArg _ ic_1) h.1 rfl dX0_image_133 ?_
    refine g_goto 136 67 h.1 dX0_image_136 (by decide) ?_
    exact g_le (hX67 _ _ hw) ⟨rfl, rfl, trivial⟩
def xw_X0_image_32 (x1 : Int32) (ν : XN) (Q : Int32 → XN → Prop) : Prop :=
  ∀ X32 : Int32 → XN → Prop, (∀ (x1 : Int32) (ν : XN), (((64 : Int32) ≤ x1 → xw_X0_image_67 (0 : Int32) ν Q) ∧ (¬ (64 : Int32) ≤ x1 → (xw_X0_isCell x1 ν (fun r6 ν5 => ((r6 = 0 → xw_X0_image_59 X32 x1 ν5 Q) ∧ (¬ r6 = 0 → (xok 1 (xft 10 3) ∧ (vp_in x1 (xlen (xft 10 3)) ∧ (xw_X0_writes (fA ν5.1 (xft 10 3) (Int32.toNatClampNeg x1)) ν5 (fun ν9 => xw_X0_image_59 X32 x1 ν9 Q)))))))))) → X32 x1 ν) → X32 x1 ν
theorem xt_X0_image_32 {κ : Cx} {S : Adr} {A : Nat → Prop} {Z : State → Prop} {Q : Int32 → XN → Prop} (h : XCx κ cX0_image RX0 S A 4 0 0) (hT : (cxT κ).sig.returnType = some .int) (hN : (cxT κ).name = "image") (hR : xRet κ S A 0 0 Z cX0_image (pI Q)) {x1 : Int32} {ν : XN} (hw : xw_X0_image_32 x1 ν Q) : XG κ S A 0 0 Z 32 (ν, 0, 0) [some (.ref (S.2.1 0)), some (.int x1)] [] := by
  refine hw (fun x1 ν => XG κ S A 0 0 Z 32 (ν, 0, 0) [some (.ref (S.2.1 0)), some (.int x1)] []) ?_
  clear hw
  intro x1 ν hw
  have hX32 : ∀ (x1 : Int32) (ν : XN), XG κ S A 0 0 Z 32 (ν, 0, 0) [some (.ref (S.2.1 0)), some (.int x1)] [] → XG κ S A 0 0 Z 32 (ν, 0, 0) [some (.ref (S.2.1 0)), some (.int x1)] [] := fun _ _ hh => hh
  refine g_iload_1 32 h.1 dX0_image_32 ?_
  refine g_bipush 33 _ bp_64 h.1 dX0_image_33 ?_
  refine g_icmp_ge 35 65 h.1 dX0_image_35 (by decide) (fun c => ?_) (fun c => ?_)
  · have hw := hw.1 c
    refine g_iconstv 65 _ ic_0 h.1 dX0_image_65 ?_
    refine g_istore_1 66 h.1 rfl dX0_image_66 ?_
    exact g_le (xt_X0_image_67 h hT hN hR hw) ⟨rfl, rfl, trivial⟩
  · have hw := hw.2 c
    refine g_aload_0 38 h.1 dX0_image_38 ?_
    refine g_iload_1 39 h.1 dX0_image_39 ?_
    refine xcV_I_1 40 h (xm_X0_isCell h.2.2.1 hw) (by decide) (Nat.le_of_eq (Nat.zero_add _)) (Nat.le_of_eq (Nat.zero_add _)) q1306 qs40 (fun H hI => x_recvK h rfl rfl hI) q1304 (Nat.le_of_ble_eq_true rfl) dX0_image_40 (fun r6 ν5 hw => ?_)
    refine g_if_eq 43 59 h.1 dX0_image_43 (by decide) (fun c => ?_) (fun c => ?_)
    · have hw := hw.1 c
      exact g_le (xt_X0_image_59 h hT hN hR hX32 hw) ⟨rfl, rfl, trivial⟩
    · have hw := hw.2 c
      refine g_aload_0 46 h.1 dX0_image_46 ?_
      refine g_aload_0 47 h.1 dX0_image_47 ?_
      refine xg_X0_69_0 48 h dX0_image_48 ?_
      refine xg_X0_198_5 51 rfl h dX0_image_51 ?_
      refine g_iload_1 54 h.1 dX0_image_54 ?_
      obtain ⟨f7, hw⟩ := hw
      obtain ⟨f8, hw⟩ := hw
      refine xa_iald 55 f7 f8 h dX0_image_55 ?_
      refine xcV_V_1 56 h (xm_X0_writes h.2.2.1 hw) (by decide) (Nat.le_of_eq (Nat.zero_add _)) (Nat.le_of_eq (Nat.zero_add _)) q1727 qs64 (fun H hI => x_recvK h rfl rfl hI) q1725 (Nat.le_of_ble_eq_true rfl) dX0_image_56 (fun ν9 hw => ?_)
      exact g_le (xt_X0_image_59 h hT hN hR hX32 hw) ⟨rfl, rfl, trivial⟩
def xw_X0_image (ν : XN) (Q : Int32 → XN → Prop) : Prop :=
  (∀ ν1, ν1 = (sI ν.1 0 25 (0 : Int32), ν.2) → (xw_X0_writes ((fI ν1.1 10 0) >>> ((8 : Int32) &&& 31)) ν1 (fun ν3 => (xw_X0_writes (fI ν3.1 10 0) ν3 (fun ν4 => xw_X0_image_32 (0 : Int32) ν4 Q)))))
theorem xt_X0_image {κ : Cx} {S : Adr} {A : Nat → Prop} {Z : State → Prop} {Q : Int32 → XN → Prop} (h : XCx κ cX0_image RX0 S A 4 0 0) (hT : (cxT κ).sig.returnType = some .int) (hN : (cxT κ).name = "image") (hR : xRet κ S A 0 0 Z cX0_image (pI Q)) {ν : XN} (hw : xw_X0_image ν Q) : XG κ S A 0 0 Z 0 (ν, 0, 0) [some (.ref (S.2.1 0)), none] [] := by
  unfold xw_X0_image at hw
  refine g_aload_0 0 h.1 dX0_image_0 ?_
  refine g_iconstv 1 _ ic_0 h.1 dX0_image_1 ?_
  refine xp_X0_363_0 2 h dX0_image_2 (fun ν1 e2 => ?_)
  have hw := hw ν1 e2
  refine g_aload_0 5 h.1 dX0_image_5 ?_
  refine g_aload_0 6 h.1 dX0_image_6 ?_
  refine xg_X0_69_0 7 h dX0_image_7 ?_
  refine xg_X0_191_5 10 rfl h dX0_image_10 ?_
  refine g_bipush 13 _ bp_8 h.1 dX0_image_13 ?_
  refine g_ishr 15 h.1 dX0_image_15 ?_
  refine xcV_V_1 16 h (xm_X0_writes h.2.2.1 hw) (by decide) (Nat.le_of_eq (Nat.zero_add _)) (Nat.le_of_eq (Nat.zero_add _)) q1727 qs64 (fun H hI => x_recvK h rfl rfl hI) q1725 (Nat.le_of_ble_eq_true rfl) dX0_image_16 (fun ν3 hw => ?_)
  refine g_aload_0 19 h.1 dX0_image_19 ?_
  refine g_aload_0 20 h.1 dX0_image_20 ?_
  refine xg_X0_69_0 21 h dX0_image_21 ?_
  refine xg_X0_191_5 24 rfl h dX0_image_24 ?_
  refine xcV_V_1 27 h (xm_X0_writes h.2.2.1 hw) (by decide) (Nat.le_of_eq (Nat.zero_add _)) (Nat.le_of_eq (Nat.zero_add _)) q1727 qs64 (fun H hI => x_recvK h rfl rfl hI) q1725 (Nat.le_of_ble_eq_true rfl) dX0_image_27 (fun ν4 hw => ?_)
  refine g_iconstv 30 _ ic_0 h.1 dX0_image_30 ?_
  refine g_istore_1 31 h.1 rfl dX0_image_31 ?_
  exact g_le (xt_X0_image_32 h hT hN hR hw) ⟨rfl, rfl, trivial⟩
theorem xm_X0_image {l : Launch} {S : Adr} {A : Nat → Prop} (hD : FD xT S xcl A) {ν : XN} {Q : Int32 → XN → Prop} (hw : xw_X0_image ν Q) : xMet l S A 4 0 0 0 yX0_image [.ref (S.2.1 0)] ν (pI Q) :=
  x_met (plainFor_of_name (by decide)) hD ⟨⟨by decide, by decide, by show _ = some 0; decide +kernel⟩, by decide, q1724, q171⟩ (Nat.le_of_ble_eq_true rfl) (fun κ Z h hT hN hR => xt_X0_image h hT hN hR hw)
def xw_X0_isDigit (x0 : Int32) (ν : XN) (Q : Int32 → XN → Prop) : Prop :=
  ((x0 < (48 : Int32) → Q (0 : Int32) ν) ∧ (¬ x0 < (48 : Int32) → (((57 : Int32) < x0 → Q (0 : Int32) ν) ∧ (¬ (57 : Int32) < x0 → Q (1 : Int32) ν))))
theorem xt_X0_isDigit {κ : Cx} {S : Adr} {A : Nat → Prop} {Z : State → Prop} {Q : Int32 → XN → Prop} (h : XCx κ cX0_isDigit RX0 S A 1 0 0) (hT : (cxT κ).sig.returnType = some .boolean) (hN : (cxT κ).name = "isDigit") (hR : xRet κ S A 0 0 Z cX0_isDigit (pI Q)) {x0 : Int32} {ν : XN} (hw : xw_X0_isDigit x0 ν Q) : XG κ S A 0 0 Z 0 (ν, 0, 0) [some (.int x0)] [] := by
  unfold xw_X0_isDigit at hw
  refine g_iload_0 0 h.1 dX0_isDigit_0 ?_
  refine g_bipush 1 _ bp_48 h.1 dX0_isDigit_1 ?_
  refine g_icmp_lt 3 16 h.1 dX0_isDigit_3 (by decide) (fun c => ?_) (fun c => ?_)
  · have hw := hw.1 c
    refine g_iconstv 16 _ ic_0 h.1 dX0_isDigit_16 ?_
    exact hR.1 17 _ _ _ _ _ _ hT rfl dX0_isDigit_17 ⟨_, rfl, hw⟩
  · have hw := hw.2 c
    refine g_iload_0 6 h.1 dX0_isDigit_6 ?_
    refine g_bipush 7 _ bp_57 h.1 dX0_isDigit_7 ?_
    refine g_icmp_gt 9 16 h.1 dX0_isDigit_9 (by decide) (fun c => ?_) (fun c => ?_)
    · have hw := hw.1 c
      refine g_iconstv 16 _ ic_0 h.1 dX0_isDigit_16 ?_
      exact hR.1 17 _ _ _ _ _ _ hT rfl dX0_isDigit_17 ⟨_, rfl, hw⟩
    · have hw := hw.2 c
      refine g_iconstv 12 _ ic_1 h.1 dX0_isDigit_12 ?_
      refine g_goto 13 17 h.1 dX0_isDigit_13 (by decide) ?_
      exact hR.1 17 _ _ _ _ _ _ hT rfl dX0_isDigit_17 ⟨_, rfl, hw⟩
theorem xm_X0_isDigit {l : Launch} {S : Adr} {A : Nat → Prop} (hD : FD xT S xcl A) {x0 : Int32} {ν : XN} {Q : Int32 → XN → Prop} (hw : xw_X0_isDigit x0 ν Q) : xMet l S A 1 0 0 1 yX0_isDigit [.int x0] ν (pI Q) :=
  x_met (plainFor_of_name (by decide)) hD ⟨⟨by decide, by decide, by show _ = some 1; decide +kernel⟩, by decide, q614, q171⟩ (Nat.le_of_ble_eq_true rfl) (fun κ Z h hT hN hR => xt_X0_isDigit h hT hN hR hw)
def xw_X0_isFewer (x0 : Int32) (x1 : Int32) (ν : XN) (Q : Int32 → XN → Prop) : Prop :=
  ((x1 = (-1 : Int32) → Q (1 : Int32) ν) ∧ (¬ x1 = (-1 : Int32) → (xw_J16_bitCount x0 ν (fun r2 ν1 => (xw_J16_bitCount x1 ν1 (fun r4 ν3 => ((r4 ≤ r2 → Q (0 : Int32) ν3) ∧ (¬ r4 ≤ r2 → Q (1 : Int32) ν3))))))))
theorem xt_X0_isFewer {κ : Cx} {S : Adr} {A : Nat → Prop} {Z : State → Prop} {Q : Int32 → XN → Prop} (h : XCx κ cX0_isFewer RX0 S A 2 0 0) (hT : (cxT κ).sig.returnType = some .boolean) (hN : (cxT κ).name = "isFewer") (hR : xRet κ S A 0 0 Z cX0_isFewer (pI Q)) {x0 : Int32} {x1 : Int32} {ν : XN} (hw : xw_X0_isFewer x0 x1 ν Q) : XG κ S A 0 0 Z 0 (ν, 0, 0) [some (.int x0), some (.int x1)] [] := by
  unfold xw_X0_isFewer at hw
  refine g_iload_1 0 h.1 dX0_isFewer_0 ?_
  refine g_iconstv 1 _ ic_m1 h.1 dX0_isFewer_1 ?_
  refine g_icmp_eq 2 16 h.1 dX0_isFewer_2 (by decide) (fun c => ?_) (fun c => ?_)
  · have hw := hw.1 c
    refine g_iconstv 16 _ ic_1 h.1 dX0_isFewer_16 ?_
    refine g_goto 17 21 h.1 dX0_isFewer_17 (by decide) ?_
    exact hR.1 21 _ _ _ _ _ _ hT rfl dX0_isFewer_21 ⟨_, rfl, hw⟩
  · have hw := hw.2 c
    refine g_iload_0 5 h.1 dX0_isFewer_5 ?_
    refine xcS_I_1 6 h (xm_J16_bitCount h.2.2.1 hw) (by decide) (Nat.le_of_eq (Nat.zero_add _)) (Nat.le_of_eq (Nat.zero_add _)) q1373 q1588 (Nat.le_of_ble_eq_true rfl) dX0_isFewer_6 (fun r2 ν1 hw => ?_)
    refine g_iload_1 9 h.1 dX0_isFewer_9 ?_
    refine xcS_I_1 10 h (xm_J16_bitCount h.2.2.1 hw) (by decide) (Nat.le_of_eq (Nat.zero_add _)) (Nat.le_of_eq (Nat.zero_add _)) q1373 q1588 (Nat.le_of_ble_eq_true rfl) dX0_isFewer_10 (fun r4 ν3 hw => ?_)
    refine g_icmp_ge 13 20 h.1 dX0_isFewer_13 (by decide) (fun c => ?_) (fun c => ?_)
    · have hw := hw.1 c
      refine g_iconstv 20 _ ic_0 h.1 dX0_isFewer_20 ?_
      exact hR.1 21 _ _ _ _ _ _ hT rfl dX0_isFewer_21 ⟨_, rfl, hw⟩
    · have hw := hw.2 c
      refine g_iconstv 16 _ ic_1 h.1 dX0_isFewer_16 ?_
      refine g_goto 17 21 h.1 dX0_isFewer_17 (by decide) ?_
      exact hR.1 21 _ _ _ _ _ _ hT rfl dX0_isFewer_21 ⟨_, rfl, hw⟩
theorem xm_X0_isFewer {l : Launch} {S : Adr} {A : Nat → Prop} (hD : FD xT S xcl A) {x0 : Int32} {x1 : Int32} {ν : XN} {Q : Int32 → XN → Prop} (hw : xw_X0_isFewer x0 x1 ν Q) : xMet l S A 2 0 0 2 yX0_isFewer [.int x0, .int x1] ν (pI Q) :=
  x_met (plainFor_of_name (by decide)) hD ⟨⟨by decide, by decide, by show _ = some 2; decide +kernel⟩, by decide, q1587, q171⟩ (Nat.le_of_ble_eq_true rfl) (fun κ Z h hT hN hR => xt_X0_isFewer h hT hN hR hw)
def xw_X0_isLetter (x0 : Int32) (ν : XN) (Q : Int32 → XN → Prop) : Prop :=
  ((x0 < (97 : Int32) → Q (0 : Int32) ν) ∧ (¬ x0 < (97 : Int32) → (((122 : Int32) < x0 → Q (0 : Int32) ν) ∧ (¬ (122 : Int32) < x0 → Q (1 : Int32) ν))))
theorem xt_X0_isLetter {κ : Cx} {S : Adr} {A : Nat → Prop} {Z : State → Prop} {Q : Int32 → XN → Prop} (h : XCx κ cX0_isLetter RX0 S A 1 0 0) (hT : (cxT κ).sig.returnType = some .boolean) (hN : (cxT κ).name = "isLetter") (hR : xRet κ S A 0 0 Z cX0_isLetter (pI Q)) {x0 : Int32} {ν : XN} (hw : xw_X0_isLetter x0 ν Q) : XG κ S A 0 0 Z 0 (ν, 0, 0) [some (.int x0)] [] := by
  unfold xw_X0_isLetter at hw
  refine g_iload_0 0 h.1 dX0_isLetter_0 ?_
  refine g_bipush 1 _ bp_97 h.1 dX0_isLetter_1 ?_
  refine g_icmp_lt 3 16 h.1 dX0_isLetter_3 (by decide) (fun c => ?_) (fun c => ?_)
  · have hw := hw.1 c
    refine g_iconstv 16 _ ic_0 h.1 dX0_isLetter_16 ?_
    exact hR.1 17 _ _ _ _ _ _ hT rfl dX0_isLetter_17 ⟨_, rfl, hw⟩
  · have hw := hw.2 c
    refine g_iload_0 6 h.1 dX0_isLetter_6 ?_
    refine g_bipush 7 _ bp_122 h.1 dX0_isLetter_7 ?_
    refine g_icmp_gt 9 16 h.1 dX0_isLetter_9 (by decide) (fun c => ?_) (fun c => ?_)
    · have hw := hw.1 c
      refine g_iconstv 16 _ ic_0 h.1 dX0_isLetter_16 ?_
      exact hR.1 17 _ _ _ _ _ _ hT rfl dX0_isLetter_17 ⟨_, rfl, hw⟩
    · have hw := hw.2 c
      refine g_iconstv 12 _ ic_1 h.1 dX0_isLetter_12 ?_
      refine g_goto 13 17 h.1 dX0_isLetter_13 (by decide) ?_
      exact hR.1 17 _ _ _ _ _ _ hT rfl dX0_isLetter_17 ⟨_, rfl, hw⟩
theorem xm_X0_isLetter {l : Launch} {S : Adr} {A : Nat → Prop} (hD : FD xT S xcl A) {x0 : Int32} {ν : XN} {Q : Int32 → XN → Prop} (hw : xw_X0_isLetter x0 ν Q) : xMet l S A 1 0 0 1 yX0_isLetter [.int x0] ν (pI Q) :=
  x_met (plainFor_of_name (by decide)) hD ⟨⟨by decide, by decide, by show _ = some 1; decide +kernel⟩, by decide, q603, q171⟩ (Nat.le_of_ble_eq_true rfl) (fun κ Z h hT hN hR => xt_X0_isLetter h hT hN hR hw)
def xw_X0_isNearer_43 (x3 : Int32) (x4 : Int32) (y0 : Int32) (ν : XN) (Q : Int32 → XN → Prop) : Prop :=
  ((y0 = 0 → (narrow .boolean (.int y0) = .int y0 ∧ Q y0 ν)) ∧ (¬ y0 = 0 → (vp_in x3 64 ∧ (∀ ν11, ν11 = (sA ν.1 4 (Int32.toNatClampNeg x3) x4, ν.2) → (narrow .boolean (.int y0) = .int y0 ∧ Q y0 ν11)))))
theorem xt_X0_isNearer_43 {κ : Cx} {S : Adr} {A : Nat → Prop} {Z : State → Prop} {Q : Int32 → XN → Prop} (h : XCx κ cX0_isNearer RX0 S A 2 0 0) (hT : (cxT κ).sig.returnType = some .boolean) (hN : (cxT κ).name = "isNearer") (hR : xRet κ S A 0 0 Z cX0_isNearer (pI Q)) {x3 : Int32} {x4 : Int32} {y0 : Int32} {ν : XN} (hw : xw_X0_isNearer_43 x3 x4 y0 ν Q) : XG κ S A 0 0 Z 43 (ν, 0, 0) [some (.ref (S.2.1 0)), none, none, some (.int x3), some (.int x4), none] [.int y0] := by
  unfold xw_X0_isNearer_43 at hw
  refine g_istore_5 43 h.1 rfl dX0_isNearer_43 ?_
  refine g_iload_5 45 h.1 dX0_isNearer_45 ?_
  refine g_if_eq 47 58 h.1 dX0_isNearer_47 (by decide) (fun c => ?_) (fun c => ?_)
  · have hw := hw.1 c
    refine g_iload_5 58 h.1 dX0_isNearer_58 ?_
    obtain ⟨f10, hw⟩ := hw
    exact hR.1 60 _ _ _ _ _ _ hT f10 dX0_isNearer_60 ⟨_, rfl, hw⟩
  · have hw := hw.2 c
    refine g_aload_0 50 h.1 dX0_isNearer_50 ?_
    refine xg_X0_83_0 51 h dX0_isNearer_51 ?_
    refine g_iload_3 54 h.1 dX0_isNearer_54 ?_
    refine g_iload_4 55 h.1 dX0_isNearer_55 ?_
    obtain ⟨f13, hw⟩ := hw
    refine xa_iast 57 rfl f13 h dX0_isNearer_57 (fun ν11 e12 => ?_)
    have hw := hw ν11 e12
    refine g_iload_5 58 h.1 dX0_isNearer_58 ?_
    obtain ⟨f14, hw⟩ := hw
    exact hR.1 60 _ _ _ _ _ _ hT f14 dX0_isNearer_60 ⟨_, rfl, hw⟩
def xw_X0_isNearer (x1 : Nat) (x2 : Int32) (x3 : Int32) (ν : XN) (Q : Int32 → XN → Prop) : Prop :=
  (vp_in x2 64 ∧ (xoc x1 = 5 ∧ (xok 1 (xft x1 3) ∧ (vp_in x2 (xlen (xft x1 3)) ∧ (xok 1 (xft x1 3) ∧ (vp_in x3 (xlen (xft x1 3)) ∧ (xw_J12_abs ((fA ν.1 (xft x1 3) (Int32.toNatClampNeg x2)) - (fA ν.1 (xft x1 3) (Int32.toNatClampNeg x3))) ν (fun r8 ν7 => (vp_in x3 64 ∧ (((fA ν7.1 4 (Int32.toNatClampNeg x3)) ≤ (((fA ν.1 4 (Int32.toNatClampNeg x2)) + (1 : Int32)) + r8) → xw_X0_isNearer_43 x3 (((fA ν.1 4 (Int32.toNatClampNeg x2)) + (1 : Int32)) + r8) (0 : Int32) ν7 Q) ∧ (¬ (fA ν7.1 4 (Int32.toNatClampNeg x3)) ≤ (((fA ν.1 4 (Int32.toNatClampNeg x2)) + (1 : Int32)) + r8) → xw_X0_isNearer_43 x3 (((fA ν.1 4 (Int32.toNatClampNeg x2)) + (1 : Int32)) + r8) (1 : Int32) ν7 Q)))))))))))
theorem xt_X0_isNearer {κ : Cx} {S : Adr} {A : Nat → Prop} {Z : State → Prop} {Q : Int32 → XN → Prop} (h : XCx κ cX0_isNearer RX0 S A 2 0 0) (hT : (cxT κ).sig.returnType = some .boolean) (hN : (cxT κ).name = "isNearer") (hR : xRet κ S A 0 0 Z cX0_isNearer (pI Q)) {x1 : Nat} {x2 : Int32} {x3 : Int32} {ν : XN} (hw : xw_X0_isNearer x1 x2 x3 ν Q) : XG κ S A 0 0 Z 0 (ν, 0, 0) [some (.ref (S.2.1 0)), some (.ref (S.2.1 x1)), some (.int x2), some (.int x3), none, none] [] := by
  unfold xw_X0_isNearer at hw
  refine g_aload_0 0 h.1 dX0_isNearer_0 ?_
  refine xg_X0_83_0 1 h dX0_isNearer_1 ?_
  refine g_iload_2 4 h.1 dX0_isNearer_4 ?_
  obtain ⟨f1, hw⟩ := hw
  refine xa_iald 5 rfl f1 h dX0_isNearer_5 ?_
  refine g_iconstv 6 _ ic_1 h.1 dX0_isNearer_6 ?_
  refine g_iadd 7 h.1 dX0_isNearer_7 ?_
  refine g_aload_1 8 h.1 dX0_isNearer_8 ?_
  obtain ⟨f2, hw⟩ := hw
  refine xg_X0_198_5 9 f2 h dX0_isNearer_9 ?_
  refine g_iload_2 12 h.1 dX0_isNearer_12 ?_
  obtain ⟨f3, hw⟩ := hw
  obtain ⟨f4, hw⟩ := hw
  refine xa_iald 13 f3 f4 h dX0_isNearer_13 ?_
  refine g_aload_1 14 h.1 dX0_isNearer_14 ?_
  refine xg_X0_198_5 15 f2 h dX0_isNearer_15 ?_
  refine g_iload_3 18 h.1 dX0_isNearer_18 ?_
  obtain ⟨f5, hw⟩ := hw
  obtain ⟨f6, hw⟩ := hw
  refine xa_iald 19 f5 f6 h dX0_isNearer_19 ?_
  refine g_isub 20 h.1 dX0_isNearer_20 ?_
  refine xcS_I_1 21 h (xm_J12_abs h.2.2.1 hw) (by decide) (Nat.le_of_eq (Nat.zero_add _)) (Nat.le_of_eq (Nat.zero_add _)) q1466 q1568 (Nat.le_of_ble_eq_true rfl) dX0_isNearer_21 (fun r8 ν7 hw => ?_)
  refine g_iadd 24 h.1 dX0_isNearer_24 ?_
  refine g_istore_4 25 h.1 rfl dX0_isNearer_25 ?_
  refine g_iload_4 27 h.1 dX0_isNearer_27 ?_
  refine g_aload_0 29 h.1 dX0_isNearer_29 ?_
  refine xg_X0_83_0 30 h dX0_isNearer_30 ?_
  refine g_iload_3 33 h.1 dX0_isNearer_33 ?_
  obtain ⟨f9, hw⟩ := hw
  refine xa_iald 34 rfl f9 h dX0_isNearer_34 ?_
  refine g_icmp_ge 35 42 h.1 dX0_isNearer_35 (by decide) (fun c => ?_) (fun c => ?_)
  · have hw := hw.1 c
    refine g_iconstv 42 _ ic_0 h.1 dX0_isNearer_42 ?_
    exact g_le (xt_X0_isNearer_43 h hT hN hR hw) ⟨rfl, rfl, rfl, trivial⟩
  · have hw := hw.2 c
    refine g_iconstv 38 _ ic_1 h.1 dX0_isNearer_38 ?_
    refine g_goto 39 43 h.1 dX0_isNearer_39 (by decide) ?_
    exact g_le (xt_X0_isNearer_43 h hT hN hR hw) ⟨rfl, rfl, rfl, trivial⟩
theorem xm_X0_isNearer {l : Launch} {S : Adr} {A : Nat → Prop} (hD : FD xT S xcl A) {x1 : Nat} {x2 : Int32} {x3 : Int32} {ν : XN} {Q : Int32 → XN → Prop} (hw : xw_X0_isNearer x1 x2 x3 ν Q) : xMet l S A 2 0 0 3 yX0_isNearer [.ref (S.2.1 0), .ref (S.2.1 x1), .int x2, .int x3] ν (pI Q) :=
  x_met (plainFor_of_name (by decide)) hD ⟨⟨by decide, by decide, by show _ = some 3; decide +kernel⟩, by decide, q1572, q171⟩ (Nat.le_of_ble_eq_true rfl) (fun κ Z h hT hN hR => xt_X0_isNearer h hT hN hR hw)
def xw_X0_isRest_2 (x1 : Int32) (x2 : Int32) (ν : XN) (Q : Int32 → XN → Prop) : Prop :=
  ∀ X2 : Int32 → Int32 → XN → Prop, (∀ (x1 : Int32) (x2 : Int32) (ν : XN), (xw_X0_people ν (fun r2 ν1 => ((r2 ≤ x2 → Q (1 : Int32) ν1) ∧ (¬ r2 ≤ x2 → (vp_in (x1 ^^^ ((1 : Int32) <<< (x2 &&& 31))) 128 ∧ (xok 1 (fP ν1.1 5 (Int32.toNatClampNeg (x1 ^^^ ((1 : Int32) <<< (x2 &&& 31))))) ∧ (vp_in x2 (xlen (fP ν1.1 5 (Int32.toNatClampNeg (x1 ^^^ ((1 : Int32) <<< (x2 &&& 31)))))) ∧ (vp_in x1 128 ∧ (xok 1 (fP ν1.1 5 (Int32.toNatClampNeg x1)) ∧ (vp_in x2 (xlen (fP ν1.1 5 (Int32.toNatClampNeg x1))) ∧ (((fA ν1.1 (fP ν1.1 5 (Int32.toNatClampNeg (x1 ^^^ ((1 : Int32) <<< (x2 &&& 31))))) (Int32.toNatClampNeg x2)) ≤ (fA ν1.1 (fP ν1.1 5 (Int32.toNatClampNeg x1)) (Int32.toNatClampNeg x2)) → X2 x1 (x2 + 1) ν1) ∧ (¬ (fA ν1.1 (fP ν1.1 5 (Int32.toNatClampNeg (x1 ^^^ ((1 : Int32) <<< (x2 &&& 31))))) (Int32.toNatClampNeg x2)) ≤ (fA ν1.1 (fP ν1.1 5 (Int32.toNatClampNeg x1)) (Int32.toNatClampNeg x2)) → Q (0 : Int32) ν1)))))))))))) → X2 x1 x2 ν) → X2 x1 x2 ν
theorem xt_X0_isRest_2 {κ : Cx} {S : Adr} {A : Nat → Prop} {Z : State → Prop} {Q : Int32 → XN → Prop} (h : XCx κ cX0_isRest RX0 S A 3 0 0) (hT : (cxT κ).sig.returnType = some .boolean) (hN : (cxT κ).name = "isRest") (hR : xRet κ S A 0 0 Z cX0_isRest (pI Q)) {x1 : Int32} {x2 : Int32} {ν : XN} (hw : xw_X0_isRest_2 x1 x2 ν Q) : XG κ S A 0 0 Z 2 (ν, 0, 0) [some (.ref (S.2.1 0)), some (.int x1), some (.int x2)] [] := by
  refine hw (fun x1 x2 ν => XG κ S A 0 0 Z 2 (ν, 0, 0) [some (.ref (S.2.1 0)), some (.int x1), some (.int x2)] []) ?_
  clear hw
  intro x1 x2 ν hw
  have hX2 : ∀ (x1 : Int32) (x2 : Int32) (ν : XN), XG κ S A 0 0 Z 2 (ν, 0, 0) [some (.ref (S.2.1 0)), some (.int x1), some (.int x2)] [] → XG κ S A 0 0 Z 2 (ν, 0, 0) [some (.ref (S.2.1 0)), some (.int x1), some (.int x2)] [] := fun _ _ _ hh => hh
  refine g_iload_2 2 h.1 dX0_isRest_2 ?_
  refine g_aload_0 3 h.1 dX0_isRest_3 ?_
  refine xcV_I_0 4 h (xm_X0_people h.2.2.1 hw) (by decide) (Nat.le_of_eq (Nat.zero_add _)) (Nat.le_of_eq (Nat.zero_add _)) q1284 qs38 (fun H hI => x_recvK h rfl rfl hI) q1303 (Nat.le_of_ble_eq_true rfl) dX0_isRest_4 (fun r2 ν1 hw => ?_)
  refine g_icmp_ge 7 41 h.1 dX0_isRest_7 (by decide) (fun c => ?_) (fun c => ?_)
  · have hw := hw.1 c
    refine g_iconstv 41 _ ic_1 h.1 dX0_isRest_41 ?_
    exact hR.1 42 _ _ _ _ _ _ hT rfl dX0_isRest_42 ⟨_, rfl, hw⟩
  · have hw := hw.2 c
    refine g_aload_0 10 h.1 dX0_isRest_10 ?_
    refine xg_X0_88_0 11 h dX0_isRest_11 ?_
    refine g_iload_1 14 h.1 dX0_isRest_14 ?_
    refine g_iconstv 15 _ ic_1 h.1 dX0_isRest_15 ?_
    refine g_iload_2 16 h.1 dX0_isRest_16 ?_
    refine g_ishl 17 h.1 dX0_isRest_17 ?_
    refine g_ixor 18 h.1 dX0_isRest_18 ?_
    obtain ⟨f3, hw⟩ := hw
    refine xa_aald7 19 rfl f3 h dX0_isRest_19 ?_
    refine g_iload_2 20 h.1 dX0_isRest_20 ?_
    obtain ⟨f4, hw⟩ := hw
    obtain ⟨f5, hw⟩ := hw
    refine xa_iald 21 f4 f5 h dX0_isRest_21 ?_
    refine g_aload_0 22 h.1 dX0_isRest_22 ?_
    refine xg_X0_88_0 23 h dX0_isRest_23 ?_
    refine g_iload_1 26 h.1 dX0_isRest_26 ?_
    obtain ⟨f6, hw⟩ := hw
    refine xa_aald7 27 rfl f6 h dX0_isRest_27 ?_
    refine g_iload_2 28 h.1 dX0_isRest_28 ?_
    obtain ⟨f7, hw⟩ := hw
    obtain ⟨f8, hw⟩ := hw
    refine xa_iald 29 f7 f8 h dX0_isRest_29 ?_
    refine g_icmp_le 30 35 h.1 dX0_isRest_30 (by decide) (fun c => ?_) (fun c => ?_)
    · have hw := hw.1 c
      refine g_iinc_2 35 (x2 + 1) (congrArg _ ic_1) h.1 rfl dX0_isRest_35 ?_
      refine g_goto 38 2 h.1 dX0_isRest_38 (by decide) ?_
      exact g_le (hX2 _ _ _ hw) ⟨rfl, rfl, rfl, trivial⟩
    · have hw := hw.2 c
      refine g_iconstv 33 _ ic_0 h.1 dX0_isRest_33 ?_
      exact hR.1 34 _ _ _ _ _ _ hT rfl dX0_isRest_34 ⟨_, rfl, hw⟩
def xw_X0_isRest (x1 : Int32) (ν : XN) (Q : Int32 → XN → Prop) : Prop :=
  xw_X0_isRest_2 x1 (0 : Int32) ν Q
theorem xt_X0_isRest {κ : Cx} {S : Adr} {A : Nat → Prop} {Z : State → Prop} {Q : Int32 → XN → Prop} (h : XCx κ cX0_isRest RX0 S A 3 0 0) (hT : (cxT κ).sig.returnType = some .boolean) (hN : (cxT κ).name = "isRest") (hR : xRet κ S A 0 0 Z cX0_isRest (pI Q)) {x1 : Int32} {ν : XN} (hw : xw_X0_isRest x1 ν Q) : XG κ S A 0 0 Z 0 (ν, 0, 0) [some (.ref (S.2.1 0)), some (.int x1), none] [] := by
  unfold xw_X0_isRest at hw
  refine g_iconstv 0 _ ic_0 h.1 dX0_isRest_0 ?_
  refine g_istore_2 1 h.1 rfl dX0_isRest_1 ?_
  exact g_le (xt_X0_isRest_2 h hT hN hR hw) ⟨rfl, rfl, rfl, trivial⟩
theorem xm_X0_isRest {l : Launch} {S : Adr} {A : Nat → Prop} (hD : FD xT S xcl A) {x1 : Int32} {ν : XN} {Q : Int32 → XN → Prop} (hw : xw_X0_isRest x1 ν Q) : xMet l S A 3 0 0 1 yX0_isRest [.ref (S.2.1 0), .int x1] ν (pI Q) :=
  x_met (plainFor_of_name (by decide)) hD ⟨⟨by decide, by decide, by show _ = some 1; decide +kernel⟩, by decide, q1600, q171⟩ (Nat.le_of_ble_eq_true rfl) (fun κ Z h hT hN hR => xt_X0_isRest h hT hN hR hw)
def xw_X0_wayOver_29 (X3 : Nat → Int32 → Int32 → Int32 → XN → Prop) (x1 : Nat) (x2 : Int32) (x3 : Int32) (x4 : Int32) (y0 : Int32) (y1 : Int32) (ν : XN) (Q : Int32 → XN → Prop) : Prop :=
  (vp_in y1 64 ∧ (∀ ν2, ν2 = (sA ν.1 4 (Int32.toNatClampNeg y1) y0, ν.2) → X3 x1 x2 x3 (x4 + 1) ν2))
theorem xt_X0_wayOver_29 {κ : Cx} {S : Adr} {A : Nat → Prop} {Z : State → Prop} {Q : Int32 → XN → Prop} (h : XCx κ cX0_wayOver RX0 S A 4 0 0) (hT : (cxT κ).sig.returnType = some .int) (hN : (cxT κ).name = "wayOver") (hR : xRet κ S A 0 0 Z cX0_wayOver (pI Q)) {X3 : Nat → Int32 → Int32 → Int32 → XN → Prop} (hX3 : ∀ (x1 : Nat) (x2 : Int32) (x3 : Int32) (x4 : Int32) (ν : XN), X3 x1 x2 x3 x4 ν → XG κ S A 0 0 Z 3 (ν, 0, 0) [some (.ref (S.2.1 0)), some (.ref (S.2.1 x1)), some (.int x2), some (.int x3), some (.int x4), none, none] []) {x1 : Nat} {x2 : Int32} {x3 : Int32} {x4 : Int32} {y0 : Int32} {y1 : Int32} {ν : XN} (hw : xw_X0_wayOver_29 X3 x1 x2 x3 x4 y0 y1 ν Q) : XG κ S A 0 0 Z 29 (ν, 0, 0) [some (.ref (S.2.1 0)), some (.ref (S.2.1 x1)), some (.int x2), some (.int x3), some (.int x4), none, none] [.int y0, .int y1, .ref (S.2.2.1 4)] := by
  unfold xw_X0_wayOver_29 at hw
  obtain ⟨f4, hw⟩ := hw
  refine xa_iast 29 rfl f4 h dX0_wayOver_29 (fun ν2 e3 => ?_)
  have hw := hw ν2 e3
  refine g_iinc_4 30 (x4 + 1) (congrArg _ ic_1) h.1 rfl dX0_wayOver_30 ?_
  refine g_goto 33 3 h.1 dX0_wayOver_33 (by decide) ?_
  exact g_le (hX3 _ _ _ _ _ hw) ⟨rfl, rfl, rfl, rfl, rfl, trivial⟩
def xw_X0_wayOver_121 (X39 : Nat → Int32 → Int32 → XN → Prop) (X50 : Nat → Int32 → Int32 → Int32 → XN → Prop) (X60 : Nat → Int32 → Int32 → Int32 → Int32 → XN → Prop) (x1 : Nat) (x3 : Int32) (x5 : Int32) (x6 : Int32) (y0 : Int32) (ν : XN) (Q : Int32 → XN → Prop) : Prop :=
  X60 x1 x3 y0 x5 (x6 + 1) ν
theorem xt_X0_wayOver_121 {κ : Cx} {S : Adr} {A : Nat → Prop} {Z : State → Prop} {Q : Int32 → XN → Prop} (h : XCx κ cX0_wayOver RX0 S A 4 0 0) (hT : (cxT κ).sig.returnType = some .int) (hN : (cxT κ).name = "wayOver") (hR : xRet κ S A 0 0 Z cX0_wayOver (pI Q)) {X39 : Nat → Int32 → Int32 → XN → Prop} {X50 : Nat → Int32 → Int32 → Int32 → XN → Prop} {X60 : Nat → Int32 → Int32 → Int32 → Int32 → XN → Prop} (hX39 : ∀ (x1 : Nat) (x3 : Int32) (x4 : Int32) (ν : XN), X39 x1 x3 x4 ν → XG κ S A 0 0 Z 39 (ν, 0, 0) [some (.ref (S.2.1 0)), some (.ref (S.2.1 x1)), none, some (.int x3), some (.int x4), none, none] []) (hX50 : ∀ (x1 : Nat) (x3 : Int32) (x4 : Int32) (x5 : Int32) (ν : XN), X50 x1 x3 x4 x5 ν → XG κ S A 0 0 Z 50 (ν, 0, 0) [some (.ref (S.2.1 0)), some (.ref (S.2.1 x1)), none, some (.int x3), some (.int x4), some (.int x5), none] []) (hX60 : ∀ (x1 : Nat) (x3 : Int32) (x4 : Int32) (x5 : Int32) (x6 : Int32) (ν : XN), X60 x1 x3 x4 x5 x6 ν → XG κ S A 0 0 Z 60 (ν, 0, 0) [some (.ref (S.2.1 0)), some (.ref (S.2.1 x1)), none, some (.int x3), some (.int x4), some (.int x5), some (.int x6)] []) {x1 : Nat} {x3 : Int32} {x5 : Int32} {x6 : Int32} {y0 : Int32} {ν : XN} (hw : xw_X0_wayOver_121 X39 X50 X60 x1 x3 x5 x6 y0 ν Q) : XG κ S A 0 0 Z 121 (ν, 0, 0) [some (.ref (S.2.1 0)), some (.ref (S.2.1 x1)), none, some (.int x3), none, some (.int x5), some (.int x6)] [.int y0] := by
  unfold xw_X0_wayOver_121 at hw
  refine g_istore_4 121 h.1 rfl dX0_wayOver_121 ?_
  refine g_iinc_6 123 (x6 + 1) (congrArg _ ic_1) h.1 rfl dX0_wayOver_123 ?_
  refine g_goto 126 60 h.1 dX0_wayOver_126 (by decide) ?_
  exact g_le (hX60 _ _ _ _ _ _ hw) ⟨rfl, rfl, rfl, rfl, rfl, rfl, trivial⟩
def xw_X0_wayOver_116 (X39 : Nat → Int32 → Int32 → XN → Prop) (X50 : Nat → Int32 → Int32 → Int32 → XN → Prop) (X60 : Nat → Int32 → Int32 → Int32 → Int32 → XN → Prop) (x1 : Nat) (x3 : Int32) (x5 : Int32) (x6 : Int32) (ν : XN) (Q : Int32 → XN → Prop) : Prop :=
  xw_X0_wayOver_121 X39 X50 X60 x1 x3 x5 x6 (1 : Int32) ν Q
theorem xt_X0_wayOver_116 {κ : Cx} {S : Adr} {A : Nat → Prop} {Z : State → Prop} {Q : Int32 → XN → Prop} (h : XCx κ cX0_wayOver RX0 S A 4 0 0) (hT : (cxT κ).sig.returnType = some .int) (hN : (cxT κ).name = "wayOver") (hR : xRet κ S A 0 0 Z cX0_wayOver (pI Q)) {X39 : Nat → Int32 → Int32 → XN → Prop} {X50 : Nat → Int32 → Int32 → Int32 → XN → Prop} {X60 : Nat → Int32 → Int32 → Int32 → Int32 → XN → Prop} (hX39 : ∀ (x1 : Nat) (x3 : Int32) (x4 : Int32) (ν : XN), X39 x1 x3 x4 ν → XG κ S A 0 0 Z 39 (ν, 0, 0) [some (.ref (S.2.1 0)), some (.ref (S.2.1 x1)), none, some (.int x3), some (.int x4), none, none] []) (hX50 : ∀ (x1 : Nat) (x3 : Int32) (x4 : Int32) (x5 : Int32) (ν : XN), X50 x1 x3 x4 x5 ν → XG κ S A 0 0 Z 50 (ν, 0, 0) [some (.ref (S.2.1 0)), some (.ref (S.2.1 x1)), none, some (.int x3), some (.int x4), some (.int x5), none] []) (hX60 : ∀ (x1 : Nat) (x3 : Int32) (x4 : Int32) (x5 : Int32) (x6 : Int32) (ν : XN), X60 x1 x3 x4 x5 x6 ν → XG κ S A 0 0 Z 60 (ν, 0, 0) [some (.ref (S.2.1 0)), some (.ref (S.2.1 x1)), none, some (.int x3), some (.int x4), some (.int x5), some (.int x6)] []) {x1 : Nat} {x3 : Int32} {x5 : Int32} {x6 : Int32} {ν : XN} (hw : xw_X0_wayOver_116 X39 X50 X60 x1 x3 x5 x6 ν Q) : XG κ S A 0 0 Z 116 (ν, 0, 0) [some (.ref (S.2.1 0)), some (.ref (S.2.1 x1)), none, some (.int x3), none, some (.int x5), some (.int x6)] [] := by
  unfold xw_X0_wayOver_116 at hw
  refine g_iconstv 116 _ ic_1 h.1 dX0_wayOver_116 ?_
  refine g_goto 117 121 h.1 dX0_wayOver_117 (by decide) ?_
  exact g_le (xt_X0_wayOver_121 h hT hN hR hX39 hX50 hX60 hw) ⟨rfl, rfl, rfl, rfl, rfl, trivial⟩
def xw_X0_wayOver_111 (X39 : Nat → Int32 → Int32 → XN → Prop) (X50 : Nat → Int32 → Int32 → Int32 → XN → Prop) (X60 : Nat → Int32 → Int32 → Int32 → Int32 → XN → Prop) (x1 : Nat) (x3 : Int32) (x4 : Int32) (x5 : Int32) (x6 : Int32) (ν : XN) (Q : Int32 → XN → Prop) : Prop :=
  ((x4 = 0 → xw_X0_wayOver_121 X39 X50 X60 x1 x3 x5 x6 (0 : Int32) ν Q) ∧ (¬ x4 = 0 → xw_X0_wayOver_116 X39 X50 X60 x1 x3 x5 x6 ν Q))
theorem xt_X0_wayOver_111 {κ : Cx} {S : Adr} {A : Nat → Prop} {Z : State → Prop} {Q : Int32 → XN → Prop} (h : XCx κ cX0_wayOver RX0 S A 4 0 0) (hT : (cxT κ).sig.returnType = some .int) (hN : (cxT κ).name = "wayOver") (hR : xRet κ S A 0 0 Z cX0_wayOver (pI Q)) {X39 : Nat → Int32 → Int32 → XN → Prop} {X50 : Nat → Int32 → Int32 → Int32 → XN → Prop} {X60 : Nat → Int32 → Int32 → Int32 → Int32 → XN → Prop} (hX39 : ∀ (x1 : Nat) (x3 : Int32) (x4 : Int32) (ν : XN), X39 x1 x3 x4 ν → XG κ S A 0 0 Z 39 (ν, 0, 0) [some (.ref (S.2.1 0)), some (.ref (S.2.1 x1)), none, some (.int x3), some (.int x4), none, none] []) (hX50 : ∀ (x1 : Nat) (x3 : Int32) (x4 : Int32) (x5 : Int32) (ν : XN), X50 x1 x3 x4 x5 ν → XG κ S A 0 0 Z 50 (ν, 0, 0) [some (.ref (S.2.1 0)), some (.ref (S.2.1 x1)), none, some (.int x3), some (.int x4), some (.int x5), none] []) (hX60 : ∀ (x1 : Nat) (x3 : Int32) (x4 : Int32) (x5 : Int32) (x6 : Int32) (ν : XN), X60 x1 x3 x4 x5 x6 ν → XG κ S A 0 0 Z 60 (ν, 0, 0) [some (.ref (S.2.1 0)), some (.ref (S.2.1 x1)), none, some (.int x3), some (.int x4), some (.int x5), some (.int x6)] []) {x1 : Nat} {x3 : Int32} {x4 : Int32} {x5 : Int32} {x6 : Int32} {ν : XN} (hw : xw_X0_wayOver_111 X39 X50 X60 x1 x3 x4 x5 x6 ν Q) : XG κ S A 0 0 Z 111 (ν, 0, 0) [some (.ref (S.2.1 0)), some (.ref (S.2.1 x1)), none, some (.int x3), some (.int x4), some (.int x5), some (.int x6)] [] := by
  unfold xw_X0_wayOver_111 at hw
  refine g_iload_4 111 h.1 dX0_wayOver_111 ?_
  refine g_if_eq 113 120 h.1 dX0_wayOver_113 (by decide) (fun c => ?_) (fun c => ?_)
  · have hw := hw.1 c
    refine g_iconstv 120 _ ic_0 h.1 dX0_wayOver_120 ?_
    exact g_le (xt_X0_wayOver_121 h hT hN hR hX39 hX50 hX60 hw) ⟨rfl, rfl, rfl, rfl, rfl, trivial⟩
  · have hw := hw.2 c
    exact g_le (xt_X0_wayOver_116 h hT hN hR hX39 hX50 hX60 hw) ⟨rfl, rfl, rfl, rfl, rfl, trivial⟩
def xw_X0_wayOver_129 (X39 : Nat → Int32 → Int32 → XN → Prop) (X50 : Nat → Int32 → Int32 → Int32 → XN → Prop) (x1 : Nat) (x3 : Int32) (x4 : Int32) (x5 : Int32) (ν : XN) (Q : Int32 → XN → Prop) : Prop :=
  X50 x1 x3 x4 (x5 + 1) ν
theorem xt_X0_wayOver_129 {κ : Cx} {S : Adr} {A : Nat → Prop} {Z : State → Prop} {Q : Int32 → XN → Prop} (h : XCx κ cX0_wayOver RX0 S A 4 0 0) (hT : (cxT κ).sig.returnType = some .int) (hN : (cxT κ).name = "wayOver") (hR : xRet κ S A 0 0 Z cX0_wayOver (pI Q)) {X39 : Nat → Int32 → Int32 → XN → Prop} {X50 : Nat → Int32 → Int32 → Int32 → XN → Prop} (hX39 : ∀ (x1 : Nat) (x3 : Int32) (x4 : Int32) (ν : XN), X39 x1 x3 x4 ν → XG κ S A 0 0 Z 39 (ν, 0, 0) [some (.ref (S.2.1 0)), some (.ref (S.2.1 x1)), none, some (.int x3), some (.int x4), none, none] []) (hX50 : ∀ (x1 : Nat) (x3 : Int32) (x4 : Int32) (x5 : Int32) (ν : XN), X50 x1 x3 x4 x5 ν → XG κ S A 0 0 Z 50 (ν, 0, 0) [some (.ref (S.2.1 0)), some (.ref (S.2.1 x1)), none, some (.int x3), some (.int x4), some (.int x5), none] []) {x1 : Nat} {x3 : Int32} {x4 : Int32} {x5 : Int32} {ν : XN} (hw : xw_X0_wayOver_129 X39 X50 x1 x3 x4 x5 ν Q) : XG κ S A 0 0 Z 129 (ν, 0, 0) [some (.ref (S.2.1 0)), some (.ref (S.2.1 x1)), none, some (.int x3), some (.int x4), some (.int x5), none] [] := by
  unfold xw_X0_wayOver_129 at hw
  refine g_iinc_5 129 (x5 + 1) (congrArg _ ic_1) h.1 rfl dX0_wayOver_129 ?_
  refine g_goto 132 50 h.1 dX0_wayOver_132 (by decide) ?_
  exact g_le (hX50 _ _ _ _ _ hw) ⟨rfl, rfl, rfl, rfl, rfl, trivial⟩
def xw_X0_wayOver_60 (X39 : Nat → Int32 → Int32 → XN → Prop) (X50 : Nat → Int32 → Int32 → Int32 → XN → Prop) (x1 : Nat) (x3 : Int32) (x4 : Int32) (x5 : Int32) (x6 : Int32) (ν : XN) (Q : Int32 → XN → Prop) : Prop :=
  ∀ X60 : Nat → Int32 → Int32 → Int32 → Int32 → XN → Prop, (∀ (x1 : Nat) (x3 : Int32) (x4 : Int32) (x5 : Int32) (x6 : Int32) (ν : XN), (((64 : Int32) ≤ x6 → xw_X0_wayOver_129 X39 X50 x1 x3 x4 x5 ν Q) ∧ (¬ (64 : Int32) ≤ x6 → (vp_in x5 64 ∧ (((100000000 : Int32) ≤ (fA ν.1 4 (Int32.toNatClampNeg x5)) → xw_X0_wayOver_129 X39 X50 x1 x3 x4 x5 ν Q) ∧ (¬ (100000000 : Int32) ≤ (fA ν.1 4 (Int32.toNatClampNeg x5)) → (xw_X0_isCell x6 ν (fun r7 ν6 => ((r7 = 0 → xw_X0_wayOver_111 X39 X50 X60 x1 x3 x4 x5 x6 ν6 Q) ∧ (¬ r7 = 0 → (xw_X0_areNext x5 x6 ν6 (fun r9 ν8 => ((r9 = 0 → xw_X0_wayOver_111 X39 X50 X60 x1 x3 x4 x5 x6 ν8 Q) ∧ (¬ r9 = 0 → (xw_X0_isNearer x1 x5 x6 ν8 (fun r11 ν10 => ((¬ r11 = 0 → xw_X0_wayOver_116 X39 X50 X60 x1 x3 x5 x6 ν10 Q) ∧ (r11 = 0 → xw_X0_wayOver_111 X39 X50 X60 x1 x3 x4 x5 x6 ν10 Q))))))))))))))))) → X60 x1 x3 x4 x5 x6 ν) → X60 x1 x3 x4 x5 x6 ν
theorem xt_X0_wayOver_60 {κ : Cx} {S : Adr} {A : Nat → Prop} {Z : State → Prop} {Q : Int32 → XN → Prop} (h : XCx κ cX0_wayOver RX0 S A 4 0 0) (hT : (cxT κ).sig.returnType = some .int) (hN : (cxT κ).name = "wayOver") (hR : xRet κ S A 0 0 Z cX0_wayOver (pI Q)) {X39 : Nat → Int32 → Int32 → XN → Prop} {X50 : Nat → Int32 → Int32 → Int32 → XN → Prop} (hX39 : ∀ (x1 : Nat) (x3 : Int32) (x4 : Int32) (ν : XN), X39 x1 x3 x4 ν → XG κ S A 0 0 Z 39 (ν, 0, 0) [some (.ref (S.2.1 0)), some (.ref (S.2.1 x1)), none, some (.int x3), some (.int x4), none, none] []) (hX50 : ∀ (x1 : Nat) (x3 : Int32) (x4 : Int32) (x5 : Int32) (ν : XN), X50 x1 x3 x4 x5 ν → XG κ S A 0 0 Z 50 (ν, 0, 0) [some (.ref (S.2.1 0)), some (.ref (S.2.1 x1)), none, some (.int x3), some (.int x4), some (.int x5), none] []) {x1 : Nat} {x3 : Int32} {x4 : Int32} {x5 : Int32} {x6 : Int32} {ν : XN} (hw : xw_X0_wayOver_60 X39 X50 x1 x3 x4 x5 x6 ν Q) : XG κ S A 0 0 Z 60 (ν, 0, 0) [some (.ref (S.2.1 0)), some (.ref (S.2.1 x1)), none, some (.int x3), some (.int x4), some (.int x5), some (.int x6)] [] := by
  refine hw (fun x1 x3 x4 x5 x6 ν => XG κ S A 0 0 Z 60 (ν, 0, 0) [some (.ref (S.2.1 0)), some (.ref (S.2.1 x1)), none, some (.int x3), some (.int x4), some (.int x5), some (.int x6)] []) ?_
  clear hw
  intro x1 x3 x4 x5 x6 ν hw
  have hX60 : ∀ (x1 : Nat) (x3 : Int32) (x4 : Int32) (x5 : Int32) (x6 : Int32) (ν : XN), XG κ S A 0 0 Z 60 (ν, 0, 0) [some (.ref (S.2.1 0)), some (.ref (S.2.1 x1)), none, some (.int x3), some (.int x4), some (.int x5), some (.int x6)] [] → XG κ S A 0 0 Z 60 (ν, 0, 0) [some (.ref (S.2.1 0)), some (.ref (S.2.1 x1)), none, some (.int x3), some (.int x4), some (.int x5), some (.int x6)] [] := fun _ _ _ _ _ _ hh => hh
  refine g_iload_6 60 h.1 dX0_wayOver_60 ?_
  refine g_bipush 62 _ bp_64 h.1 dX0_wayOver_62 ?_
  refine g_icmp_ge 64 129 h.1 dX0_wayOver_64 (by decide) (fun c => ?_) (fun c => ?_)
  · have hw := hw.1 c
    exact g_le (xt_X0_wayOver_129 h hT hN hR hX39 hX50 hw) ⟨rfl, rfl, rfl, rfl, rfl, trivial⟩
  · have hw := hw.2 c
    refine g_aload_0 67 h.1 dX0_wayOver_67 ?_
    refine xg_X0_83_0 68 h dX0_wayOver_68 ?_
    refine g_iload_5 71 h.1 dX0_wayOver_71 ?_
    obtain ⟨f5, hw⟩ := hw
    refine xa_iald 73 rfl f5 h dX0_wayOver_73 ?_
    refine g_ldcw 74 h.1 q1564 dX0_wayOver_74 ?_
    refine g_icmp_ge 77 129 h.1 dX0_wayOver_77 (by decide) (fun c => ?_) (fun c => ?_)
    · have hw := hw.1 c
      exact g_le (xt_X0_wayOver_129 h hT hN hR hX39 hX50 hw) ⟨rfl, rfl, rfl, rfl, rfl, trivial⟩
    · have hw := hw.2 c
      refine g_aload_0 80 h.1 dX0_wayOver_80 ?_
      refine g_iload_6 81 h.1 dX0_wayOver_81 ?_
      refine xcV_I_1 83 h (xm_X0_isCell h.2.2.1 hw) (by decide) (Nat.le_of_eq (Nat.zero_add _)) (Nat.le_of_eq (Nat.zero_add _)) q1306 qs40 (fun H hI => x_recvK h rfl rfl hI) q1304 (Nat.le_of_ble_eq_true rfl) dX0_wayOver_83 (fun r7 ν6 hw => ?_)
      refine g_if_eq 86 111 h.1 dX0_wayOver_86 (by decide) (fun c => ?_) (fun c => ?_)
      · have hw := hw.1 c
        exact g_le (xt_X0_wayOver_111 h hT hN hR hX39 hX50 hX60 hw) ⟨rfl, rfl, rfl, rfl, rfl, rfl, trivial⟩
      · have hw := hw.2 c
        refine g_iload_5 89 h.1 dX0_wayOver_89 ?_
        refine g_iload_6 91 h.1 dX0_wayOver_91 ?_
        refine xcS_I_2 93 h (xm_X0_areNext h.2.2.1 hw) (by decide) (Nat.le_of_eq (Nat.zero_add _)) (Nat.le_of_eq (Nat.zero_add _)) q1566 q1565 (Nat.le_of_ble_eq_true rfl) dX0_wayOver_93 (fun r9 ν8 hw => ?_)
        refine g_if_eq 96 111 h.1 dX0_wayOver_96 (by decide) (fun c => ?_) (fun c => ?_)
        · have hw := hw.1 c
          exact g_le (xt_X0_wayOver_111 h hT hN hR hX39 hX50 hX60 hw) ⟨rfl, rfl, rfl, rfl, rfl, rfl, trivial⟩
        · have hw := hw.2 c
          refine g_aload_0 99 h.1 dX0_wayOver_99 ?_
          refine g_aload_1 100 h.1 dX0_wayOver_100 ?_
          refine g_iload_5 101 h.1 dX0_wayOver_101 ?_
          refine g_iload_6 103 h.1 dX0_wayOver_103 ?_
          refine xcV_I_3 105 h (xm_X0_isNearer h.2.2.1 hw) (by decide) (Nat.le_of_eq (Nat.zero_add _)) (Nat.le_of_eq (Nat.zero_add _)) q1571 qs55 (fun H hI => x_recvK h rfl rfl hI) q1569 (Nat.le_of_ble_eq_true rfl) dX0_wayOver_105 (fun r11 ν10 hw => ?_)
          refine g_if_ne 108 116 h.1 dX0_wayOver_108 (by decide) (fun c => ?_) (fun c => ?_)
          · have hw := hw.1 c
            exact g_le (xt_X0_wayOver_116 h hT hN hR hX39 hX50 hX60 hw) ⟨rfl, rfl, rfl, rfl, rfl, trivial⟩
          · have hw := hw.2 c
            exact g_le (xt_X0_wayOver_111 h hT hN hR hX39 hX50 hX60 hw) ⟨rfl, rfl, rfl, rfl, rfl, rfl, trivial⟩
def xw_X0_wayOver_50 (X39 : Nat → Int32 → Int32 → XN → Prop) (x1 : Nat) (x3 : Int32) (x4 : Int32) (x5 : Int32) (ν : XN) (Q : Int32 → XN → Prop) : Prop :=
  ∀ X50 : Nat → Int32 → Int32 → Int32 → XN → Prop, (∀ (x1 : Nat) (x3 : Int32) (x4 : Int32) (x5 : Int32) (ν : XN), (((64 : Int32) ≤ x5 → X39 x1 x3 x4 ν) ∧ (¬ (64 : Int32) ≤ x5 → xw_X0_wayOver_60 X39 X50 x1 x3 x4 x5 (0 : Int32) ν Q)) → X50 x1 x3 x4 x5 ν) → X50 x1 x3 x4 x5 ν
theorem xt_X0_wayOver_50 {κ : Cx} {S : Adr} {A : Nat → Prop} {Z : State → Prop} {Q : Int32 → XN → Prop} (h : XCx κ cX0_wayOver RX0 S A 4 0 0) (hT : (cxT κ).sig.returnType = some .int) (hN : (cxT κ).name = "wayOver") (hR : xRet κ S A 0 0 Z cX0_wayOver (pI Q)) {X39 : Nat → Int32 → Int32 → XN → Prop} (hX39 : ∀ (x1 : Nat) (x3 : Int32) (x4 : Int32) (ν : XN), X39 x1 x3 x4 ν → XG κ S A 0 0 Z 39 (ν, 0, 0) [some (.ref (S.2.1 0)), some (.ref (S.2.1 x1)), none, some (.int x3), some (.int x4), none, none] []) {x1 : Nat} {x3 : Int32} {x4 : Int32} {x5 : Int32} {ν : XN} (hw : xw_X0_wayOver_50 X39 x1 x3 x4 x5 ν Q) : XG κ S A 0 0 Z 50 (ν, 0, 0) [some (.ref (S.2.1 0)), some (.ref (S.2.1 x1)), none, some (.int x3), some (.int x4), some (.int x5), none] [] := by
  refine hw (fun x1 x3 x4 x5 ν => XG κ S A 0 0 Z 50 (ν, 0, 0) [some (.ref (S.2.1 0)), some (.ref (S.2.1 x1)), none, some (.int x3), some (.int x4), some (.int x5), none] []) ?_
  clear hw
  intro x1 x3 x4 x5 ν hw
  have hX50 : ∀ (x1 : Nat) (x3 : Int32) (x4 : Int32) (x5 : Int32) (ν : XN), XG κ S A 0 0 Z 50 (ν, 0, 0) [some (.ref (S.2.1 0)), some (.ref (S.2.1 x1)), none, some (.int x3), some (.int x4), some (.int x5), none] [] → XG κ S A 0 0 Z 50 (ν, 0, 0) [some (.ref (S.2.1 0)), some (.ref (S.2.1 x1)), none, some (.int x3), some (.int x4), some (.int x5), none] [] := fun _ _ _ _ _ hh => hh
  refine g_iload_5 50 h.1 dX0_wayOver_50 ?_
  refine g_bipush 52 _ bp_64 h.1 dX0_wayOver_52 ?_
  refine g_icmp_ge 54 135 h.1 dX0_wayOver_54 (by decide) (fun c => ?_) (fun c => ?_)
  · have hw := hw.1 c
    refine g_goto 135 39 h.1 dX0_wayOver_135 (by decide) ?_
    exact g_le (hX39 _ _ _ _ hw) ⟨rfl, rfl, rfl, rfl, trivial⟩
  · have hw := hw.2 c
    refine g_iconstv 57 _ ic_0 h.1 dX0_wayOver_57 ?_
    refine g_istore_6 58 h.1 rfl dX0_wayOver_58 ?_
    exact g_le (xt_X0_wayOver_60 h hT hN hR hX39 hX50 hw) ⟨rfl, rfl, rfl, rfl, rfl, rfl, trivial⟩
def xw_X0_wayOver_39 (x1 : Nat) (x3 : Int32) (x4 : Int32) (ν : XN) (Q : Int32 → XN → Prop) : Prop :=
  ∀ X39 : Nat → Int32 → Int32 → XN → Prop, (∀ (x1 : Nat) (x3 : Int32) (x4 : Int32) (ν : XN), ((x4 = 0 → (vp_in x3 64 ∧ Q (fA ν.1 4 (Int32.toNatClampNeg x3)) ν)) ∧ (¬ x4 = 0 → xw_X0_wayOver_50 X39 x1 x3 (0 : Int32) (0 : Int32) ν Q)) → X39 x1 x3 x4 ν) → X39 x1 x3 x4 ν
theorem xt_X0_wayOver_39 {κ : Cx} {S : Adr} {A : Nat → Prop} {Z : State → Prop} {Q : Int32 → XN → Prop} (h : XCx κ cX0_wayOver RX0 S A 4 0 0) (hT : (cxT κ).sig.returnType = some .int) (hN : (cxT κ).name = "wayOver") (hR : xRet κ S A 0 0 Z cX0_wayOver (pI Q)) {x1 : Nat} {x3 : Int32} {x4 : Int32} {ν : XN} (hw : xw_X0_wayOver_39 x1 x3 x4 ν Q) : XG κ S A 0 0 Z 39 (ν, 0, 0) [some (.ref (S.2.1 0)), some (.ref (S.2.1 x1)), none, some (.int x3), some (.int x4), none, none] [] := by
  refine hw (fun x1 x3 x4 ν => XG κ S A 0 0 Z 39 (ν, 0, 0) [some (.ref (S.2.1 0)), some (.ref (S.2.1 x1)), none, some (.int x3), some (.int x4), none, none] []) ?_
  clear hw
  intro x1 x3 x4 ν hw
  have hX39 : ∀ (x1 : Nat) (x3 : Int32) (x4 : Int32) (ν : XN), XG κ S A 0 0 Z 39 (ν, 0, 0) [some (.ref (S.2.1 0)), some (.ref (S.2.1 x1)), none, some (.int x3), some (.int x4), none, none] [] → XG κ S A 0 0 Z 39 (ν, 0, 0) [some (.ref (S.2.1 0)), some (.ref (S.2.1 x1)), none, some (.int x3), some (.int x4), none, none] [] := fun _ _ _ _ hh => hh
  refine g_iload_4 39 h.1 dX0_wayOver_39 ?_
  refine g_if_eq 41 138 h.1 dX0_wayOver_41 (by decide) (fun c => ?_) (fun c => ?_)
  · have hw := hw.1 c
    refine g_aload_0 138 h.1 dX0_wayOver_138 ?_
    refine xg_X0_83_0 139 h dX0_wayOver_139 ?_
    refine g_iload_3 142 h.1 dX0_wayOver_142 ?_
    obtain ⟨f1, hw⟩ := hw
    refine xa_iald 143 rfl f1 h dX0_wayOver_143 ?_
    exact hR.1 144 _ _ _ _ _ _ hT rfl dX0_wayOver_144 ⟨_, rfl, hw⟩
  · have hw := hw.2 c
    refine g_iconstv 44 _ ic_0 h.1 dX0_wayOver_44 ?_
    refine g_istore_4 45 h.1 rfl dX0_wayOver_45 ?_
    refine g_iconstv 47 _ ic_0 h.1 dX0_wayOver_47 ?_
    refine g_istore_5 48 h.1 rfl dX0_wayOver_48 ?_
    exact g_le (xt_X0_wayOver_50 h hT hN hR hX39 hw) ⟨rfl, rfl, rfl, rfl, rfl, trivial⟩
def xw_X0_wayOver_3 (x1 : Nat) (x2 : Int32) (x3 : Int32) (x4 : Int32) (ν : XN) (Q : Int32 → XN → Prop) : Prop :=
  ∀ X3 : Nat → Int32 → Int32 → Int32 → XN → Prop, (∀ (x1 : Nat) (x2 : Int32) (x3 : Int32) (x4 : Int32) (ν : XN), (((64 : Int32) ≤ x4 → xw_X0_wayOver_39 x1 x3 (1 : Int32) ν Q) ∧ (¬ (64 : Int32) ≤ x4 → ((¬ x4 = x2 → xw_X0_wayOver_29 X3 x1 x2 x3 x4 (100000000 : Int32) x4 ν Q) ∧ (x4 = x2 → xw_X0_wayOver_29 X3 x1 x2 x3 x4 (0 : Int32) x4 ν Q)))) → X3 x1 x2 x3 x4 ν) → X3 x1 x2 x3 x4 ν
theorem xt_X0_wayOver_3 {κ : Cx} {S : Adr} {A : Nat → Prop} {Z : State → Prop} {Q : Int32 → XN → Prop} (h : XCx κ cX0_wayOver RX0 S A 4 0 0) (hT : (cxT κ).sig.returnType = some .int) (hN : (cxT κ).name = "wayOver") (hR : xRet κ S A 0 0 Z cX0_wayOver (pI Q)) {x1 : Nat} {x2 : Int32} {x3 : Int32} {x4 : Int32} {ν : XN} (hw : xw_X0_wayOver_3 x1 x2 x3 x4 ν Q) : XG κ S A 0 0 Z 3 (ν, 0, 0) [some (.ref (S.2.1 0)), some (.ref (S.2.1 x1)), some (.int x2), some (.int x3), some (.int x4), none, none] [] := by
  refine hw (fun x1 x2 x3 x4 ν => XG κ S A 0 0 Z 3 (ν, 0, 0) [some (.ref (S.2.1 0)), some (.ref (S.2.1 x1)), some (.int x2), some (.int x3), some (.int x4), none, none] []) ?_
  clear hw
  intro x1 x2 x3 x4 ν hw
  have hX3 : ∀ (x1 : Nat) (x2 : Int32) (x3 : Int32) (x4 : Int32) (ν : XN), XG κ S A 0 0 Z 3 (ν, 0, 0) [some (.ref (S.2.1 0)), some (.ref (S.2.1 x1)), some (.int x2), some (.int x3), some (.int x4), none, none] [] → XG κ S A 0 0 Z 3 (ν, 0, 0) [some (.ref (S.2.1 0)), some (.ref (S.2.1 x1)), some (.int x2), some (.int x3), some (.int x4), none, none] [] := fun _ _ _ _ _ hh => hh
  refine g_iload_4 3 h.1 dX0_wayOver_3 ?_
  refine g_bipush 5 _ bp_64 h.1 dX0_wayOver_5 ?_
  refine g_icmp_ge 7 36 h.1 dX0_wayOver_7 (by decide) (fun c => ?_) (fun c => ?_)
  · have hw := hw.1 c
    refine g_iconstv 36 _ ic_1 h.1 dX0_wayOver_36 ?_
    refine g_istore_4 37 h.1 rfl dX0_wayOver_37 ?_
    exact g_le (xt_X0_wayOver_39 h hT hN hR hw) ⟨rfl, rfl, rfl, rfl, trivial⟩
  · have hw := hw.2 c
    refine g_aload_0 10 h.1 dX0_wayOver_10 ?_
    refine xg_X0_83_0 11 h dX0_wayOver_11 ?_
    refine g_iload_4 14 h.1 dX0_wayOver_14 ?_
    refine g_iload_4 16 h.1 dX0_wayOver_16 ?_
    refine g_iload_2 18 h.1 dX0_wayOver_18 ?_
    refine g_icmp_ne 19 26 h.1 dX0_wayOver_19 (by decide) (fun c => ?_) (fun c => ?_)
    · have hw := hw.1 c
      refine g_ldcw 26 h.1 q1564 dX0_wayOver_26 ?_
      exact g_le (xt_X0_wayOver_29 h hT hN hR hX3 hw) ⟨rfl, rfl, rfl, rfl, rfl, trivial⟩
    · have hw := hw.2 c
      refine g_iconstv 22 _ ic_0 h.1 dX0_wayOver_22 ?_
      refine g_goto 23 29 h.1 dX0_wayOver_23 (by decide) ?_
      exact g_le (xt_X0_wayOver_29 h hT hN hR hX3 hw) ⟨rfl, rfl, rfl, rfl, rfl, trivial⟩
def xw_X0_wayOver (x1 : Nat) (x2 : Int32) (x3 : Int32) (ν : XN) (Q : Int32 → XN → Prop) : Prop :=
  xw_X0_wayOver_3 x1 x2 x3 (0 : Int32) ν Q
theorem xt_X0_wayOver {κ : Cx} {S : Adr} {A : Nat → Prop} {Z : State → Prop} {Q : Int32 → XN → Prop} (h : XCx κ cX0_wayOver RX0 S A 4 0 0) (hT : (cxT κ).sig.returnType = some .int) (hN : (cxT κ).name = "wayOver") (hR : xRet κ S A 0 0 Z cX0_wayOver (pI Q)) {x1 : Nat} {x2 : Int32} {x3 : Int32} {ν : XN} (hw : xw_X0_wayOver x1 x2 x3 ν Q) : XG κ S A 0 0 Z 0 (ν, 0, 0) [some (.ref (S.2.1 0)), some (.ref (S.2.1 x1)), some (.int x2), some (.int x3), none, none, none] [] := by
  unfold xw_X0_wayOver at hw
  refine g_iconstv 0 _ ic_0 h.1 dX0_wayOver_0 ?_
  refine g_istore_4 1 h.1 rfl dX0_wayOver_1 ?_
  exact g_le (xt_X0_wayOver_3 h hT hN hR hw) ⟨rfl, rfl, rfl, rfl, rfl, trivial⟩
theorem xm_X0_wayOver {l : Launch} {S : Adr} {A : Nat → Prop} (hD : FD xT S xcl A) {x1 : Nat} {x2 : Int32} {x3 : Int32} {ν : XN} {Q : Int32 → XN → Prop} (hw : xw_X0_wayOver x1 x2 x3 ν Q) : xMet l S A 4 0 0 3 yX0_wayOver [.ref (S.2.1 0), .ref (S.2.1 x1), .int x2, .int x3] ν (pI Q) :=
  x_met (plainFor_of_name (by decide)) hD ⟨⟨by decide, by decide, by show _ = some 3; decide +kernel⟩, by decide, q1563, q171⟩ (Nat.le_of_ble_eq_true rfl) (fun κ Z h hT hN hR => xt_X0_wayOver h hT hN hR hw)
def xw_X0_silently (VA : Nat → Nat → XN → (Int64 → XN → Prop) → Prop) (TA : Nat → Nat → XN → (Int32 → XN → Prop) → Prop) (x1 : Int32) (x2 : Int32) (ν : XN) (Q : Nat → XN → Prop) : Prop :=
  (xw_X5_copy 11 10 ν (fun r2 ν1 => (xoc r2 = 5 ∧ (∀ ν3, ν3 = (sI ν1.1 r2 2 x1, ν1.2) → (xw_X5_days VA TA 11 x2 ν3 (fun r7 ν6 => Q r7 ν6))))))
theorem xt_X0_silently {κ : Cx} {S : Adr} {A : Nat → Prop} {Z : State → Prop} {Q : Nat → XN → Prop} {dV : Nat} {VA : Nat → Nat → XN → (Int64 → XN → Prop) → Prop} {TA : Nat → Nat → XN → (Int32 → XN → Prop) → Prop} (hV : HVT S A dV VA TA) (h : XCx κ cX0_silently RX0 S A (dV + 10) 0 0) (hT : (cxT κ).sig.returnType = some (.object "ShrugHills$State")) (hN : (cxT κ).name = "silently") (hR : xRet κ S A 0 0 Z cX0_silently (pK S Q)) {x1 : Int32} {x2 : Int32} {ν : XN} (hw : xw_X0_silently VA TA x1 x2 ν Q) : XG κ S A 0 0 Z 0 (ν, 0, 0) [some (.ref (S.2.1 0)), some (.int x1), some (.int x2)] [] := by
  unfold xw_X0_silently at hw
  refine g_aload_0 0 h.1 dX0_silently_0 ?_
  refine xg_X0_73_0 1 h dX0_silently_1 ?_
  refine g_aload_0 4 h.1 dX0_silently_4 ?_
  refine xg_X0_69_0 5 h dX0_silently_5 ?_
  refine xcV_K_1 8 h (xm_X5_copy h.2.2.1 hw) (by omega) (Nat.le_of_eq (Nat.zero_add _)) (Nat.le_of_eq (Nat.zero_add _)) q1436 q1437 (fun H hI => x_recvK h rfl rfl hI) q1435 (Nat.le_of_ble_eq_true rfl) dX0_silently_8 (fun r2 ν1 hw => ?_)
  refine g_iload_1 11 h.1 dX0_silently_11 ?_
  obtain ⟨f5, hw⟩ := hw
  refine xp_X0_286_5 12 f5 h dX0_silently_12 (fun ν3 e4 => ?_)
  have hw := hw ν3 e4
  refine g_aload_0 15 h.1 dX0_silently_15 ?_
  refine xg_X0_73_0 16 h dX0_silently_16 ?_
  refine g_iload_2 19 h.1 dX0_silently_19 ?_
  refine xcV_K_1 20 h (xm_X5_days hV h.2.2.1 hw) (by omega) (Nat.le_of_eq (Nat.zero_add _)) (Nat.le_of_eq (Nat.zero_add _)) q1515 q1516 (fun H hI => x_recvK h rfl rfl hI) q1514 (Nat.le_of_ble_eq_true rfl) dX0_silently_20 (fun r7 ν6 hw => ?_)
  exact hR.2.2.2 23 (some (S.2.1 r7)) _ _ _ _ _ hT (by first | exact Or.inl ⟨_, rfl⟩ | exact Or.inr ⟨_, rfl⟩) dX0_silently_23 ⟨_, rfl, hw⟩
theorem xm_X0_silently {l : Launch} {S : Adr} {A : Nat → Prop} {dV : Nat} {VA : Nat → Nat → XN → (Int64 → XN → Prop) → Prop} {TA : Nat → Nat → XN → (Int32 → XN → Prop) → Prop} (hV : HVT S A dV VA TA) (hD : FD xT S xcl A) {x1 : Int32} {x2 : Int32} {ν : XN} {Q : Nat → XN → Prop} (hw : xw_X0_silently VA TA x1 x2 ν Q) : xMet l S A (dV + 10) 0 0 2 yX0_silently [.ref (S.2.1 0), .int x1, .int x2] ν (pK S Q) :=
  x_met (plainFor_of_name (by decide)) hD ⟨⟨by decide, by decide, by show _ = some 2; decide +kernel⟩, by decide, q1592, q171⟩ (Nat.le_of_ble_eq_true rfl) (fun κ Z h hT hN hR => xt_X0_silently hV h hT hN hR hw)
def xw_X0_keeps_90 (VA : Nat → Nat → XN → (Int64 → XN → Prop) → Prop) (TA : Nat → Nat → XN → (Int32 → XN → Prop) → Prop) (X47 : Int32 → Int32 → Int32 → Int32 → Int32 → Int32 → XN → Prop) (x1 : Int32) (x2 : Int32) (x3 : Int32) (x4 : Int32) (x5 : Int32) (x6 : Int32) (ν : XN) (Q : Int32 → XN → Prop) : Prop :=
  X47 x1 x2 x3 x4 x5 (x6 + 1) ν
theorem xt_X0_keeps_90 {κ : Cx} {S : Adr} {A : Nat → Prop} {Z : State → Prop} {Q : Int32 → XN → Prop} {dV : Nat} {VA : Nat → Nat → XN → (Int64 → XN → Prop) → Prop} {TA : Nat → Nat → XN → (Int32 → XN → Prop) → Prop} (hV : HVT S A dV VA TA) (h : XCx κ cX0_keeps RX0 S A (dV + 11) 0 0) (hT : (cxT κ).sig.returnType = some .int) (hN : (cxT κ).name = "keeps") (hR : xRet κ S A 0 0 Z cX0_keeps (pI Q)) {X47 : Int32 → Int32 → Int32 → Int32 → Int32 → Int32 → XN → Prop} (hX47 : ∀ (x1 : Int32) (x2 : Int32) (x3 : Int32) (x4 : Int32) (x5 : Int32) (x6 : Int32) (ν : XN), X47 x1 x2 x3 x4 x5 x6 ν → XG κ S A 0 0 Z 47 (ν, 0, 0) [some (.ref (S.2.1 0)), some (.int x1), some (.int x2), some (.int x3), some (.int x4), some (.int x5), some (.int x6)] []) {x1 : Int32} {x2 : Int32} {x3 : Int32} {x4 : Int32} {x5 : Int32} {x6 : Int32} {ν : XN} (hw : xw_X0_keeps_90 VA TA X47 x1 x2 x3 x4 x5 x6 ν Q) : XG κ S A 0 0 Z 90 (ν, 0, 0) [some (.ref (S.2.1 0)), some (.int x1), some (.int x2), some (.int x3), some (.int x4), some (.int x5), some (.int x6)] [] := by
  unfold xw_X0_keeps_90 at hw
  refine g_iinc_6 90 (x6 + 1) (congrArg _ ic_1) h.1 rfl dX0_keeps_90 ?_
  refine g_goto 93 47 h.1 dX0_keeps_93 (by decide) ?_
  exact g_le (hX47 _ _ _ _ _ _ _ hw) ⟨rfl, rfl, rfl, rfl, rfl, rfl, rfl, trivial⟩
def xw_X0_keeps_47 (VA : Nat → Nat → XN → (Int64 → XN → Prop) → Prop) (TA : Nat → Nat → XN → (Int32 → XN → Prop) → Prop) (x1 : Int32) (x2 : Int32) (x3 : Int32) (x4 : Int32) (x5 : Int32) (x6 : Int32) (ν : XN) (Q : Int32 → XN → Prop) : Prop :=
  ∀ X47 : Int32 → Int32 → Int32 → Int32 → Int32 → Int32 → XN → Prop, (∀ (x1 : Int32) (x2 : Int32) (x3 : Int32) (x4 : Int32) (x5 : Int32) (x6 : Int32) (ν : XN), (xw_X0_people ν (fun r10 ν9 => ((((1 : Int32) <<< (r10 &&& 31)) ≤ x6 → Q x5 ν9) ∧ (¬ ((1 : Int32) <<< (r10 &&& 31)) ≤ x6 → (xw_X0_isFewer x6 x5 ν9 (fun r12 ν11 => ((r12 = 0 → xw_X0_keeps_90 VA TA X47 x1 x2 x3 x4 x5 x6 ν11 Q) ∧ (¬ r12 = 0 → (xw_X0_silently VA TA x6 x3 ν11 (fun r14 ν13 => (xw_X0_wayOver r14 x1 x2 ν13 (fun r16 ν15 => ((x4 < r16 → xw_X0_keeps_90 VA TA X47 x1 x2 x3 x4 x5 x6 ν15 Q) ∧ (¬ x4 < r16 → xw_X0_keeps_90 VA TA X47 x1 x2 x3 x4 x6 x6 ν15 Q)))))))))))))) → X47 x1 x2 x3 x4 x5 x6 ν) → X47 x1 x2 x3 x4 x5 x6 ν
theorem xt_X0_keeps_47 {κ : Cx} {S : Adr} {A : Nat → Prop} {Z : State → Prop} {Q : Int32 → XN → Prop} {dV : Nat} {VA : Nat → Nat → XN → (Int64 → XN → Prop) → Prop} {TA : Nat → Nat → XN → (Int32 → XN → Prop) → Prop} (hV : HVT S A dV VA TA) (h : XCx κ cX0_keeps RX0 S A (dV + 11) 0 0) (hT : (cxT κ).sig.returnType = some .int) (hN : (cxT κ).name = "keeps") (hR : xRet κ S A 0 0 Z cX0_keeps (pI Q)) {x1 : Int32} {x2 : Int32} {x3 : Int32} {x4 : Int32} {x5 : Int32} {x6 : Int32} {ν : XN} (hw : xw_X0_keeps_47 VA TA x1 x2 x3 x4 x5 x6 ν Q) : XG κ S A 0 0 Z 47 (ν, 0, 0) [some (.ref (S.2.1 0)), some (.int x1), some (.int x2), some (.int x3), some (.int x4), some (.int x5), some (.int x6)] [] := by
  refine hw (fun x1 x2 x3 x4 x5 x6 ν => XG κ S A 0 0 Z 47 (ν, 0, 0) [some (.ref (S.2.1 0)), some (.int x1), some (.int x2), some (.int x3), some (.int x4), some (.int x5), some (.int x6)] []) ?_
  clear hw
  intro x1 x2 x3 x4 x5 x6 ν hw
  have hX47 : ∀ (x1 : Int32) (x2 : Int32) (x3 : Int32) (x4 : Int32) (x5 : Int32) (x6 : Int32) (ν : XN), XG κ S A 0 0 Z 47 (ν, 0, 0) [some (.ref (S.2.1 0)), some (.int x1), some (.int x2), some (.int x3), some (.int x4), some (.int x5), some (.int x6)] [] → XG κ S A 0 0 Z 47 (ν, 0, 0) [some (.ref (S.2.1 0)), some (.int x1), some (.int x2), some (.int x3), some (.int x4), some (.int x5), some (.int x6)] [] := fun _ _ _ _ _ _ _ hh => hh
  refine g_iload_6 47 h.1 dX0_keeps_47 ?_
  refine g_iconstv 49 _ ic_1 h.1 dX0_keeps_49 ?_
  refine g_aload_0 50 h.1 dX0_keeps_50 ?_
  refine xcV_I_0 51 h (xm_X0_people h.2.2.1 hw) (by omega) (Nat.le_of_eq (Nat.zero_add _)) (Nat.le_of_eq (Nat.zero_add _)) q1284 qs38 (fun H hI => x_recvK h rfl rfl hI) q1303 (Nat.le_of_ble_eq_true rfl) dX0_keeps_51 (fun r10 ν9 hw => ?_)
  refine g_ishl 54 h.1 dX0_keeps_54 ?_
  refine g_icmp_ge 55 96 h.1 dX0_keeps_55 (by decide) (fun c => ?_) (fun c => ?_)
  · have hw := hw.1 c
    refine g_iload_5 96 h.1 dX0_keeps_96 ?_
    exact hR.1 98 _ _ _ _ _ _ hT rfl dX0_keeps_98 ⟨_, rfl, hw⟩
  · have hw := hw.2 c
    refine g_iload_6 58 h.1 dX0_keeps_58 ?_
    refine g_iload_5 60 h.1 dX0_keeps_60 ?_
    refine xcS_I_2 62 h (xm_X0_isFewer h.2.2.1 hw) (by omega) (Nat.le_of_eq (Nat.zero_add _)) (Nat.le_of_eq (Nat.zero_add _)) q1586 q1585 (Nat.le_of_ble_eq_true rfl) dX0_keeps_62 (fun r12 ν11 hw => ?_)
    refine g_if_eq 65 90 h.1 dX0_keeps_65 (by decide) (fun c => ?_) (fun c => ?_)
    · have hw := hw.1 c
      exact g_le (xt_X0_keeps_90 hV h hT hN hR hX47 hw) ⟨rfl, rfl, rfl, rfl, rfl, rfl, rfl, trivial⟩
    · have hw := hw.2 c
      refine g_aload_0 68 h.1 dX0_keeps_68 ?_
      refine g_aload_0 69 h.1 dX0_keeps_69 ?_
      refine g_iload_6 70 h.1 dX0_keeps_70 ?_
      refine g_iload_3 72 h.1 dX0_keeps_72 ?_
      refine xcV_K_2 73 h (xm_X0_silently hV h.2.2.1 hw) (by omega) (Nat.le_of_eq (Nat.zero_add _)) (Nat.le_of_eq (Nat.zero_add _)) q1591 qs57 (fun H hI => x_recvK h rfl rfl hI) q1589 (Nat.le_of_ble_eq_true rfl) dX0_keeps_73 (fun r14 ν13 hw => ?_)
      refine g_iload_1 76 h.1 dX0_keeps_76 ?_
      refine g_iload_2 77 h.1 dX0_keeps_77 ?_
      refine xcV_I_3 78 h (xm_X0_wayOver h.2.2.1 hw) (by omega) (Nat.le_of_eq (Nat.zero_add _)) (Nat.le_of_eq (Nat.zero_add _)) q1562 qs54 (fun H hI => x_recvK h rfl rfl hI) q1560 (Nat.le_of_ble_eq_true rfl) dX0_keeps_78 (fun r16 ν15 hw => ?_)
      refine g_iload_4 81 h.1 dX0_keeps_81 ?_
      refine g_icmp_gt 83 90 h.1 dX0_keeps_83 (by decide) (fun c => ?_) (fun c => ?_)
      · have hw := hw.1 c
        exact g_le (xt_X0_keeps_90 hV h hT hN hR hX47 hw) ⟨rfl, rfl, rfl, rfl, rfl, rfl, rfl, trivial⟩
      · have hw := hw.2 c
        refine g_iload_6 86 h.1 dX0_keeps_86 ?_
        refine g_istore_5 88 h.1 rfl dX0_keeps_88 ?_
        exact g_le (xt_X0_keeps_90 hV h hT hN hR hX47 hw) ⟨rfl, rfl, rfl, rfl, rfl, rfl, rfl, trivial⟩
def xw_X0_keeps (VA : Nat → Nat → XN → (Int64 → XN → Prop) → Prop) (TA : Nat → Nat → XN → (Int32 → XN → Prop) → Prop) (x1 : Int32) (x2 : Int32) (x3 : Int32) (ν : XN) (Q : Int32 → XN → Prop) : Prop :=
  (xw_X0_isCell x1 ν (fun r2 ν1 => ((r2 = 0 → Q (-1 : Int32) ν1) ∧ (¬ r2 = 0 → (xw_X0_isCell x2 ν1 (fun r4 ν3 => ((r4 = 0 → Q (-1 : Int32) ν3) ∧ (¬ r4 = 0 → (xw_X0_isAhead x3 (1 : Int32) (20 : Int32) ν3 (fun r6 ν5 => ((¬ r6 = 0 → (xw_X0_wayOver 10 x1 x2 ν5 (fun r8 ν7 => xw_X0_keeps_47 VA TA x1 x2 x3 r8 (-1 : Int32) (0 : Int32) ν7 Q))) ∧ (r6 = 0 → Q (-1 : Int32) ν5))))))))))))
theorem xt_X0_keeps {κ : Cx} {S : Adr} {A : Nat → Prop} {Z : State → Prop} {Q : Int32 → XN → Prop} {dV : Nat} {VA : Nat → Nat → XN → (Int64 → XN → Prop) → Prop} {TA : Nat → Nat → XN → (Int32 → XN → Prop) → Prop} (hV : HVT S A dV VA TA) (h : XCx κ cX0_keeps RX0 S A (dV + 11) 0 0) (hT : (cxT κ).sig.returnType = some .int) (hN : (cxT κ).name = "keeps") (hR : xRet κ S A 0 0 Z cX0_keeps (pI Q)) {x1 : Int32} {x2 : Int32} {x3 : Int32} {ν : XN} (hw : xw_X0_keeps VA TA x1 x2 x3 ν Q) : XG κ S A 0 0 Z 0 (ν, 0, 0) [some (.ref (S.2.1 0)), some (.int x1), some (.int x2), some (.int x3), none, none, none] [] := by
  unfold xw_X0_keeps at hw
  refine g_aload_0 0 h.1 dX0_keeps_0 ?_
  refine g_iload_1 1 h.1 dX0_keeps_1 ?_
  refine xcV_I_1 2 h (xm_X0_isCell h.2.2.1 hw) (by omega) (Nat.le_of_eq (Nat.zero_add _)) (Nat.le_of_eq (Nat.zero_add _)) q1306 qs40 (fun H hI => x_recvK h rfl rfl hI) q1304 (Nat.le_of_ble_eq_true rfl) dX0_keeps_2 (fun r2 ν1 hw => ?_)
  refine g_if_eq 5 27 h.1 dX0_keeps_5 (by decide) (fun c => ?_) (fun c => ?_)
  · have hw := hw.1 c
    refine g_iconstv 27 _ ic_m1 h.1 dX0_keeps_27 ?_
    exact hR.1 28 _ _ _ _ _ _ hT rfl dX0_keeps_28 ⟨_, rfl, hw⟩
  · have hw := hw.2 c
    refine g_aload_0 8 h.1 dX0_keeps_8 ?_
    refine g_iload_2 9 h.1 dX0_keeps_9 ?_
    refine xcV_I_1 10 h (xm_X0_isCell h.2.2.1 hw) (by omega) (Nat.le_of_eq (Nat.zero_add _)) (Nat.le_of_eq (Nat.zero_add _)) q1306 qs40 (fun H hI => x_recvK h rfl rfl hI) q1304 (Nat.le_of_ble_eq_true rfl) dX0_keeps_10 (fun r4 ν3 hw => ?_)
    refine g_if_eq 13 27 h.1 dX0_keeps_13 (by decide) (fun c => ?_) (fun c => ?_)
    · have hw := hw.1 c
      refine g_iconstv 27 _ ic_m1 h.1 dX0_keeps_27 ?_
      exact hR.1 28 _ _ _ _ _ _ hT rfl dX0_keeps_28 ⟨_, rfl, hw⟩
    · have hw := hw.2 c
      refine g_aload_0 16 h.1 dX0_keeps_16 ?_
      refine g_iload_3 17 h.1 dX0_keeps_17 ?_
      refine g_iconstv 18 _ ic_1 h.1 dX0_keeps_18 ?_
      refine g_bipush 19 _ bp_20 h.1 dX0_keeps_19 ?_
      refine xcV_I_3 21 h (xm_X0_isAhead h.2.2.1 hw) (by omega) (Nat.le_of_eq (Nat.zero_add _)) (Nat.le_of_eq (Nat.zero_add _)) q1508 qs51 (fun H hI => x_recvK h rfl rfl hI) q1506 (Nat.le_of_ble_eq_true rfl) dX0_keeps_21 (fun r6 ν5 hw => ?_)
      refine g_if_ne 24 29 h.1 dX0_keeps_24 (by decide) (fun c => ?_) (fun c => ?_)
      · have hw := hw.1 c
        refine g_aload_0 29 h.1 dX0_keeps_29 ?_
        refine g_aload_0 30 h.1 dX0_keeps_30 ?_
        refine xg_X0_69_0 31 h dX0_keeps_31 ?_
        refine g_iload_1 34 h.1 dX0_keeps_34 ?_
        refine g_iload_2 35 h.1 dX0_keeps_35 ?_
        refine xcV_I_3 36 h (xm_X0_wayOver h.2.2.1 hw) (by omega) (Nat.le_of_eq (Nat.zero_add _)) (Nat.le_of_eq (Nat.zero_add _)) q1562 qs54 (fun H hI => x_recvK h rfl rfl hI) q1560 (Nat.le_of_ble_eq_true rfl) dX0_keeps_36 (fun r8 ν7 hw => ?_)
        refine g_istore_4 39 h.1 rfl dX0_keeps_39 ?_
        refine g_iconstv 41 _ ic_m1 h.1 dX0_keeps_41 ?_
        refine g_istore_5 42 h.1 rfl dX0_keeps_42 ?_
        refine g_iconstv 44 _ ic_0 h.1 dX0_keeps_44 ?_
        refine g_istore_6 45 h.1 rfl dX0_keeps_45 ?_
        exact g_le (xt_X0_keeps_47 hV h hT hN hR hw) ⟨rfl, rfl, rfl, rfl, rfl, rfl, rfl, trivial⟩
      · have hw := hw.2 c
        refine g_iconstv 27 _ ic_m1 h.1 dX0_keeps_27 ?_
        exact hR.1 28 _ _ _ _ _ _ hT rfl dX0_keeps_28 ⟨_, rfl, hw⟩
theorem xm_X0_keeps {l : Launch} {S : Adr} {A : Nat → Prop} {dV : Nat} {VA : Nat → Nat → XN → (Int64 → XN → Prop) → Prop} {TA : Nat → Nat → XN → (Int32 → XN → Prop) → Prop} (hV : HVT S A dV VA TA) (hD : FD xT S xcl A) {x1 : Int32} {x2 : Int32} {x3 : Int32} {ν : XN} {Q : Int32 → XN → Prop} (hw : xw_X0_keeps VA TA x1 x2 x3 ν Q) : xMet l S A (dV + 11) 0 0 3 yX0_keeps [.ref (S.2.1 0), .int x1, .int x2, .int x3] ν (pI Q) :=
  x_met (plainFor_of_name (by decide)) hD ⟨⟨by decide, by decide, by show _ = some 3; decide +kernel⟩, by decide, q1584, q171⟩ (Nat.le_of_ble_eq_true rfl) (fun κ Z h hT hN hR => xt_X0_keeps hV h hT hN hR hw)
def xw_X0_kept (x1 : Int32) (x2 : Int32) (ν : XN) (Q : Int32 → XN → Prop) : Prop :=
  (xw_X0_is x1 (0 : Int32) ((fI ν.1 10 1) - (1 : Int32)) ν (fun r2 ν1 => ((r2 = 0 → Q (-1 : Int32) ν1) ∧ (¬ r2 = 0 → (xw_X0_is x2 (0 : Int32) (3 : Int32) ν1 (fun r4 ν3 => ((r4 = 0 → Q (-1 : Int32) ν3) ∧ (¬ r4 = 0 → (xok 7 (xft 10 7) ∧ (vp_in x1 (xlen (xft 10 7)) ∧ (xok 1 (fP ν3.1 (xft 10 7) (Int32.toNatClampNeg x1)) ∧ (vp_in x2 (xlen (fP ν3.1 (xft 10 7) (Int32.toNatClampNeg x1))) ∧ Q (fA ν3.1 (fP ν3.1 (xft 10 7) (Int32.toNatClampNeg x1)) (Int32.toNatClampNeg x2)) ν3))))))))))))
theorem xt_X0_kept {κ : Cx} {S : Adr} {A : Nat → Prop} {Z : State → Prop} {Q : Int32 → XN → Prop} (h : XCx κ cX0_kept RX0 S A 2 0 0) (hT : (cxT κ).sig.returnType = some .int) (hN : (cxT κ).name = "kept") (hR : xRet κ S A 0 0 Z cX0_kept (pI Q)) {x1 : Int32} {x2 : Int32} {ν : XN} (hw : xw_X0_kept x1 x2 ν Q) : XG κ S A 0 0 Z 0 (ν, 0, 0) [some (.ref (S.2.1 0)), some (.int x1), some (.int x2)] [] := by
  unfold xw_X0_kept at hw
  refine g_iload_1 0 h.1 dX0_kept_0 ?_
  refine g_iconstv 1 _ ic_0 h.1 dX0_kept_1 ?_
  refine g_aload_0 2 h.1 dX0_kept_2 ?_
  refine xg_X0_69_0 3 h dX0_kept_3 ?_
  refine xg_X0_201_5 6 rfl h dX0_kept_6 ?_
  refine g_iconstv 9 _ ic_1 h.1 dX0_kept_9 ?_
  refine g_isub 10 h.1 dX0_kept_10 ?_
  refine xcS_I_3 11 h (xm_X0_is h.2.2.1 hw) (by decide) (Nat.le_of_eq (Nat.zero_add _)) (Nat.le_of_eq (Nat.zero_add _)) q705 q1312 (Nat.le_of_ble_eq_true rfl) dX0_kept_11 (fun r2 ν1 hw => ?_)
  refine g_if_eq 14 40 h.1 dX0_kept_14 (by decide) (fun c => ?_) (fun c => ?_)
  · have hw := hw.1 c
    refine g_iconstv 40 _ ic_m1 h.1 dX0_kept_40 ?_
    exact hR.1 41 _ _ _ _ _ _ hT rfl dX0_kept_41 ⟨_, rfl, hw⟩
  · have hw := hw.2 c
    refine g_iload_2 17 h.1 dX0_kept_17 ?_
    refine g_iconstv 18 _ ic_0 h.1 dX0_kept_18 ?_
    refine g_iconstv 19 _ ic_3 h.1 dX0_kept_19 ?_
    refine xcS_I_3 20 h (xm_X0_is h.2.2.1 hw) (by decide) (Nat.le_of_eq (Nat.zero_add _)) (Nat.le_of_eq (Nat.zero_add _)) q705 q1312 (Nat.le_of_ble_eq_true rfl) dX0_kept_20 (fun r4 ν3 hw => ?_)
    refine g_if_eq 23 40 h.1 dX0_kept_23 (by decide) (fun c => ?_) (fun c => ?_)
    · have hw := hw.1 c
      refine g_iconstv 40 _ ic_m1 h.1 dX0_kept_40 ?_
      exact hR.1 41 _ _ _ _ _ _ hT rfl dX0_kept_41 ⟨_, rfl, hw⟩
    · have hw := hw.2 c
      refine g_aload_0 26 h.1 dX0_kept_26 ?_
      refine xg_X0_69_0 27 h dX0_kept_27 ?_
      refine xg_X0_240_5 30 rfl h dX0_kept_30 ?_
      refine g_iload_1 33 h.1 dX0_kept_33 ?_
      obtain ⟨f5, hw⟩ := hw
      obtain ⟨f6, hw⟩ := hw
      refine xa_aald7 34 f5 f6 h dX0_kept_34 ?_
      refine g_iload_2 35 h.1 dX0_kept_35 ?_
      obtain ⟨f7, hw⟩ := hw
      obtain ⟨f8, hw⟩ := hw
      refine xa_iald 36 f7 f8 h dX0_kept_36 ?_
      refine g_goto 37 41 h.1 dX0_kept_37 (by decide) ?_
      exact hR.1 41 _ _ _ _ _ _ hT rfl dX0_kept_41 ⟨_, rfl, hw⟩
theorem xm_X0_kept {l : Launch} {S : Adr} {A : Nat → Prop} (hD : FD xT S xcl A) {x1 : Int32} {x2 : Int32} {ν : XN} {Q : Int32 → XN → Prop} (hw : xw_X0_kept x1 x2 ν Q) : xMet l S A 2 0 0 2 yX0_kept [.ref (S.2.1 0), .int x1, .int x2] ν (pI Q) :=
  x_met (plainFor_of_name (by decide)) hD ⟨⟨by decide, by decide, by show _ = some 2; decide +kernel⟩, by decide, q1501, q171⟩ (Nat.le_of_ble_eq_true rfl) (fun κ Z h hT hN hR => xt_X0_kept h hT hN hR hw)
def xw_X0_later (VA : Nat → Nat → XN → (Int64 → XN → Prop) → Prop) (TA : Nat → Nat → XN → (Int32 → XN → Prop) → Prop) (x1 : Int32) (x2 : Int32) (x3 : Int32) (ν : XN) (Q : Int32 → XN → Prop) : Prop :=
  (xw_X0_isIn x1 x2 ν (fun r2 ν1 => ((r2 = 0 → Q (-1 : Int32) ν1) ∧ (¬ r2 = 0 → (xw_X0_isAhead x3 (0 : Int32) (60 : Int32) ν1 (fun r4 ν3 => ((r4 = 0 → Q (-1 : Int32) ν3) ∧ (¬ r4 = 0 → (xw_X5_copy 11 10 ν3 (fun r6 ν5 => (xoc r6 = 5 ∧ (xw_X5_days VA TA r6 x3 ν5 (fun r8 ν7 => (xoc r8 = 5 ∧ (xok 1 (xft r8 3) ∧ (vp_in (((8 : Int32) * x2) + x1) (xlen (xft r8 3)) ∧ Q (fA ν7.1 (xft r8 3) (Int32.toNatClampNeg (((8 : Int32) * x2) + x1))) ν7))))))))))))))))
theorem xt_X0_later {κ : Cx} {S : Adr} {A : Nat → Prop} {Z : State → Prop} {Q : Int32 → XN → Prop} {dV : Nat} {VA : Nat → Nat → XN → (Int64 → XN → Prop) → Prop} {TA : Nat → Nat → XN → (Int32 → XN → Prop) → Prop} (hV : HVT S A dV VA TA) (h : XCx κ cX0_later RX0 S A (dV + 10) 0 0) (hT : (cxT κ).sig.returnType = some .int) (hN : (cxT κ).name = "later") (hR : xRet κ S A 0 0 Z cX0_later (pI Q)) {x1 : Int32} {x2 : Int32} {x3 : Int32} {ν : XN} (hw : xw_X0_later VA TA x1 x2 x3 ν Q) : XG κ S A 0 0 Z 0 (ν, 0, 0) [some (.ref (S.2.1 0)), some (.int x1), some (.int x2), some (.int x3)] [] := by
  unfold xw_X0_later at hw
  refine g_aload_0 0 h.1 dX0_later_0 ?_
  refine g_iload_1 1 h.1 dX0_later_1 ?_
  refine g_iload_2 2 h.1 dX0_later_2 ?_
  refine xcV_I_2 3 h (xm_X0_isIn h.2.2.1 hw) (by omega) (Nat.le_of_eq (Nat.zero_add _)) (Nat.le_of_eq (Nat.zero_add _)) q1310 qs41 (fun H hI => x_recvK h rfl rfl hI) q1308 (Nat.le_of_ble_eq_true rfl) dX0_later_3 (fun r2 ν1 hw => ?_)
  refine g_if_eq 6 48 h.1 dX0_later_6 (by decide) (fun c => ?_) (fun c => ?_)
  · have hw := hw.1 c
    refine g_iconstv 48 _ ic_m1 h.1 dX0_later_48 ?_
    exact hR.1 49 _ _ _ _ _ _ hT rfl dX0_later_49 ⟨_, rfl, hw⟩
  · have hw := hw.2 c
    refine g_aload_0 9 h.1 dX0_later_9 ?_
    refine g_iload_3 10 h.1 dX0_later_10 ?_
    refine g_iconstv 11 _ ic_0 h.1 dX0_later_11 ?_
    refine g_bipush 12 _ bp_60 h.1 dX0_later_12 ?_
    refine xcV_I_3 14 h (xm_X0_isAhead h.2.2.1 hw) (by omega) (Nat.le_of_eq (Nat.zero_add _)) (Nat.le_of_eq (Nat.zero_add _)) q1508 qs51 (fun H hI => x_recvK h rfl rfl hI) q1506 (Nat.le_of_ble_eq_true rfl) dX0_later_14 (fun r4 ν3 hw => ?_)
    refine g_if_eq 17 48 h.1 dX0_later_17 (by decide) (fun c => ?_) (fun c => ?_)
    · have hw := hw.1 c
      refine g_iconstv 48 _ ic_m1 h.1 dX0_later_48 ?_
      exact hR.1 49 _ _ _ _ _ _ hT rfl dX0_later_49 ⟨_, rfl, hw⟩
    · have hw := hw.2 c
      refine g_aload_0 20 h.1 dX0_later_20 ?_
      refine xg_X0_73_0 21 h dX0_later_21 ?_
      refine g_aload_0 24 h.1 dX0_later_24 ?_
      refine xg_X0_69_0 25 h dX0_later_25 ?_
      refine xcV_K_1 28 h (xm_X5_copy h.2.2.1 hw) (by omega) (Nat.le_of_eq (Nat.zero_add _)) (Nat.le_of_eq (Nat.zero_add _)) q1436 q1437 (fun H hI => x_recvK h rfl rfl hI) q1435 (Nat.le_of_ble_eq_true rfl) dX0_later_28 (fun r6 ν5 hw => ?_)
      refine g_iload_3 31 h.1 dX0_later_31 ?_
      obtain ⟨f9, hw⟩ := hw
      refine xcV_K_1 32 h (xm_X5_days hV h.2.2.1 hw) (by omega) (Nat.le_of_eq (Nat.zero_add _)) (Nat.le_of_eq (Nat.zero_add _)) q1515 q1516 (fun H hI => x_recvK h f9 rfl hI) q1514 (Nat.le_of_ble_eq_true rfl) dX0_later_32 (fun r8 ν7 hw => ?_)
      obtain ⟨f10, hw⟩ := hw
      refine xg_X0_198_5 35 f10 h dX0_later_35 ?_
      refine g_bipush 38 _ bp_8 h.1 dX0_later_38 ?_
      refine g_iload_2 40 h.1 dX0_later_40 ?_
      refine g_imul 41 h.1 dX0_later_41 ?_
      refine g_iload_1 42 h.1 dX0_later_42 ?_
      refine g_iadd 43 h.1 dX0_later_43 ?_
      obtain ⟨f11, hw⟩ := hw
      obtain ⟨f12, hw⟩ := hw
      refine xa_iald 44 f11 f12 h dX0_later_44 ?_
      refine g_goto 45 49 h.1 dX0_later_45 (by decide) ?_
      exact hR.1 49 _ _ _ _ _ _ hT rfl dX0_later_49 ⟨_, rfl, hw⟩
theorem xm_X0_later {l : Launch} {S : Adr} {A : Nat → Prop} {dV : Nat} {VA : Nat → Nat → XN → (Int64 → XN → Prop) → Prop} {TA : Nat → Nat → XN → (Int32 → XN → Prop) → Prop} (hV : HVT S A dV VA TA) (hD : FD xT S xcl A) {x1 : Int32} {x2 : Int32} {x3 : Int32} {ν : XN} {Q : Int32 → XN → Prop} (hw : xw_X0_later VA TA x1 x2 x3 ν Q) : xMet l S A (dV + 10) 0 0 3 yX0_later [.ref (S.2.1 0), .int x1, .int x2, .int x3] ν (pI Q) :=
  x_met (plainFor_of_name (by decide)) hD ⟨⟨by decide, by decide, by show _ = some 3; decide +kernel⟩, by decide, q1505, q171⟩ (Nat.le_of_ble_eq_true rfl) (fun κ Z h hT hN hR => xt_X0_later hV h hT hN hR hw)
def xw_J6_coder (x0 : Nat) (ν : XN) (Q : Int32 → XN → Prop) : Prop :=
  (((1 : Int32) = 0 → (narrow .byte (.int (1 : Int32)) = .int (1 : Int32) ∧ Q (1 : Int32) ν)) ∧ (¬ (1 : Int32) = 0 → (rc ν.2 x0 = 11 ∧ (narrow .byte (.int (rI ν.2 x0 1)) = .int (rI ν.2 x0 1) ∧ Q (rI ν.2 x0 1) ν))))
theorem xt_J6_coder {κ : Cx} {S : Adr} {A : Nat → Prop} {Z : State → Prop} {Q : Int32 → XN → Prop} (h : XCx κ cJ6_coder RJ6 S A 1 0 0) (hT : (cxT κ).sig.returnType = some .byte) (hN : (cxT κ).name = "coder") (hR : xRet κ S A 0 0 Z cJ6_coder (pI Q)) {x0 : Nat} {ν : XN} (hw : xw_J6_coder x0 ν Q) : XG κ S A 0 0 Z 0 (ν, 0, 0) [some (.ref x0)] [] := by
  unfold xw_J6_coder at hw
  refine xs_J6_38 0 h dJ6_coder_0 ?_
  refine g_if_eq 3 13 h.1 dJ6_coder_3 (by decide) (fun c => ?_) (fun c => ?_)
  · have hw := hw.1 c
    refine g_iconstv 13 _ ic_1 h.1 dJ6_coder_13 ?_
    obtain ⟨f1, hw⟩ := hw
    exact hR.1 14 _ _ _ _ _ _ hT f1 dJ6_coder_14 ⟨_, rfl, hw⟩
  · have hw := hw.2 c
    refine g_aload_0 6 h.1 dJ6_coder_6 ?_
    obtain ⟨f2, hw⟩ := hw
    refine xg_J6_15_10 7 f2 h dJ6_coder_7 ?_
    refine g_goto 10 14 h.1 dJ6_coder_10 (by decide) ?_
    obtain ⟨f3, hw⟩ := hw
    exact hR.1 14 _ _ _ _ _ _ hT f3 dJ6_coder_14 ⟨_, rfl, hw⟩
theorem xm_J6_coder {l : Launch} {S : Adr} {A : Nat → Prop} (hD : FD xT S xcl A) {x0 : Nat} {ν : XN} {Q : Int32 → XN → Prop} (hw : xw_J6_coder x0 ν Q) : xMet l S A 1 0 0 0 yJ6_coder [.ref x0] ν (pI Q) :=
  x_met (by decide +kernel) hD ⟨⟨by decide, by decide, by show _ = some 0; decide +kernel⟩, by decide, q819, q184⟩ (Nat.le_of_ble_eq_true rfl) (fun κ Z h hT hN hR => xt_J6_coder h hT hN hR hw)
def xw_J6_length (x0 : Nat) (ν : XN) (Q : Int32 → XN → Prop) : Prop :=
  (rc ν.2 x0 = 11 ∧ (∃ b2, (rO ν.2 x0 0) = some b2 ∧ (rc ν.2 b2 = 102 ∧ (rc ν.2 x0 = 11 ∧ (xw_J6_coder x0 ν (fun r6 ν5 => Q ((Int32.ofNat (rn ν.2 b2)) >>> (r6 &&& 31)) ν5))))))
theorem xt_J6_length {κ : Cx} {S : Adr} {A : Nat → Prop} {Z : State → Prop} {Q : Int32 → XN → Prop} (h : XCx κ cJ6_length RJ6 S A 2 0 0) (hT : (cxT κ).sig.returnType = some .int) (hN : (cxT κ).name = "length") (hR : xRet κ S A 0 0 Z cJ6_length (pI Q)) {x0 : Nat} {ν : XN} (hw : xw_J6_length x0 ν Q) : XG κ S A 0 0 Z 0 (ν, 0, 0) [some (.ref x0)] [] := by
  unfold xw_J6_length at hw
  refine g_aload_0 0 h.1 dJ6_length_0 ?_
  obtain ⟨f1, hw⟩ := hw
  refine xg_J6_9_10 1 f1 h dJ6_length_1 ?_
  obtain ⟨b2, e3, hw⟩ := hw
  rw [e3]
  obtain ⟨f4, hw⟩ := hw
  refine ra_alen2 4 f4 h dJ6_length_4 ?_
  refine g_aload_0 5 h.1 dJ6_length_5 ?_
  obtain ⟨f7, hw⟩ := hw
  refine xcV_I_0 6 h (xm_J6_coder h.2.2.1 hw) (by decide) (Nat.le_of_eq (Nat.zero_add _)) (Nat.le_of_eq (Nat.zero_add _)) q817 q818 (fun H hI => x_recvR h f7 rfl hI) q816 (Nat.le_of_ble_eq_true rfl) dJ6_length_6 (fun r6 ν5 hw => ?_)
  refine g_ishr 9 h.1 dJ6_length_9 ?_
  exact hR.1 10 _ _ _ _ _ _ hT rfl dJ6_length_10 ⟨_, rfl, hw⟩
theorem xm_J6_length {l : Launch} {S : Adr} {A : Nat → Prop} (hD : FD xT S xcl A) {x0 : Nat} {ν : XN} {Q : Int32 → XN → Prop} (hw : xw_J6_length x0 ν Q) : xMet l S A 2 0 0 0 yJ6_length [.ref x0] ν (pI Q) :=
  x_met (by decide +kernel) hD ⟨⟨by decide, by decide, by show _ = some 0; decide +kernel⟩, by decide, q815, q184⟩ (Nat.le_of_ble_eq_true rfl) (fun κ Z h hT hN hR => xt_J6_length h hT hN hR hw)
def xw_J6_isLatin1 (x0 : Nat) (ν : XN) (Q : Int32 → XN → Prop) : Prop :=
  (((1 : Int32) = 0 → Q (0 : Int32) ν) ∧ (¬ (1 : Int32) = 0 → (rc ν.2 x0 = 11 ∧ ((¬ (rI ν.2 x0 1) = 0 → Q (0 : Int32) ν) ∧ ((rI ν.2 x0 1) = 0 → Q (1 : Int32) ν)))))
theorem xt_J6_isLatin1 {κ : Cx} {S : Adr} {A : Nat → Prop} {Z : State → Prop} {Q : Int32 → XN → Prop} (h : XCx κ cJ6_isLatin1 RJ6 S A 1 0 0) (hT : (cxT κ).sig.returnType = some .boolean) (hN : (cxT κ).name = "isLatin1") (hR : xRet κ S A 0 0 Z cJ6_isLatin1 (pI Q)) {x0 : Nat} {ν : XN} (hw : xw_J6_isLatin1 x0 ν Q) : XG κ S A 0 0 Z 0 (ν, 0, 0) [some (.ref x0)] [] := by
  unfold xw_J6_isLatin1 at hw
  refine xs_J6_38 0 h dJ6_isLatin1_0 ?_
  refine g_if_eq 3 17 h.1 dJ6_isLatin1_3 (by decide) (fun c => ?_) (fun c => ?_)
  · have hw := hw.1 c
    refine g_iconstv 17 _ ic_0 h.1 dJ6_isLatin1_17 ?_
    exact hR.1 18 _ _ _ _ _ _ hT rfl dJ6_isLatin1_18 ⟨_, rfl, hw⟩
  · have hw := hw.2 c
    refine g_aload_0 6 h.1 dJ6_isLatin1_6 ?_
    obtain ⟨f1, hw⟩ := hw
    refine xg_J6_15_10 7 f1 h dJ6_isLatin1_7 ?_
    refine g_if_ne 10 17 h.1 dJ6_isLatin1_10 (by decide) (fun c => ?_) (fun c => ?_)
    · have hw := hw.1 c
      refine g_iconstv 17 _ ic_0 h.1 dJ6_isLatin1_17 ?_
      exact hR.1 18 _ _ _ _ _ _ hT rfl dJ6_isLatin1_18 ⟨_, rfl, hw⟩
    · have hw := hw.2 c
      refine g_iconstv 13 _ ic_1 h.1 dJ6_isLatin1_13 ?_
      refine g_goto 14 18 h.1 dJ6_isLatin1_14 (by decide) ?_
      exact hR.1 18 _ _ _ _ _ _ hT rfl dJ6_isLatin1_18 ⟨_, rfl, hw⟩
theorem xm_J6_isLatin1 {l : Launch} {S : Adr} {A : Nat → Prop} (hD : FD xT S xcl A) {x0 : Nat} {ν : XN} {Q : Int32 → XN → Prop} (hw : xw_J6_isLatin1 x0 ν Q) : xMet l S A 1 0 0 0 yJ6_isLatin1 [.ref x0] ν (pI Q) :=
  x_met (by decide +kernel) hD ⟨⟨by decide, by decide, by show _ = some 0; decide +kernel⟩, by decide, q731, q184⟩ (Nat.le_of_ble_eq_true rfl) (fun κ Z h hT hN hR => xt_J6_isLatin1 h hT hN hR hw)
def xw_J7_charAt (x0 : Nat) (x1 : Int32) (ν : XN) (Q : Int32 → XN → Prop) : Prop :=
  False
theorem xt_J7_charAt {κ : Cx} {S : Adr} {A : Nat → Prop} {Z : State → Prop} {Q : Int32 → XN → Prop} (h : XCx κ cJ7_charAt RJ7 S A 1 0 0) (hT : (cxT κ).sig.returnType = some .char) (hN : (cxT κ).name = "charAt") (hR : xRet κ S A 0 0 Z cJ7_charAt (pI Q)) {x0 : Nat} {x1 : Int32} {ν : XN} (hw : xw_J7_charAt x0 x1 ν Q) : XG κ S A 0 0 Z 0 (ν, 0, 0) [some (.ref x0), some (.int x1)] [] := by
  unfold xw_J7_charAt at hw
  exact hw.elim
theorem xm_J7_charAt {l : Launch} {S : Adr} {A : Nat → Prop} (hD : FD xT S xcl A) {x0 : Nat} {x1 : Int32} {ν : XN} {Q : Int32 → XN → Prop} (hw : xw_J7_charAt x0 x1 ν Q) : xMet l S A 1 0 0 2 yJ7_charAt [.ref x0, .int x1] ν (pI Q) :=
  x_met (by decide +kernel) hD ⟨⟨by decide, by decide, by show _ = some 2; decide +kernel⟩, by decide, q1337, q185⟩ (Nat.le_of_ble_eq_true rfl) (fun κ Z h hT hN hR => xt_J7_charAt h hT hN hR hw)
def xw_J6_checkIndex (x0 : Int32) (x1 : Int32) (ν : XN) (Q : XN → Prop) : Prop :=
  (∀ b1 : Option Nat, (xw_J8_checkIndex x0 x1 b1 ν (fun r3 ν2 => Q ν2)))
theorem xt_J6_checkIndex {κ : Cx} {S : Adr} {A : Nat → Prop} {Z : State → Prop} {Q : XN → Prop} (h : XCx κ cJ6_checkIndex RJ6 S A 2 0 0) (hT : (cxT κ).sig.returnType = none) (hN : (cxT κ).name = "checkIndex") (hR : xRet κ S A 0 0 Z cJ6_checkIndex (pV Q)) {x0 : Int32} {x1 : Int32} {ν : XN} (hw : xw_J6_checkIndex x0 x1 ν Q) : XG κ S A 0 0 Z 0 (ν, 0, 0) [some (.int x0), some (.int x1)] [] := by
  unfold xw_J6_checkIndex at hw
  refine g_iload_0 0 h.1 dJ6_checkIndex_0 ?_
  refine g_iload_1 1 h.1 dJ6_checkIndex_1 ?_
  refine xs_J6_1053 2 h dJ6_checkIndex_2 (fun b1 => ?_)
  have hw := hw b1
  refine xcS_I_3 5 h (xm_J8_checkIndex h.2.2.1 hw) (by decide) (Nat.le_of_eq (Nat.zero_add _)) (Nat.le_of_eq (Nat.zero_add _)) q842 q1199 (Nat.le_of_ble_eq_true rfl) dJ6_checkIndex_5 (fun r3 ν2 hw => ?_)
  refine g_pop 8 rfl h.1 dJ6_checkIndex_8 ?_
  exact hR.2.2.1 9 _ _ _ _ hT dJ6_checkIndex_9 ⟨rfl, hw⟩
theorem xm_J6_checkIndex {l : Launch} {S : Adr} {A : Nat → Prop} (hD : FD xT S xcl A) {x0 : Int32} {x1 : Int32} {ν : XN} {Q : XN → Prop} (hw : xw_J6_checkIndex x0 x1 ν Q) : xMet l S A 2 0 0 2 yJ6_checkIndex [.int x0, .int x1] ν (pV Q) :=
  x_met (by decide +kernel) hD ⟨⟨by decide, by decide, by show _ = some 2; decide +kernel⟩, by decide, q1198, q184⟩ (Nat.le_of_ble_eq_true rfl) (fun κ Z h hT hN hR => xt_J6_checkIndex h hT hN hR hw)
def xw_J9_charAt (x0 : Nat) (x1 : Int32) (ν : XN) (Q : Int32 → XN → Prop) : Prop :=
  (rc ν.2 x0 = 102 ∧ (xw_J6_checkIndex x1 (Int32.ofNat (rn ν.2 x0)) ν (fun ν2 => (rc ν2.2 x0 = 102 ∧ (vp_in x1 (rn ν2.2 x0) ∧ (narrow .char (.int (UInt32.toInt32 (Int32.toUInt32 ((rI ν2.2 x0 (Int32.toNatClampNeg x1)) &&& (255 : Int32)) % 65536))) = .int (UInt32.toInt32 (Int32.toUInt32 ((rI ν2.2 x0 (Int32.toNatClampNeg x1)) &&& (255 : Int32)) % 65536)) ∧ Q (UInt32.toInt32 (Int32.toUInt32 ((rI ν2.2 x0 (Int32.toNatClampNeg x1)) &&& (255 : Int32)) % 65536)) ν2))))))
theorem xt_J9_charAt {κ : Cx} {S : Adr} {A : Nat → Prop} {Z : State → Prop} {Q : Int32 → XN → Prop} (h : XCx κ cJ9_charAt RJ9 S A 3 0 0) (hT : (cxT κ).sig.returnType = some .char) (hN : (cxT κ).name = "charAt") (hR : xRet κ S A 0 0 Z cJ9_charAt (pI Q)) {x0 : Nat} {x1 : Int32} {ν : XN} (hw : xw_J9_charAt x0 x1 ν Q) : XG κ S A 0 0 Z 0 (ν, 0, 0) [some (.ref x0), some (.int x1)] [] := by
  unfold xw_J9_charAt at hw
  refine g_iload_1 0 h.1 dJ9_charAt_0 ?_
  refine g_aload_0 1 h.1 dJ9_charAt_1 ?_
  obtain ⟨f1, hw⟩ := hw
  refine ra_alen2 2 f1 h dJ9_charAt_2 ?_
  refine xcS_V_2 3 h (xm_J6_checkIndex h.2.2.1 hw) (by decide) (Nat.le_of_eq (Nat.zero_add _)) (Nat.le_of_eq (Nat.zero_add _)) q1197 q1334 (Nat.le_of_ble_eq_true rfl) dJ9_charAt_3 (fun ν2 hw => ?_)
  refine g_aload_0 6 h.1 dJ9_charAt_6 ?_
  refine g_iload_1 7 h.1 dJ9_charAt_7 ?_
  obtain ⟨f3, hw⟩ := hw
  obtain ⟨f4, hw⟩ := hw
  refine ra_bald 8 f3 f4 h dJ9_charAt_8 ?_
  refine g_sipush 9 _ sp_255 h.1 dJ9_charAt_9 ?_
  refine g_iand 12 h.1 dJ9_charAt_12 ?_
  refine g_i2c 13 h.1 dJ9_charAt_13 ?_
  obtain ⟨f5, hw⟩ := hw
  exact hR.1 14 _ _ _ _ _ _ hT f5 dJ9_charAt_14 ⟨_, rfl, hw⟩
theorem xm_J9_charAt {l : Launch} {S : Adr} {A : Nat → Prop} (hD : FD xT S xcl A) {x0 : Nat} {x1 : Int32} {ν : XN} {Q : Int32 → XN → Prop} (hw : xw_J9_charAt x0 x1 ν Q) : xMet l S A 3 0 0 2 yJ9_charAt [.ref x0, .int x1] ν (pI Q) :=
  x_met (by decide +kernel) hD ⟨⟨by decide, by decide, by show _ = some 2; decide +kernel⟩, by decide, q1333, q187⟩ (Nat.le_of_ble_eq_true rfl) (fun κ Z h hT hN hR => xt_J9_charAt h hT hN hR hw)
def xw_J6_charAt (x0 : Nat) (x1 : Int32) (ν : XN) (Q : Int32 → XN → Prop) : Prop :=
  (rc ν.2 x0 = 11 ∧ (xw_J6_isLatin1 x0 ν (fun r2 ν1 => ((r2 = 0 → (rc ν1.2 x0 = 11 ∧ (∃ b5, (rO ν1.2 x0 0) = some b5 ∧ (xw_J7_charAt b5 x1 ν1 (fun r8 ν7 => (narrow .char (.int r8) = .int r8 ∧ Q r8 ν7)))))) ∧ (¬ r2 = 0 → (rc ν1.2 x0 = 11 ∧ (∃ b11, (rO ν1.2 x0 0) = some b11 ∧ (xw_J9_charAt b11 x1 ν1 (fun r14 ν13 => (narrow .char (.int r14) = .int r14 ∧ Q r14 ν13))))))))))
theorem xt_J6_charAt {κ : Cx} {S : Adr} {A : Nat → Prop} {Z : State → Prop} {Q : Int32 → XN → Prop} (h : XCx κ cJ6_charAt RJ6 S A 4 0 0) (hT : (cxT κ).sig.returnType = some .char) (hN : (cxT κ).name = "charAt") (hR : xRet κ S A 0 0 Z cJ6_charAt (pI Q)) {x0 : Nat} {x1 : Int32} {ν : XN} (hw : xw_J6_charAt x0 x1 ν Q) : XG κ S A 0 0 Z 0 (ν, 0, 0) [some (.ref x0), some (.int x1)] [] := by
  unfold xw_J6_charAt at hw
  refine g_aload_0 0 h.1 dJ6_charAt_0 ?_
  obtain ⟨f3, hw⟩ := hw
  refine xcV_I_0 1 h (xm_J6_isLatin1 h.2.2.1 hw) (by decide) (Nat.le_of_eq (Nat.zero_add _)) (Nat.le_of_eq (Nat.zero_add _)) q729 q730 (fun H hI => x_recvR h f3 rfl hI) q728 (Nat.le_of_ble_eq_true rfl) dJ6_charAt_1 (fun r2 ν1 hw => ?_)
  refine g_if_eq 4 16 h.1 dJ6_charAt_4 (by decide) (fun c => ?_) (fun c => ?_)
  · have hw := hw.1 c
    refine g_aload_0 16 h.1 dJ6_charAt_16 ?_
    obtain ⟨f4, hw⟩ := hw
    refine xg_J6_9_10 17 f4 h dJ6_charAt_17 ?_
    refine g_iload_1 20 h.1 dJ6_charAt_20 ?_
    obtain ⟨b5, e6, hw⟩ := hw
    rw [e6]
    refine xcS_I_2 21 h (xm_J7_charAt h.2.2.1 hw) (by decide) (Nat.le_of_eq (Nat.zero_add _)) (Nat.le_of_eq (Nat.zero_add _)) q1336 q1335 (Nat.le_of_ble_eq_true rfl) dJ6_charAt_21 (fun r8 ν7 hw => ?_)
    obtain ⟨f9, hw⟩ := hw
    exact hR.1 24 _ _ _ _ _ _ hT f9 dJ6_charAt_24 ⟨_, rfl, hw⟩
  · have hw := hw.2 c
    refine g_aload_0 7 h.1 dJ6_charAt_7 ?_
    obtain ⟨f10, hw⟩ := hw
    refine xg_J6_9_10 8 f10 h dJ6_charAt_8 ?_
    refine g_iload_1 11 h.1 dJ6_charAt_11 ?_
    obtain ⟨b11, e12, hw⟩ := hw
    rw [e12]
    refine xcS_I_2 12 h (xm_J9_charAt h.2.2.1 hw) (by decide) (Nat.le_of_eq (Nat.zero_add _)) (Nat.le_of_eq (Nat.zero_add _)) q1332 q1331 (Nat.le_of_ble_eq_true rfl) dJ6_charAt_12 (fun r14 ν13 hw => ?_)
    obtain ⟨f15, hw⟩ := hw
    exact hR.1 15 _ _ _ _ _ _ hT f15 dJ6_charAt_15 ⟨_, rfl, hw⟩
theorem xm_J6_charAt {l : Launch} {S : Adr} {A : Nat → Prop} (hD : FD xT S xcl A) {x0 : Nat} {x1 : Int32} {ν : XN} {Q : Int32 → XN → Prop} (hw : xw_J6_charAt x0 x1 ν Q) : xMet l S A 4 0 0 1 yJ6_charAt [.ref x0, .int x1] ν (pI Q) :=
  x_met (by decide +kernel) hD ⟨⟨by decide, by decide, by show _ = some 1; decide +kernel⟩, by decide, q1330, q184⟩ (Nat.le_of_ble_eq_true rfl) (fun κ Z h hT hN hR => xt_J6_charAt h hT hN hR hw)
def xw_X7_letter (x0 : Nat) (x1 : Int32) (ν : XN) (Q : Int32 → XN → Prop) : Prop :=
  ((rc ν.2 x0 = 8 ∨ rc ν.2 x0 = 9) ∧ (∃ b3, (rO ν.2 x0 0) = some b3 ∧ (rc ν.2 b3 = 11 ∧ (xw_J6_length b3 ν (fun r6 ν5 => ((r6 ≤ x1 → Q (0 : Int32) ν5) ∧ (¬ r6 ≤ x1 → ((rc ν5.2 x0 = 8 ∨ rc ν5.2 x0 = 9) ∧ (∃ b10, (rO ν5.2 x0 0) = some b10 ∧ (rc ν5.2 b10 = 11 ∧ (xw_J6_charAt b10 x1 ν5 (fun r13 ν12 => Q ((r13 - (97 : Int32)) + (1 : Int32)) ν12))))))))))))
theorem xt_X7_letter {κ : Cx} {S : Adr} {A : Nat → Prop} {Z : State → Prop} {Q : Int32 → XN → Prop} (h : XCx κ cX7_letter RX7 S A 5 0 0) (hT : (cxT κ).sig.returnType = some .int) (hN : (cxT κ).name = "letter") (hR : xRet κ S A 0 0 Z cX7_letter (pI Q)) {x0 : Nat} {x1 : Int32} {ν : XN} (hw : xw_X7_letter x0 x1 ν Q) : XG κ S A 0 0 Z 0 (ν, 0, 0) [some (.ref x0), some (.int x1)] [] := by
  unfold xw_X7_letter at hw
  refine g_iload_1 0 h.1 dX7_letter_0 ?_
  refine g_aload_0 1 h.1 dX7_letter_1 ?_
  obtain ⟨f1, hw⟩ := hw
  refine xgm_X7_9 2 f1 h dX7_letter_2 ?_
  obtain ⟨b3, e4, hw⟩ := hw
  rw [e4]
  obtain ⟨f7, hw⟩ := hw
  refine xcV_I_0 5 h (xm_J6_length h.2.2.1 hw) (by decide) (Nat.le_of_eq (Nat.zero_add _)) (Nat.le_of_eq (Nat.zero_add _)) q813 q814 (fun H hI => x_recvR h f7 rfl hI) q1326 (Nat.le_of_ble_eq_true rfl) dX7_letter_5 (fun r6 ν5 hw => ?_)
  refine g_icmp_ge 8 27 h.1 dX7_letter_8 (by decide) (fun c => ?_) (fun c => ?_)
  · have hw := hw.1 c
    refine g_iconstv 27 _ ic_0 h.1 dX7_letter_27 ?_
    exact hR.1 28 _ _ _ _ _ _ hT rfl dX7_letter_28 ⟨_, rfl, hw⟩
  · have hw := hw.2 c
    refine g_aload_0 11 h.1 dX7_letter_11 ?_
    obtain ⟨f8, hw⟩ := hw
    refine xgm_X7_9 12 f8 h dX7_letter_12 ?_
    refine g_iload_1 15 h.1 dX7_letter_15 ?_
    obtain ⟨b10, e11, hw⟩ := hw
    rw [e11]
    obtain ⟨f14, hw⟩ := hw
    refine xcV_I_1 16 h (xm_J6_charAt h.2.2.1 hw) (by decide) (Nat.le_of_eq (Nat.zero_add _)) (Nat.le_of_eq (Nat.zero_add _)) q1328 q1329 (fun H hI => x_recvR h f14 rfl hI) q1327 (Nat.le_of_ble_eq_true rfl) dX7_letter_16 (fun r13 ν12 hw => ?_)
    refine g_bipush 19 _ bp_97 h.1 dX7_letter_19 ?_
    refine g_isub 21 h.1 dX7_letter_21 ?_
    refine g_iconstv 22 _ ic_1 h.1 dX7_letter_22 ?_
    refine g_iadd 23 h.1 dX7_letter_23 ?_
    refine g_goto 24 28 h.1 dX7_letter_24 (by decide) ?_
    exact hR.1 28 _ _ _ _ _ _ hT rfl dX7_letter_28 ⟨_, rfl, hw⟩
theorem xm_X7_letter {l : Launch} {S : Adr} {A : Nat → Prop} (hD : FD xT S xcl A) {x0 : Nat} {x1 : Int32} {ν : XN} {Q : Int32 → XN → Prop} (hw : xw_X7_letter x0 x1 ν Q) : xMet l S A 5 0 0 1 yX7_letter [.ref x0, .int x1] ν (pI Q) :=
  x_met (plainFor_of_name (by decide)) hD ⟨⟨by decide, by decide, by show _ = some 1; decide +kernel⟩, by decide, q1325, q189⟩ (Nat.le_of_ble_eq_true rfl) (fun κ Z h hT hN hR => xt_X7_letter h hT hN hR hw)
def xw_X0_letter_45 (x2 : Int32) (x3 : Int32) (y0 : (Option Nat)) (ν : XN) (Q : Int32 → XN → Prop) : Prop :=
  (∃ b11, y0 = some b11 ∧ (rc ν.2 b11 = 7 ∧ (xw_J2_size b11 ν (fun r14 ν13 => ((r14 ≤ x2 → Q (-1 : Int32) ν13) ∧ (¬ r14 ≤ x2 → (rc ν13.2 b11 = 7 ∧ (xw_J2_get b11 x2 ν13 (fun r17 ν16 => (∃ b19, r17 = some b19 ∧ ((rc ν16.2 b19 = 8 ∨ rc ν16.2 b19 = 9) ∧ ((rc ν16.2 b19 = 8 ∨ rc ν16.2 b19 = 9) ∧ (xw_X7_letter b19 x3 ν16 (fun r23 ν22 => Q r23 ν22))))))))))))))
theorem xt_X0_letter_45 {κ : Cx} {S : Adr} {A : Nat → Prop} {Z : State → Prop} {Q : Int32 → XN → Prop} (h : XCx κ cX0_letter RX0 S A 6 0 0) (hT : (cxT κ).sig.returnType = some .int) (hN : (cxT κ).name = "letter") (hR : xRet κ S A 0 0 Z cX0_letter (pI Q)) {x2 : Int32} {x3 : Int32} {y0 : (Option Nat)} {ν : XN} (hw : xw_X0_letter_45 x2 x3 y0 ν Q) : XG κ S A 0 0 Z 45 (ν, 0, 0) [none, none, some (.int x2), some (.int x3), none] [va_rf y0] := by
  unfold xw_X0_letter_45 at hw
  obtain ⟨b11, e12, hw⟩ := hw
  rw [e12]
  refine g_astore_4 45 h.1 rfl dX0_letter_45 ?_
  refine g_iload_2 47 h.1 dX0_letter_47 ?_
  refine g_aload_4 48 h.1 dX0_letter_48 ?_
  obtain ⟨f15, hw⟩ := hw
  refine xcF_I_0 50 h h.2.1.2.2.1.1 (xm_J2_size h.2.2.1 hw) (by decide) (Nat.le_of_eq (Nat.zero_add _)) (Nat.le_of_eq (Nat.zero_add _)) ⟨by decide, by decide, by show _ = some 0; decide +kernel⟩ q793 q791 f15 q1287 (Nat.le_of_ble_eq_true rfl) dX0_letter_50 (fun r14 ν13 hw => ?_)
  refine g_icmp_ge 55 76 h.1 dX0_letter_55 (by decide) (fun c => ?_) (fun c => ?_)
  · have hw := hw.1 c
    refine g_iconstv 76 _ ic_m1 h.1 dX0_letter_76 ?_
    exact hR.1 77 _ _ _ _ _ _ hT rfl dX0_letter_77 ⟨_, rfl, hw⟩
  · have hw := hw.2 c
    refine g_aload_4 58 h.1 dX0_letter_58 ?_
    refine g_iload_2 60 h.1 dX0_letter_60 ?_
    obtain ⟨f18, hw⟩ := hw
    refine xcF_O_1 61 h h.2.1.2.2.1.2.1 (xm_J2_get h.2.2.1 hw) (by decide) (Nat.le_of_eq (Nat.zero_add _)) (Nat.le_of_eq (Nat.zero_add _)) ⟨by decide, by decide, by show _ = some 1; decide +kernel⟩ q835 q833 f18 q1318 (Nat.le_of_ble_eq_true rfl) dX0_letter_61 (fun r17 ν16 hw => ?_)
    obtain ⟨b19, e20, hw⟩ := hw
    rw [e20]
    obtain ⟨f21, hw⟩ := hw
    refine xcs_X0_208 66 f21 h dX0_letter_66 ?_
    refine g_iload_3 69 h.1 dX0_letter_69 ?_
    obtain ⟨f24, hw⟩ := hw
    refine xcL_I_1 70 h (xm_X7_letter h.2.2.1 hw) (by decide) (Nat.le_of_eq (Nat.zero_add _)) (Nat.le_of_eq (Nat.zero_add _)) f24 q1320 (Nat.le_of_ble_eq_true rfl) dX0_letter_70 (fun r23 ν22 hw => ?_)
    refine g_goto 73 77 h.1 dX0_letter_73 (by decide) ?_
    exact hR.1 77 _ _ _ _ _ _ hT rfl dX0_letter_77 ⟨_, rfl, hw⟩
def xw_X0_letter (x1 : Int32) (x2 : Int32) (x3 : Int32) (ν : XN) (Q : Int32 → XN → Prop) : Prop :=
  (xw_X0_is x3 (0 : Int32) (5 : Int32) ν (fun r2 ν1 => ((r2 = 0 → Q (-1 : Int32) ν1) ∧ (¬ r2 = 0 → (xw_X0_is x1 (0 : Int32) (1 : Int32) ν1 (fun r4 ν3 => ((r4 = 0 → Q (-1 : Int32) ν3) ∧ (¬ r4 = 0 → ((0 ≤ x2 → ((¬ x1 = 0 → (∃ b5, fR ν3.1 0 0 = .ref b5 ∧ (rc ν3.2 b5 = 2 ∧ xw_X0_letter_45 x2 x3 (rO ν3.2 b5 6) ν3 Q))) ∧ (x1 = 0 → (∃ b8, fR ν3.1 0 0 = .ref b8 ∧ (rc ν3.2 b8 = 2 ∧ xw_X0_letter_45 x2 x3 (rO ν3.2 b8 5) ν3 Q))))) ∧ (¬ 0 ≤ x2 → Q (-1 : Int32) ν3))))))))))
theorem xt_X0_letter {κ : Cx} {S : Adr} {A : Nat → Prop} {Z : State → Prop} {Q : Int32 → XN → Prop} (h : XCx κ cX0_letter RX0 S A 6 0 0) (hT : (cxT κ).sig.returnType = some .int) (hN : (cxT κ).name = "letter") (hR : xRet κ S A 0 0 Z cX0_letter (pI Q)) {x1 : Int32} {x2 : Int32} {x3 : Int32} {ν : XN} (hw : xw_X0_letter x1 x2 x3 ν Q) : XG κ S A 0 0 Z 0 (ν, 0, 0) [some (.ref (S.2.1 0)), some (.int x1), some (.int x2), some (.int x3), none] [] := by
  unfold xw_X0_letter at hw
  refine g_iload_3 0 h.1 dX0_letter_0 ?_
  refine g_iconstv 1 _ ic_0 h.1 dX0_letter_1 ?_
  refine g_iconstv 2 _ ic_5 h.1 dX0_letter_2 ?_
  refine xcS_I_3 3 h (xm_X0_is h.2.2.1 hw) (by decide) (Nat.le_of_eq (Nat.zero_add _)) (Nat.le_of_eq (Nat.zero_add _)) q705 q1312 (Nat.le_of_ble_eq_true rfl) dX0_letter_3 (fun r2 ν1 hw => ?_)
  refine g_if_eq 6 22 h.1 dX0_letter_6 (by decide) (fun c => ?_) (fun c => ?_)
  · have hw := hw.1 c
    refine g_iconstv 22 _ ic_m1 h.1 dX0_letter_22 ?_
    exact hR.1 23 _ _ _ _ _ _ hT rfl dX0_letter_23 ⟨_, rfl, hw⟩
  · have hw := hw.2 c
    refine g_iload_1 9 h.1 dX0_letter_9 ?_
    refine g_iconstv 10 _ ic_0 h.1 dX0_letter_10 ?_
    refine g_iconstv 11 _ ic_1 h.1 dX0_letter_11 ?_
    refine xcS_I_3 12 h (xm_X0_is h.2.2.1 hw) (by decide) (Nat.le_of_eq (Nat.zero_add _)) (Nat.le_of_eq (Nat.zero_add _)) q705 q1312 (Nat.le_of_ble_eq_true rfl) dX0_letter_12 (fun r4 ν3 hw => ?_)
    refine g_if_eq 15 22 h.1 dX0_letter_15 (by decide) (fun c => ?_) (fun c => ?_)
    · have hw := hw.1 c
      refine g_iconstv 22 _ ic_m1 h.1 dX0_letter_22 ?_
      exact hR.1 23 _ _ _ _ _ _ hT rfl dX0_letter_23 ⟨_, rfl, hw⟩
    · have hw := hw.2 c
      refine g_iload_2 18 h.1 dX0_letter_18 ?_
      refine g_if_ge 19 24 h.1 dX0_letter_19 (by decide) (fun c => ?_) (fun c => ?_)
      · have hw := hw.1 c
        refine g_iload_1 24 h.1 dX0_letter_24 ?_
        refine g_if_ne 25 38 h.1 dX0_letter_25 (by decide) (fun c => ?_) (fun c => ?_)
        · have hw := hw.1 c
          refine g_aload_0 38 h.1 dX0_letter_38 ?_
          refine xg_X0_31_0 39 h dX0_letter_39 ?_
          obtain ⟨b5, e6, hw⟩ := hw
          rw [e6]
          obtain ⟨f7, hw⟩ := hw
          refine xg_X0_169_1 42 f7 h dX0_letter_42 ?_
          exact g_le (xt_X0_letter_45 h hT hN hR hw) ⟨rfl, rfl, trivial⟩
        · have hw := hw.2 c
          refine g_aload_0 28 h.1 dX0_letter_28 ?_
          refine xg_X0_31_0 29 h dX0_letter_29 ?_
          obtain ⟨b8, e9, hw⟩ := hw
          rw [e9]
          obtain ⟨f10, hw⟩ := hw
          refine xg_X0_160_1 32 f10 h dX0_letter_32 ?_
          refine g_goto 35 45 h.1 dX0_letter_35 (by decide) ?_
          exact g_le (xt_X0_letter_45 h hT hN hR hw) ⟨rfl, rfl, trivial⟩
      · have hw := hw.2 c
        refine g_iconstv 22 _ ic_m1 h.1 dX0_letter_22 ?_
        exact hR.1 23 _ _ _ _ _ _ hT rfl dX0_letter_23 ⟨_, rfl, hw⟩
theorem xm_X0_letter {l : Launch} {S : Adr} {A : Nat → Prop} (hD : FD xT S xcl A) {x1 : Int32} {x2 : Int32} {x3 : Int32} {ν : XN} {Q : Int32 → XN → Prop} (hw : xw_X0_letter x1 x2 x3 ν Q) : xMet l S A 6 0 0 3 yX0_letter [.ref (S.2.1 0), .int x1, .int x2, .int x3] ν (pI Q) :=
  x_met (plainFor_of_name (by decide)) hD ⟨⟨by decide, by decide, by show _ = some 3; decide +kernel⟩, by decide, q1316, q171⟩ (Nat.le_of_ble_eq_true rfl) (fun κ Z h hT hN hR => xt_X0_letter h hT hN hR hw)
def xw_X0_list (x1 : Int32) (x2 : Int32) (ν : XN) (Q : Int32 → XN → Prop) : Prop :=
  (∃ b1, fR ν.1 0 0 = .ref b1 ∧ (rc ν.2 b1 = 2 ∧ (∃ b4, (rO ν.2 b1 7) = some b4 ∧ (rc ν.2 b4 = 7 ∧ (xw_J2_size b4 ν (fun r7 ν6 => (xw_X0_is x1 (0 : Int32) (r7 - (1 : Int32)) ν6 (fun r10 ν9 => ((¬ r10 = 0 → (∃ b11, fR ν9.1 0 0 = .ref b11 ∧ (rc ν9.2 b11 = 2 ∧ (∃ b14, (rO ν9.2 b11 7) = some b14 ∧ (rc ν9.2 b14 = 7 ∧ (xw_J2_get b14 x1 ν9 (fun r17 ν16 => (∃ b19, r17 = some b19 ∧ ((rc ν16.2 b19 = 10) ∧ ((¬ x2 = 0 → ((¬ x2 = (1 : Int32) → Q (-1 : Int32) ν16) ∧ (x2 = (1 : Int32) → (rc ν16.2 b19 = 10 ∧ Q (rI ν16.2 b19 1) ν16)))) ∧ (x2 = 0 → (rc ν16.2 b19 = 10 ∧ Q (rI ν16.2 b19 0) ν16)))))))))))) ∧ (r10 = 0 → Q (-1 : Int32) ν9))))))))))
theorem xt_X0_list {κ : Cx} {S : Adr} {A : Nat → Prop} {Z : State → Prop} {Q : Int32 → XN → Prop} (h : XCx κ cX0_list RX0 S A 4 0 0) (hT : (cxT κ).sig.returnType = some .int) (hN : (cxT κ).name = "list") (hR : xRet κ S A 0 0 Z cX0_list (pI Q)) {x1 : Int32} {x2 : Int32} {ν : XN} (hw : xw_X0_list x1 x2 ν Q) : XG κ S A 0 0 Z 0 (ν, 0, 0) [some (.ref (S.2.1 0)), some (.int x1), some (.int x2), none] [] := by
  unfold xw_X0_list at hw
  refine g_iload_1 0 h.1 dX0_list_0 ?_
  refine g_iconstv 1 _ ic_0 h.1 dX0_list_1 ?_
  refine g_aload_0 2 h.1 dX0_list_2 ?_
  refine xg_X0_31_0 3 h dX0_list_3 ?_
  obtain ⟨b1, e2, hw⟩ := hw
  rw [e2]
  obtain ⟨f3, hw⟩ := hw
  refine xg_X0_188_1 6 f3 h dX0_list_6 ?_
  obtain ⟨b4, e5, hw⟩ := hw
  rw [e5]
  obtain ⟨f8, hw⟩ := hw
  refine xcF_I_0 9 h h.2.1.2.2.1.1 (xm_J2_size h.2.2.1 hw) (by decide) (Nat.le_of_eq (Nat.zero_add _)) (Nat.le_of_eq (Nat.zero_add _)) ⟨by decide, by decide, by show _ = some 0; decide +kernel⟩ q793 q791 f8 q1287 (Nat.le_of_ble_eq_true rfl) dX0_list_9 (fun r7 ν6 hw => ?_)
  refine g_iconstv 14 _ ic_1 h.1 dX0_list_14 ?_
  refine g_isub 15 h.1 dX0_list_15 ?_
  refine xcS_I_3 16 h (xm_X0_is h.2.2.1 hw) (by decide) (Nat.le_of_eq (Nat.zero_add _)) (Nat.le_of_eq (Nat.zero_add _)) q705 q1312 (Nat.le_of_ble_eq_true rfl) dX0_list_16 (fun r10 ν9 hw => ?_)
  refine g_if_ne 19 24 h.1 dX0_list_19 (by decide) (fun c => ?_) (fun c => ?_)
  · have hw := hw.1 c
    refine g_aload_0 24 h.1 dX0_list_24 ?_
    refine xg_X0_31_0 25 h dX0_list_25 ?_
    obtain ⟨b11, e12, hw⟩ := hw
    rw [e12]
    obtain ⟨f13, hw⟩ := hw
    refine xg_X0_188_1 28 f13 h dX0_list_28 ?_
    refine g_iload_1 31 h.1 dX0_list_31 ?_
    obtain ⟨b14, e15, hw⟩ := hw
    rw [e15]
    obtain ⟨f18, hw⟩ := hw
    refine xcF_O_1 32 h h.2.1.2.2.1.2.1 (xm_J2_get h.2.2.1 hw) (by decide) (Nat.le_of_eq (Nat.zero_add _)) (Nat.le_of_eq (Nat.zero_add _)) ⟨by decide, by decide, by show _ = some 1; decide +kernel⟩ q835 q833 f18 q1318 (Nat.le_of_ble_eq_true rfl) dX0_list_32 (fun r17 ν16 hw => ?_)
    obtain ⟨b19, e20, hw⟩ := hw
    rw [e20]
    obtain ⟨f21, hw⟩ := hw
    refine xcs_X0_225 37 f21 h dX0_list_37 ?_
    refine g_astore_3 40 h.1 rfl dX0_list_40 ?_
    refine g_iload_2 41 h.1 dX0_list_41 ?_
    refine g_if_ne 42 52 h.1 dX0_list_42 (by decide) (fun c => ?_) (fun c => ?_)
    · have hw := hw.1 c
      refine g_iload_2 52 h.1 dX0_list_52 ?_
      refine g_iconstv 53 _ ic_1 h.1 dX0_list_53 ?_
      refine g_icmp_ne 54 64 h.1 dX0_list_54 (by decide) (fun c => ?_) (fun c => ?_)
      · have hw := hw.1 c
        refine g_iconstv 64 _ ic_m1 h.1 dX0_list_64 ?_
        exact hR.1 65 _ _ _ _ _ _ hT rfl dX0_list_65 ⟨_, rfl, hw⟩
      · have hw := hw.2 c
        refine g_aload_3 57 h.1 dX0_list_57 ?_
        obtain ⟨f22, hw⟩ := hw
        refine xg_X0_230_9 58 f22 h dX0_list_58 ?_
        refine g_goto 61 65 h.1 dX0_list_61 (by decide) ?_
        exact hR.1 65 _ _ _ _ _ _ hT rfl dX0_list_65 ⟨_, rfl, hw⟩
    · have hw := hw.2 c
      refine g_aload_3 45 h.1 dX0_list_45 ?_
      obtain ⟨f23, hw⟩ := hw
      refine xg_X0_227_9 46 f23 h dX0_list_46 ?_
      refine g_goto 49 65 h.1 dX0_list_49 (by decide) ?_
      exact hR.1 65 _ _ _ _ _ _ hT rfl dX0_list_65 ⟨_, rfl, hw⟩
  · have hw := hw.2 c
    refine g_iconstv 22 _ ic_m1 h.1 dX0_list_22 ?_
    exact hR.1 23 _ _ _ _ _ _ hT rfl dX0_list_23 ⟨_, rfl, hw⟩
theorem xm_X0_list {l : Launch} {S : Adr} {A : Nat → Prop} (hD : FD xT S xcl A) {x1 : Int32} {x2 : Int32} {ν : XN} {Q : Int32 → XN → Prop} (hw : xw_X0_list x1 x2 ν Q) : xMet l S A 4 0 0 2 yX0_list [.ref (S.2.1 0), .int x1, .int x2] ν (pI Q) :=
  x_met (plainFor_of_name (by decide)) hD ⟨⟨by decide, by decide, by show _ = some 2; decide +kernel⟩, by decide, q1353, q171⟩ (Nat.le_of_ble_eq_true rfl) (fun κ Z h hT hN hR => xt_X0_list h hT hN hR hw)
def xw_X0_looked (VA : Nat → Nat → XN → (Int64 → XN → Prop) → Prop) (TA : Nat → Nat → XN → (Int32 → XN → Prop) → Prop) (x1 : Int32) (x2 : Int64) (ν : XN) (Q : Int64 → XN → Prop) : Prop :=
  (((lg_cmp x2 (0 : Int64)) < 0 → Q (0 : Int64) ν) ∧ (¬ (lg_cmp x2 (0 : Int64)) < 0 → (xw_X0_topics ν (fun r2 ν1 => (((lg_cmp x2 (Int32.toInt64 r2)) < 0 → ((¬ x1 = 0 → (xw_X5_copy 11 10 ν1 (fun r4 ν3 => (xoc r4 = 5 ∧ (xw_X5_lifts VA TA r4 (fI ν3.1 0 23) (Int64.toInt32 x2) ν3 (fun r6 ν5 => Q (Int32.toInt64 r6) ν5)))))) ∧ (x1 = 0 → (xok 1 (xft 10 6) ∧ (vp_in (fI ν1.1 0 23) (xlen (xft 10 6)) ∧ (xw_X0_has (fA ν1.1 (xft 10 6) (Int32.toNatClampNeg (fI ν1.1 0 23))) (Int64.toInt32 x2) ν1 (fun r11 ν10 => ((r11 = 0 → Q (0 : Int64) ν10) ∧ (¬ r11 = 0 → Q (1 : Int64) ν10))))))))) ∧ (¬ (lg_cmp x2 (Int32.toInt64 r2)) < 0 → Q (0 : Int64) ν1))))))
theorem xt_X0_looked {κ : Cx} {S : Adr} {A : Nat → Prop} {Z : State → Prop} {Q : Int64 → XN → Prop} {dV : Nat} {VA : Nat → Nat → XN → (Int64 → XN → Prop) → Prop} {TA : Nat → Nat → XN → (Int32 → XN → Prop) → Prop} (hV : HVT S A dV VA TA) (h : XCx κ cX0_looked RX0 S A (dV + 8) 0 0) (hT : (cxT κ).sig.returnType = some .long) (hN : (cxT κ).name = "looked") (hR : xRet κ S A 0 0 Z cX0_looked (pJ Q)) {x1 : Int32} {x2 : Int64} {ν : XN} (hw : xw_X0_looked VA TA x1 x2 ν Q) : XG κ S A 0 0 Z 0 (ν, 0, 0) [some (.ref (S.2.1 0)), some (.int x1), some (.long x2), none] [] := by
  unfold xw_X0_looked at hw
  refine g_lload_2 0 h.1 dX0_looked_0 ?_
  refine g_lconst 1 _ lc_0 h.1 dX0_looked_1 ?_
  refine g_lcmp 2 h.1 dX0_looked_2 ?_
  refine g_if_lt 3 16 h.1 dX0_looked_3 (by decide) (fun c => ?_) (fun c => ?_)
  · have hw := hw.1 c
    refine g_lconst 16 _ lc_0 h.1 dX0_looked_16 ?_
    exact hR.2.1 17 _ _ _ _ _ hT dX0_looked_17 ⟨_, rfl, hw⟩
  · have hw := hw.2 c
    refine g_lload_2 6 h.1 dX0_looked_6 ?_
    refine g_aload_0 7 h.1 dX0_looked_7 ?_
    refine xcV_I_0 8 h (xm_X0_topics h.2.2.1 hw) (by omega) (Nat.le_of_eq (Nat.zero_add _)) (Nat.le_of_eq (Nat.zero_add _)) q1301 qs39 (fun H hI => x_recvK h rfl rfl hI) q1299 (Nat.le_of_ble_eq_true rfl) dX0_looked_8 (fun r2 ν1 hw => ?_)
    refine g_i2l 11 h.1 dX0_looked_11 ?_
    refine g_lcmp 12 h.1 dX0_looked_12 ?_
    refine g_if_lt 13 18 h.1 dX0_looked_13 (by decide) (fun c => ?_) (fun c => ?_)
    · have hw := hw.1 c
      refine g_iload_1 18 h.1 dX0_looked_18 ?_
      refine g_if_ne 19 50 h.1 dX0_looked_19 (by decide) (fun c => ?_) (fun c => ?_)
      · have hw := hw.1 c
        refine g_aload_0 50 h.1 dX0_looked_50 ?_
        refine xg_X0_73_0 51 h dX0_looked_51 ?_
        refine g_aload_0 54 h.1 dX0_looked_54 ?_
        refine xg_X0_69_0 55 h dX0_looked_55 ?_
        refine xcV_K_1 58 h (xm_X5_copy h.2.2.1 hw) (by omega) (Nat.le_of_eq (Nat.zero_add _)) (Nat.le_of_eq (Nat.zero_add _)) q1436 q1437 (fun H hI => x_recvK h rfl rfl hI) q1435 (Nat.le_of_ble_eq_true rfl) dX0_looked_58 (fun r4 ν3 hw => ?_)
        refine g_aload_0 61 h.1 dX0_looked_61 ?_
        refine xg_X0_337_0 62 h dX0_looked_62 ?_
        refine g_lload_2 65 h.1 dX0_looked_65 ?_
        refine g_l2i 66 h.1 dX0_looked_66 ?_
        obtain ⟨f7, hw⟩ := hw
        refine xcV_I_2 67 h (xm_X5_lifts hV h.2.2.1 hw) (by omega) (Nat.le_of_eq (Nat.zero_add _)) (Nat.le_of_eq (Nat.zero_add _)) q1440 q1441 (fun H hI => x_recvK h f7 rfl hI) q1439 (Nat.le_of_ble_eq_true rfl) dX0_looked_67 (fun r6 ν5 hw => ?_)
        refine g_i2l 70 h.1 dX0_looked_70 ?_
        exact hR.2.1 71 _ _ _ _ _ hT dX0_looked_71 ⟨_, rfl, hw⟩
      · have hw := hw.2 c
        refine g_aload_0 22 h.1 dX0_looked_22 ?_
        refine xg_X0_69_0 23 h dX0_looked_23 ?_
        refine xg_X0_222_5 26 rfl h dX0_looked_26 ?_
        refine g_aload_0 29 h.1 dX0_looked_29 ?_
        refine xg_X0_337_0 30 h dX0_looked_30 ?_
        obtain ⟨f8, hw⟩ := hw
        obtain ⟨f9, hw⟩ := hw
        refine xa_iald 33 f8 f9 h dX0_looked_33 ?_
        refine g_lload_2 34 h.1 dX0_looked_34 ?_
        refine g_l2i 35 h.1 dX0_looked_35 ?_
        refine xcS_I_2 36 h (xm_X0_has h.2.2.1 hw) (by omega) (Nat.le_of_eq (Nat.zero_add _)) (Nat.le_of_eq (Nat.zero_add _)) q983 q1434 (Nat.le_of_ble_eq_true rfl) dX0_looked_36 (fun r11 ν10 hw => ?_)
        refine g_if_eq 39 46 h.1 dX0_looked_39 (by decide) (fun c => ?_) (fun c => ?_)
        · have hw := hw.1 c
          refine g_lconst 46 _ lc_0 h.1 dX0_looked_46 ?_
          refine g_goto 47 71 h.1 dX0_looked_47 (by decide) ?_
          exact hR.2.1 71 _ _ _ _ _ hT dX0_looked_71 ⟨_, rfl, hw⟩
        · have hw := hw.2 c
          refine g_lconst 42 _ lc_1 h.1 dX0_looked_42 ?_
          refine g_goto 43 71 h.1 dX0_looked_43 (by decide) ?_
          exact hR.2.1 71 _ _ _ _ _ hT dX0_looked_71 ⟨_, rfl, hw⟩
    · have hw := hw.2 c
      refine g_lconst 16 _ lc_0 h.1 dX0_looked_16 ?_
      exact hR.2.1 17 _ _ _ _ _ hT dX0_looked_17 ⟨_, rfl, hw⟩
theorem xm_X0_looked {l : Launch} {S : Adr} {A : Nat → Prop} {dV : Nat} {VA : Nat → Nat → XN → (Int64 → XN → Prop) → Prop} {TA : Nat → Nat → XN → (Int32 → XN → Prop) → Prop} (hV : HVT S A dV VA TA) (hD : FD xT S xcl A) {x1 : Int32} {x2 : Int64} {ν : XN} {Q : Int64 → XN → Prop} (hw : xw_X0_looked VA TA x1 x2 ν Q) : xMet l S A (dV + 8) 0 0 2 yX0_looked [.ref (S.2.1 0), .int x1, .long x2] ν (pJ Q) :=
  x_met (plainFor_of_name (by decide)) hD ⟨⟨by decide, by decide, by show _ = some 2; decide +kernel⟩, by decide, q1433, q171⟩ (Nat.le_of_ble_eq_true rfl) (fun κ Z h hT hN hR => xt_X0_looked hV h hT hN hR hw)
def xw_X0_lower_49 (X4 : Int32 → Int32 → Int32 → XN → Prop) (x1 : Int32) (x2 : Int32) (x3 : Int32) (ν : XN) (Q : Int32 → XN → Prop) : Prop :=
  X4 x1 x2 (x3 + 1) ν
theorem xt_X0_lower_49 {κ : Cx} {S : Adr} {A : Nat → Prop} {Z : State → Prop} {Q : Int32 → XN → Prop} (h : XCx κ cX0_lower RX0 S A 4 0 0) (hT : (cxT κ).sig.returnType = some .int) (hN : (cxT κ).name = "lower") (hR : xRet κ S A 0 0 Z cX0_lower (pI Q)) {X4 : Int32 → Int32 → Int32 → XN → Prop} (hX4 : ∀ (x1 : Int32) (x2 : Int32) (x3 : Int32) (ν : XN), X4 x1 x2 x3 ν → XG κ S A 0 0 Z 4 (ν, 0, 0) [some (.ref (S.2.1 0)), some (.int x1), some (.int x2), some (.int x3)] []) {x1 : Int32} {x2 : Int32} {x3 : Int32} {ν : XN} (hw : xw_X0_lower_49 X4 x1 x2 x3 ν Q) : XG κ S A 0 0 Z 49 (ν, 0, 0) [some (.ref (S.2.1 0)), some (.int x1), some (.int x2), some (.int x3)] [] := by
  unfold xw_X0_lower_49 at hw
  refine g_iinc_3 49 (x3 + 1) (congrArg _ ic_1) h.1 rfl dX0_lower_49 ?_
  refine g_goto 52 4 h.1 dX0_lower_52 (by decide) ?_
  exact g_le (hX4 _ _ _ _ hw) ⟨rfl, rfl, rfl, rfl, trivial⟩
def xw_X0_lower_4 (x1 : Int32) (x2 : Int32) (x3 : Int32) (ν : XN) (Q : Int32 → XN → Prop) : Prop :=
  ∀ X4 : Int32 → Int32 → Int32 → XN → Prop, (∀ (x1 : Int32) (x2 : Int32) (x3 : Int32) (ν : XN), (((64 : Int32) ≤ x3 → Q x2 ν) ∧ (¬ (64 : Int32) ≤ x3 → (xw_X0_isCell x3 ν (fun r2 ν1 => ((r2 = 0 → xw_X0_lower_49 X4 x1 x2 x3 ν1 Q) ∧ (¬ r2 = 0 → (xw_X0_areNext x3 x1 ν1 (fun r4 ν3 => ((r4 = 0 → xw_X0_lower_49 X4 x1 x2 x3 ν3 Q) ∧ (¬ r4 = 0 → (xok 1 (xft 10 3) ∧ (vp_in x3 (xlen (xft 10 3)) ∧ (xok 1 (xft 10 3) ∧ (vp_in x2 (xlen (xft 10 3)) ∧ (((fA ν3.1 (xft 10 3) (Int32.toNatClampNeg x2)) ≤ (fA ν3.1 (xft 10 3) (Int32.toNatClampNeg x3)) → xw_X0_lower_49 X4 x1 x2 x3 ν3 Q) ∧ (¬ (fA ν3.1 (xft 10 3) (Int32.toNatClampNeg x2)) ≤ (fA ν3.1 (xft 10 3) (Int32.toNatClampNeg x3)) → xw_X0_lower_49 X4 x1 x3 x3 ν3 Q)))))))))))))))) → X4 x1 x2 x3 ν) → X4 x1 x2 x3 ν
theorem xt_X0_lower_4 {κ : Cx} {S : Adr} {A : Nat → Prop} {Z : State → Prop} {Q : Int32 → XN → Prop} (h : XCx κ cX0_lower RX0 S A 4 0 0) (hT : (cxT κ).sig.returnType = some .int) (hN : (cxT κ).name = "lower") (hR : xRet κ S A 0 0 Z cX0_lower (pI Q)) {x1 : Int32} {x2 : Int32} {x3 : Int32} {ν : XN} (hw : xw_X0_lower_4 x1 x2 x3 ν Q) : XG κ S A 0 0 Z 4 (ν, 0, 0) [some (.ref (S.2.1 0)), some (.int x1), some (.int x2), some (.int x3)] [] := by
  refine hw (fun x1 x2 x3 ν => XG κ S A 0 0 Z 4 (ν, 0, 0) [some (.ref (S.2.1 0)), some (.int x1), some (.int x2), some (.int x3)] []) ?_
  clear hw
  intro x1 x2 x3 ν hw
  have hX4 : ∀ (x1 : Int32) (x2 : Int32) (x3 : Int32) (ν : XN), XG κ S A 0 0 Z 4 (ν, 0, 0) [some (.ref (S.2.1 0)), some (.int x1), some (.int x2), some (.int x3)] [] → XG κ S A 0 0 Z 4 (ν, 0, 0) [some (.ref (S.2.1 0)), some (.int x1), some (.int x2), some (.int x3)] [] := fun _ _ _ _ hh => hh
  refine g_iload_3 4 h.1 dX0_lower_4 ?_
  refine g_bipush 5 _ bp_64 h.1 dX0_lower_5 ?_
  refine g_icmp_ge 7 55 h.1 dX0_lower_7 (by decide) (fun c => ?_) (fun c => ?_)
  · have hw := hw.1 c
    refine g_iload_2 55 h.1 dX0_lower_55 ?_
    exact hR.1 56 _ _ _ _ _ _ hT rfl dX0_lower_56 ⟨_, rfl, hw⟩
  · have hw := hw.2 c
    refine g_aload_0 10 h.1 dX0_lower_10 ?_
    refine g_iload_3 11 h.1 dX0_lower_11 ?_
    refine xcV_I_1 12 h (xm_X0_isCell h.2.2.1 hw) (by decide) (Nat.le_of_eq (Nat.zero_add _)) (Nat.le_of_eq (Nat.zero_add _)) q1306 qs40 (fun H hI => x_recvK h rfl rfl hI) q1304 (Nat.le_of_ble_eq_true rfl) dX0_lower_12 (fun r2 ν1 hw => ?_)
    refine g_if_eq 15 49 h.1 dX0_lower_15 (by decide) (fun c => ?_) (fun c => ?_)
    · have hw := hw.1 c
      exact g_le (xt_X0_lower_49 h hT hN hR hX4 hw) ⟨rfl, rfl, rfl, rfl, trivial⟩
    · have hw := hw.2 c
      refine g_iload_3 18 h.1 dX0_lower_18 ?_
      refine g_iload_1 19 h.1 dX0_lower_19 ?_
      refine xcS_I_2 20 h (xm_X0_areNext h.2.2.1 hw) (by decide) (Nat.le_of_eq (Nat.zero_add _)) (Nat.le_of_eq (Nat.zero_add _)) q1566 q1565 (Nat.le_of_ble_eq_true rfl) dX0_lower_20 (fun r4 ν3 hw => ?_)
      refine g_if_eq 23 49 h.1 dX0_lower_23 (by decide) (fun c => ?_) (fun c => ?_)
      · have hw := hw.1 c
        exact g_le (xt_X0_lower_49 h hT hN hR hX4 hw) ⟨rfl, rfl, rfl, rfl, trivial⟩
      · have hw := hw.2 c
        refine g_aload_0 26 h.1 dX0_lower_26 ?_
        refine xg_X0_69_0 27 h dX0_lower_27 ?_
        refine xg_X0_198_5 30 rfl h dX0_lower_30 ?_
        refine g_iload_3 33 h.1 dX0_lower_33 ?_
        obtain ⟨f5, hw⟩ := hw
        obtain ⟨f6, hw⟩ := hw
        refine xa_iald 34 f5 f6 h dX0_lower_34 ?_
        refine g_aload_0 35 h.1 dX0_lower_35 ?_
        refine xg_X0_69_0 36 h dX0_lower_36 ?_
        refine xg_X0_198_5 39 rfl h dX0_lower_39 ?_
        refine g_iload_2 42 h.1 dX0_lower_42 ?_
        obtain ⟨f7, hw⟩ := hw
        obtain ⟨f8, hw⟩ := hw
        refine xa_iald 43 f7 f8 h dX0_lower_43 ?_
        refine g_icmp_ge 44 49 h.1 dX0_lower_44 (by decide) (fun c => ?_) (fun c => ?_)
        · have hw := hw.1 c
          exact g_le (xt_X0_lower_49 h hT hN hR hX4 hw) ⟨rfl, rfl, rfl, rfl, trivial⟩
        · have hw := hw.2 c
          refine g_iload_3 47 h.1 dX0_lower_47 ?_
          refine g_istore_2 48 h.1 rfl dX0_lower_48 ?_
          exact g_le (xt_X0_lower_49 h hT hN hR hX4 hw) ⟨rfl, rfl, rfl, rfl, trivial⟩
def xw_X0_lower (x1 : Int32) (ν : XN) (Q : Int32 → XN → Prop) : Prop :=
  xw_X0_lower_4 x1 x1 (0 : Int32) ν Q
theorem xt_X0_lower {κ : Cx} {S : Adr} {A : Nat → Prop} {Z : State → Prop} {Q : Int32 → XN → Prop} (h : XCx κ cX0_lower RX0 S A 4 0 0) (hT : (cxT κ).sig.returnType = some .int) (hN : (cxT κ).name = "lower") (hR : xRet κ S A 0 0 Z cX0_lower (pI Q)) {x1 : Int32} {ν : XN} (hw : xw_X0_lower x1 ν Q) : XG κ S A 0 0 Z 0 (ν, 0, 0) [some (.ref (S.2.1 0)), some (.int x1), none, none] [] := by
  unfold xw_X0_lower at hw
  refine g_iload_1 0 h.1 dX0_lower_0 ?_
  refine g_istore_2 1 h.1 rfl dX0_lower_1 ?_
  refine g_iconstv 2 _ ic_0 h.1 dX0_lower_2 ?_
  refine g_istore_3 3 h.1 rfl dX0_lower_3 ?_
  exact g_le (xt_X0_lower_4 h hT hN hR hw) ⟨rfl, rfl, rfl, rfl, trivial⟩
theorem xm_X0_lower {l : Launch} {S : Adr} {A : Nat → Prop} (hD : FD xT S xcl A) {x1 : Int32} {ν : XN} {Q : Int32 → XN → Prop} (hw : xw_X0_lower x1 ν Q) : xMet l S A 4 0 0 1 yX0_lower [.ref (S.2.1 0), .int x1] ν (pI Q) :=
  x_met (plainFor_of_name (by decide)) hD ⟨⟨by decide, by decide, by show _ = some 1; decide +kernel⟩, by decide, q1580, q171⟩ (Nat.le_of_ble_eq_true rfl) (fun κ Z h hT hN hR => xt_X0_lower h hT hN hR hw)
def xw_X0_mostBy_80 (X6 : Int32 → Int32 → Int32 → Int32 → Int32 → XN → Prop) (X21 : Int32 → Int32 → Int32 → Int32 → Int32 → Int32 → Int32 → XN → Prop) (x1 : Int32) (x2 : Int32) (x3 : Int32) (x4 : Int32) (x5 : Int32) (x7 : Int32) (y0 : Int32) (y1 : Int32) (ν : XN) (Q : Int32 → XN → Prop) : Prop :=
  X21 x1 x2 x3 x4 x5 (y1 + y0) (x7 + 1) ν
theorem xt_X0_mostBy_80 {κ : Cx} {S : Adr} {A : Nat → Prop} {Z : State → Prop} {Q : Int32 → XN → Prop} (h : XCx κ cX0_mostBy RX0 S A 3 0 0) (hT : (cxT κ).sig.returnType = some .int) (hN : (cxT κ).name = "mostBy") (hR : xRet κ S A 0 0 Z cX0_mostBy (pI Q)) {X6 : Int32 → Int32 → Int32 → Int32 → Int32 → XN → Prop} {X21 : Int32 → Int32 → Int32 → Int32 → Int32 → Int32 → Int32 → XN → Prop} (hX6 : ∀ (x1 : Int32) (x2 : Int32) (x3 : Int32) (x4 : Int32) (x5 : Int32) (ν : XN), X6 x1 x2 x3 x4 x5 ν → XG κ S A 0 0 Z 6 (ν, 0, 0) [some (.ref (S.2.1 0)), some (.int x1), some (.int x2), some (.int x3), some (.int x4), some (.int x5), none, none] []) (hX21 : ∀ (x1 : Int32) (x2 : Int32) (x3 : Int32) (x4 : Int32) (x5 : Int32) (x6 : Int32) (x7 : Int32) (ν : XN), X21 x1 x2 x3 x4 x5 x6 x7 ν → XG κ S A 0 0 Z 21 (ν, 0, 0) [some (.ref (S.2.1 0)), some (.int x1), some (.int x2), some (.int x3), some (.int x4), some (.int x5), some (.int x6), some (.int x7)] []) {x1 : Int32} {x2 : Int32} {x3 : Int32} {x4 : Int32} {x5 : Int32} {x7 : Int32} {y0 : Int32} {y1 : Int32} {ν : XN} (hw : xw_X0_mostBy_80 X6 X21 x1 x2 x3 x4 x5 x7 y0 y1 ν Q) : XG κ S A 0 0 Z 80 (ν, 0, 0) [some (.ref (S.2.1 0)), some (.int x1), some (.int x2), some (.int x3), some (.int x4), some (.int x5), none, some (.int x7)] [.int y0, .int y1] := by
  unfold xw_X0_mostBy_80 at hw
  refine g_iadd 80 h.1 dX0_mostBy_80 ?_
  refine g_istore_6 81 h.1 rfl dX0_mostBy_81 ?_
  refine g_iinc_7 83 (x7 + 1) (congrArg _ ic_1) h.1 rfl dX0_mostBy_83 ?_
  refine g_goto 86 21 h.1 dX0_mostBy_86 (by decide) ?_
  exact g_le (hX21 _ _ _ _ _ _ _ _ hw) ⟨rfl, rfl, rfl, rfl, rfl, rfl, rfl, rfl, trivial⟩
def xw_X0_mostBy_79 (X6 : Int32 → Int32 → Int32 → Int32 → Int32 → XN → Prop) (X21 : Int32 → Int32 → Int32 → Int32 → Int32 → Int32 → Int32 → XN → Prop) (x1 : Int32) (x2 : Int32) (x3 : Int32) (x4 : Int32) (x5 : Int32) (x7 : Int32) (y0 : Int32) (ν : XN) (Q : Int32 → XN → Prop) : Prop :=
  xw_X0_mostBy_80 X6 X21 x1 x2 x3 x4 x5 x7 (0 : Int32) y0 ν Q
theorem xt_X0_mostBy_79 {κ : Cx} {S : Adr} {A : Nat → Prop} {Z : State → Prop} {Q : Int32 → XN → Prop} (h : XCx κ cX0_mostBy RX0 S A 3 0 0) (hT : (cxT κ).sig.returnType = some .int) (hN : (cxT κ).name = "mostBy") (hR : xRet κ S A 0 0 Z cX0_mostBy (pI Q)) {X6 : Int32 → Int32 → Int32 → Int32 → Int32 → XN → Prop} {X21 : Int32 → Int32 → Int32 → Int32 → Int32 → Int32 → Int32 → XN → Prop} (hX6 : ∀ (x1 : Int32) (x2 : Int32) (x3 : Int32) (x4 : Int32) (x5 : Int32) (ν : XN), X6 x1 x2 x3 x4 x5 ν → XG κ S A 0 0 Z 6 (ν, 0, 0) [some (.ref (S.2.1 0)), some (.int x1), some (.int x2), some (.int x3), some (.int x4), some (.int x5), none, none] []) (hX21 : ∀ (x1 : Int32) (x2 : Int32) (x3 : Int32) (x4 : Int32) (x5 : Int32) (x6 : Int32) (x7 : Int32) (ν : XN), X21 x1 x2 x3 x4 x5 x6 x7 ν → XG κ S A 0 0 Z 21 (ν, 0, 0) [some (.ref (S.2.1 0)), some (.int x1), some (.int x2), some (.int x3), some (.int x4), some (.int x5), some (.int x6), some (.int x7)] []) {x1 : Int32} {x2 : Int32} {x3 : Int32} {x4 : Int32} {x5 : Int32} {x7 : Int32} {y0 : Int32} {ν : XN} (hw : xw_X0_mostBy_79 X6 X21 x1 x2 x3 x4 x5 x7 y0 ν Q) : XG κ S A 0 0 Z 79 (ν, 0, 0) [some (.ref (S.2.1 0)), some (.int x1), some (.int x2), some (.int x3), some (.int x4), some (.int x5), none, some (.int x7)] [.int y0] := by
  unfold xw_X0_mostBy_79 at hw
  refine g_iconstv 79 _ ic_0 h.1 dX0_mostBy_79 ?_
  exact g_le (xt_X0_mostBy_80 h hT hN hR hX6 hX21 hw) ⟨rfl, rfl, rfl, rfl, rfl, rfl, rfl, trivial⟩
def xw_X0_mostBy_21 (X6 : Int32 → Int32 → Int32 → Int32 → Int32 → XN → Prop) (x1 : Int32) (x2 : Int32) (x3 : Int32) (x4 : Int32) (x5 : Int32) (x6 : Int32) (x7 : Int32) (ν : XN) (Q : Int32 → XN → Prop) : Prop :=
  ∀ X21 : Int32 → Int32 → Int32 → Int32 → Int32 → Int32 → Int32 → XN → Prop, (∀ (x1 : Int32) (x2 : Int32) (x3 : Int32) (x4 : Int32) (x5 : Int32) (x6 : Int32) (x7 : Int32) (ν : XN), (xw_X0_people ν (fun r4 ν3 => ((r4 ≤ x7 → (xw_J12_max x4 x6 ν3 (fun r6 ν5 => X6 x1 x2 x3 r6 (x5 + 1) ν5))) ∧ (¬ r4 ≤ x7 → (xw_X0_has x1 x5 ν3 (fun r8 ν7 => ((r8 = 0 → xw_X0_mostBy_79 X6 X21 x1 x2 x3 x4 x5 x7 x6 ν7 Q) ∧ (¬ r8 = 0 → (xw_X0_has x1 x7 ν7 (fun r10 ν9 => ((r10 = 0 → xw_X0_mostBy_79 X6 X21 x1 x2 x3 x4 x5 x7 x6 ν9 Q) ∧ (¬ r10 = 0 → (vp_in x5 7 ∧ (xok 7 (fP ν9.1 9 (Int32.toNatClampNeg x5)) ∧ (vp_in x2 (xlen (fP ν9.1 9 (Int32.toNatClampNeg x5))) ∧ (xok 1 (fP ν9.1 (fP ν9.1 9 (Int32.toNatClampNeg x5)) (Int32.toNatClampNeg x2)) ∧ (vp_in x3 (xlen (fP ν9.1 (fP ν9.1 9 (Int32.toNatClampNeg x5)) (Int32.toNatClampNeg x2))) ∧ (vp_in x7 7 ∧ (xok 7 (fP ν9.1 9 (Int32.toNatClampNeg x7)) ∧ (vp_in x2 (xlen (fP ν9.1 9 (Int32.toNatClampNeg x7))) ∧ (xok 1 (fP ν9.1 (fP ν9.1 9 (Int32.toNatClampNeg x7)) (Int32.toNatClampNeg x2)) ∧ (vp_in x3 (xlen (fP ν9.1 (fP ν9.1 9 (Int32.toNatClampNeg x7)) (Int32.toNatClampNeg x2))) ∧ ((¬ (fA ν9.1 (fP ν9.1 (fP ν9.1 9 (Int32.toNatClampNeg x5)) (Int32.toNatClampNeg x2)) (Int32.toNatClampNeg x3)) = (fA ν9.1 (fP ν9.1 (fP ν9.1 9 (Int32.toNatClampNeg x7)) (Int32.toNatClampNeg x2)) (Int32.toNatClampNeg x3)) → xw_X0_mostBy_79 X6 X21 x1 x2 x3 x4 x5 x7 x6 ν9 Q) ∧ ((fA ν9.1 (fP ν9.1 (fP ν9.1 9 (Int32.toNatClampNeg x5)) (Int32.toNatClampNeg x2)) (Int32.toNatClampNeg x3)) = (fA ν9.1 (fP ν9.1 (fP ν9.1 9 (Int32.toNatClampNeg x7)) (Int32.toNatClampNeg x2)) (Int32.toNatClampNeg x3)) → xw_X0_mostBy_80 X6 X21 x1 x2 x3 x4 x5 x7 (1 : Int32) x6 ν9 Q)))))))))))))))))))))))) → X21 x1 x2 x3 x4 x5 x6 x7 ν) → X21 x1 x2 x3 x4 x5 x6 x7 ν
theorem xt_X0_mostBy_21 {κ : Cx} {S : Adr} {A : Nat → Prop} {Z : State → Prop} {Q : Int32 → XN → Prop} (h : XCx κ cX0_mostBy RX0 S A 3 0 0) (hT : (cxT κ).sig.returnType = some .int) (hN : (cxT κ).name = "mostBy") (hR : xRet κ S A 0 0 Z cX0_mostBy (pI Q)) {X6 : Int32 → Int32 → Int32 → Int32 → Int32 → XN → Prop} (hX6 : ∀ (x1 : Int32) (x2 : Int32) (x3 : Int32) (x4 : Int32) (x5 : Int32) (ν : XN), X6 x1 x2 x3 x4 x5 ν → XG κ S A 0 0 Z 6 (ν, 0, 0) [some (.ref (S.2.1 0)), some (.int x1), some (.int x2), some (.int x3), some (.int x4), some (.int x5), none, none] []) {x1 : Int32} {x2 : Int32} {x3 : Int32} {x4 : Int32} {x5 : Int32} {x6 : Int32} {x7 : Int32} {ν : XN} (hw : xw_X0_mostBy_21 X6 x1 x2 x3 x4 x5 x6 x7 ν Q) : XG κ S A 0 0 Z 21 (ν, 0, 0) [some (.ref (S.2.1 0)), some (.int x1), some (.int x2), some (.int x3), some (.int x4), some (.int x5), some (.int x6), some (.int x7)] [] := by
  refine hw (fun x1 x2 x3 x4 x5 x6 x7 ν => XG κ S A 0 0 Z 21 (ν, 0, 0) [some (.ref (S.2.1 0)), some (.int x1), some (.int x2), some (.int x3), some (.int x4), some (.int x5), some (.int x6), some (.int x7)] []) ?_
  clear hw
  intro x1 x2 x3 x4 x5 x6 x7 ν hw
  have hX21 : ∀ (x1 : Int32) (x2 : Int32) (x3 : Int32) (x4 : Int32) (x5 : Int32) (x6 : Int32) (x7 : Int32) (ν : XN), XG κ S A 0 0 Z 21 (ν, 0, 0) [some (.ref (S.2.1 0)), some (.int x1), some (.int x2), some (.int x3), some (.int x4), some (.int x5), some (.int x6), some (.int x7)] [] → XG κ S A 0 0 Z 21 (ν, 0, 0) [some (.ref (S.2.1 0)), some (.int x1), some (.int x2), some (.int x3), some (.int x4), some (.int x5), some (.int x6), some (.int x7)] [] := fun _ _ _ _ _ _ _ _ hh => hh
  refine g_iload_7 21 h.1 dX0_mostBy_21 ?_
  refine g_aload_0 23 h.1 dX0_mostBy_23 ?_
  refine xcV_I_0 24 h (xm_X0_people h.2.2.1 hw) (by decide) (Nat.le_of_eq (Nat.zero_add _)) (Nat.le_of_eq (Nat.zero_add _)) q1284 qs38 (fun H hI => x_recvK h rfl rfl hI) q1303 (Nat.le_of_ble_eq_true rfl) dX0_mostBy_24 (fun r4 ν3 hw => ?_)
  refine g_icmp_ge 27 89 h.1 dX0_mostBy_27 (by decide) (fun c => ?_) (fun c => ?_)
  · have hw := hw.1 c
    refine g_iload_4 89 h.1 dX0_mostBy_89 ?_
    refine g_iload_6 91 h.1 dX0_mostBy_91 ?_
    refine xcS_I_2 93 h (xm_J12_max h.2.2.1 hw) (by decide) (Nat.le_of_eq (Nat.zero_add _)) (Nat.le_of_eq (Nat.zero_add _)) q885 q1626 (Nat.le_of_ble_eq_true rfl) dX0_mostBy_93 (fun r6 ν5 hw => ?_)
    refine g_istore_4 96 h.1 rfl dX0_mostBy_96 ?_
    refine g_iinc_5 98 (x5 + 1) (congrArg _ ic_1) h.1 rfl dX0_mostBy_98 ?_
    refine g_goto 101 6 h.1 dX0_mostBy_101 (by decide) ?_
    exact g_le (hX6 _ _ _ _ _ _ hw) ⟨rfl, rfl, rfl, rfl, rfl, rfl, trivial⟩
  · have hw := hw.2 c
    refine g_iload_6 30 h.1 dX0_mostBy_30 ?_
    refine g_iload_1 32 h.1 dX0_mostBy_32 ?_
    refine g_iload_5 33 h.1 dX0_mostBy_33 ?_
    refine xcS_I_2 35 h (xm_X0_has h.2.2.1 hw) (by decide) (Nat.le_of_eq (Nat.zero_add _)) (Nat.le_of_eq (Nat.zero_add _)) q983 q1434 (Nat.le_of_ble_eq_true rfl) dX0_mostBy_35 (fun r8 ν7 hw => ?_)
    refine g_if_eq 38 79 h.1 dX0_mostBy_38 (by decide) (fun c => ?_) (fun c => ?_)
    · have hw := hw.1 c
      exact g_le (xt_X0_mostBy_79 h hT hN hR hX6 hX21 hw) ⟨rfl, rfl, rfl, rfl, rfl, rfl, rfl, trivial⟩
    · have hw := hw.2 c
      refine g_iload_1 41 h.1 dX0_mostBy_41 ?_
      refine g_iload_7 42 h.1 dX0_mostBy_42 ?_
      refine xcS_I_2 44 h (xm_X0_has h.2.2.1 hw) (by decide) (Nat.le_of_eq (Nat.zero_add _)) (Nat.le_of_eq (Nat.zero_add _)) q983 q1434 (Nat.le_of_ble_eq_true rfl) dX0_mostBy_44 (fun r10 ν9 hw => ?_)
      refine g_if_eq 47 79 h.1 dX0_mostBy_47 (by decide) (fun c => ?_) (fun c => ?_)
      · have hw := hw.1 c
        exact g_le (xt_X0_mostBy_79 h hT hN hR hX6 hX21 hw) ⟨rfl, rfl, rfl, rfl, rfl, rfl, rfl, trivial⟩
      · have hw := hw.2 c
        refine g_aload_0 50 h.1 dX0_mostBy_50 ?_
        refine xg_X0_102_0 51 h dX0_mostBy_51 ?_
        refine g_iload_5 54 h.1 dX0_mostBy_54 ?_
        obtain ⟨f11, hw⟩ := hw
        refine xa_aald8 56 rfl f11 h dX0_mostBy_56 ?_
        refine g_iload_2 57 h.1 dX0_mostBy_57 ?_
        obtain ⟨f12, hw⟩ := hw
        obtain ⟨f13, hw⟩ := hw
        refine xa_aald7 58 f12 f13 h dX0_mostBy_58 ?_
        refine g_iload_3 59 h.1 dX0_mostBy_59 ?_
        obtain ⟨f14, hw⟩ := hw
        obtain ⟨f15, hw⟩ := hw
        refine xa_iald 60 f14 f15 h dX0_mostBy_60 ?_
        refine g_aload_0 61 h.1 dX0_mostBy_61 ?_
        refine xg_X0_102_0 62 h dX0_mostBy_62 ?_
        refine g_iload_7 65 h.1 dX0_mostBy_65 ?_
        obtain ⟨f16, hw⟩ := hw
        refine xa_aald8 67 rfl f16 h dX0_mostBy_67 ?_
        refine g_iload_2 68 h.1 dX0_mostBy_68 ?_
        obtain ⟨f17, hw⟩ := hw
        obtain ⟨f18, hw⟩ := hw
        refine xa_aald7 69 f17 f18 h dX0_mostBy_69 ?_
        refine g_iload_3 70 h.1 dX0_mostBy_70 ?_
        obtain ⟨f19, hw⟩ := hw
        obtain ⟨f20, hw⟩ := hw
        refine xa_iald 71 f19 f20 h dX0_mostBy_71 ?_
        refine g_icmp_ne 72 79 h.1 dX0_mostBy_72 (by decide) (fun c => ?_) (fun c => ?_)
        · have hw := hw.1 c
          exact g_le (xt_X0_mostBy_79 h hT hN hR hX6 hX21 hw) ⟨rfl, rfl, rfl, rfl, rfl, rfl, rfl, trivial⟩
        · have hw := hw.2 c
          refine g_iconstv 75 _ ic_1 h.1 dX0_mostBy_75 ?_
          refine g_goto 76 80 h.1 dX0_mostBy_76 (by decide) ?_
          exact g_le (xt_X0_mostBy_80 h hT hN hR hX6 hX21 hw) ⟨rfl, rfl, rfl, rfl, rfl, rfl, rfl, trivial⟩
def xw_X0_mostBy_6 (x1 : Int32) (x2 : Int32) (x3 : Int32) (x4 : Int32) (x5 : Int32) (ν : XN) (Q : Int32 → XN → Prop) : Prop :=
  ∀ X6 : Int32 → Int32 → Int32 → Int32 → Int32 → XN → Prop, (∀ (x1 : Int32) (x2 : Int32) (x3 : Int32) (x4 : Int32) (x5 : Int32) (ν : XN), (xw_X0_people ν (fun r2 ν1 => ((r2 ≤ x5 → Q x4 ν1) ∧ (¬ r2 ≤ x5 → xw_X0_mostBy_21 X6 x1 x2 x3 x4 x5 (0 : Int32) (0 : Int32) ν1 Q)))) → X6 x1 x2 x3 x4 x5 ν) → X6 x1 x2 x3 x4 x5 ν
theorem xt_X0_mostBy_6 {κ : Cx} {S : Adr} {A : Nat → Prop} {Z : State → Prop} {Q : Int32 → XN → Prop} (h : XCx κ cX0_mostBy RX0 S A 3 0 0) (hT : (cxT κ).sig.returnType = some .int) (hN : (cxT κ).name = "mostBy") (hR : xRet κ S A 0 0 Z cX0_mostBy (pI Q)) {x1 : Int32} {x2 : Int32} {x3 : Int32} {x4 : Int32} {x5 : Int32} {ν : XN} (hw : xw_X0_mostBy_6 x1 x2 x3 x4 x5 ν Q) : XG κ S A 0 0 Z 6 (ν, 0, 0) [some (.ref (S.2.1 0)), some (.int x1), some (.int x2), some (.int x3), some (.int x4), some (.int x5), none, none] [] := by
  refine hw (fun x1 x2 x3 x4 x5 ν => XG κ S A 0 0 Z 6 (ν, 0, 0) [some (.ref (S.2.1 0)), some (.int x1), some (.int x2), some (.int x3), some (.int x4), some (.int x5), none, none] []) ?_
  clear hw
  intro x1 x2 x3 x4 x5 ν hw
  have hX6 : ∀ (x1 : Int32) (x2 : Int32) (x3 : Int32) (x4 : Int32) (x5 : Int32) (ν : XN), XG κ S A 0 0 Z 6 (ν, 0, 0) [some (.ref (S.2.1 0)), some (.int x1), some (.int x2), some (.int x3), some (.int x4), some (.int x5), none, none] [] → XG κ S A 0 0 Z 6 (ν, 0, 0) [some (.ref (S.2.1 0)), some (.int x1), some (.int x2), some (.int x3), some (.int x4), some (.int x5), none, none] [] := fun _ _ _ _ _ _ hh => hh
  refine g_iload_5 6 h.1 dX0_mostBy_6 ?_
  refine g_aload_0 8 h.1 dX0_mostBy_8 ?_
  refine xcV_I_0 9 h (xm_X0_people h.2.2.1 hw) (by decide) (Nat.le_of_eq (Nat.zero_add _)) (Nat.le_of_eq (Nat.zero_add _)) q1284 qs38 (fun H hI => x_recvK h rfl rfl hI) q1303 (Nat.le_of_ble_eq_true rfl) dX0_mostBy_9 (fun r2 ν1 hw => ?_)
  refine g_icmp_ge 12 104 h.1 dX0_mostBy_12 (by decide) (fun c => ?_) (fun c => ?_)
  · have hw := hw.1 c
    refine g_iload_4 104 h.1 dX0_mostBy_104 ?_
    exact hR.1 106 _ _ _ _ _ _ hT rfl dX0_mostBy_106 ⟨_, rfl, hw⟩
  · have hw := hw.2 c
    refine g_iconstv 15 _ ic_0 h.1 dX0_mostBy_15 ?_
    refine g_istore_6 16 h.1 rfl dX0_mostBy_16 ?_
    refine g_iconstv 18 _ ic_0 h.1 dX0_mostBy_18 ?_
    refine g_istore_7 19 h.1 rfl dX0_mostBy_19 ?_
    exact g_le (xt_X0_mostBy_21 h hT hN hR hX6 hw) ⟨rfl, rfl, rfl, rfl, rfl, rfl, rfl, rfl, trivial⟩
def xw_X0_mostBy (x1 : Int32) (x2 : Int32) (x3 : Int32) (ν : XN) (Q : Int32 → XN → Prop) : Prop :=
  xw_X0_mostBy_6 x1 x2 x3 (0 : Int32) (0 : Int32) ν Q
theorem xt_X0_mostBy {κ : Cx} {S : Adr} {A : Nat → Prop} {Z : State → Prop} {Q : Int32 → XN → Prop} (h : XCx κ cX0_mostBy RX0 S A 3 0 0) (hT : (cxT κ).sig.returnType = some .int) (hN : (cxT κ).name = "mostBy") (hR : xRet κ S A 0 0 Z cX0_mostBy (pI Q)) {x1 : Int32} {x2 : Int32} {x3 : Int32} {ν : XN} (hw : xw_X0_mostBy x1 x2 x3 ν Q) : XG κ S A 0 0 Z 0 (ν, 0, 0) [some (.ref (S.2.1 0)), some (.int x1), some (.int x2), some (.int x3), none, none, none, none] [] := by
  unfold xw_X0_mostBy at hw
  refine g_iconstv 0 _ ic_0 h.1 dX0_mostBy_0 ?_
  refine g_istore_4 1 h.1 rfl dX0_mostBy_1 ?_
  refine g_iconstv 3 _ ic_0 h.1 dX0_mostBy_3 ?_
  refine g_istore_5 4 h.1 rfl dX0_mostBy_4 ?_
  exact g_le (xt_X0_mostBy_6 h hT hN hR hw) ⟨rfl, rfl, rfl, rfl, rfl, rfl, trivial⟩
theorem xm_X0_mostBy {l : Launch} {S : Adr} {A : Nat → Prop} (hD : FD xT S xcl A) {x1 : Int32} {x2 : Int32} {x3 : Int32} {ν : XN} {Q : Int32 → XN → Prop} (hw : xw_X0_mostBy x1 x2 x3 ν Q) : xMet l S A 3 0 0 3 yX0_mostBy [.ref (S.2.1 0), .int x1, .int x2, .int x3] ν (pI Q) :=
  x_met (plainFor_of_name (by decide)) hD ⟨⟨by decide, by decide, by show _ = some 3; decide +kernel⟩, by decide, q1625, q171⟩ (Nat.le_of_ble_eq_true rfl) (fun κ Z h hT hN hR => xt_X0_mostBy h hT hN hR hw)
def xw_X0_octet (x1 : Int32) (ν : XN) (Q : Int32 → XN → Prop) : Prop :=
  ((x1 < 0 → Q (-1 : Int32) ν) ∧ (¬ x1 < 0 → ((x1 < (fI ν.1 0 25) → (vp_in x1 95 ∧ Q ((fA ν.1 11 (Int32.toNatClampNeg x1)) &&& (255 : Int32)) ν)) ∧ (¬ x1 < (fI ν.1 0 25) → Q (-1 : Int32) ν))))
theorem xt_X0_octet {κ : Cx} {S : Adr} {A : Nat → Prop} {Z : State → Prop} {Q : Int32 → XN → Prop} (h : XCx κ cX0_octet RX0 S A 1 0 0) (hT : (cxT κ).sig.returnType = some .int) (hN : (cxT κ).name = "octet") (hR : xRet κ S A 0 0 Z cX0_octet (pI Q)) {x1 : Int32} {ν : XN} (hw : xw_X0_octet x1 ν Q) : XG κ S A 0 0 Z 0 (ν, 0, 0) [some (.ref (S.2.1 0)), some (.int x1)] [] := by
  unfold xw_X0_octet at hw
  refine g_iload_1 0 h.1 dX0_octet_0 ?_
  refine g_if_lt 1 12 h.1 dX0_octet_1 (by decide) (fun c => ?_) (fun c => ?_)
  · have hw := hw.1 c
    refine g_iconstv 12 _ ic_m1 h.1 dX0_octet_12 ?_
    refine g_goto 13 26 h.1 dX0_octet_13 (by decide) ?_
    exact hR.1 26 _ _ _ _ _ _ hT rfl dX0_octet_26 ⟨_, rfl, hw⟩
  · have hw := hw.2 c
    refine g_iload_1 4 h.1 dX0_octet_4 ?_
    refine g_aload_0 5 h.1 dX0_octet_5 ?_
    refine xg_X0_363_0 6 h dX0_octet_6 ?_
    refine g_icmp_lt 9 16 h.1 dX0_octet_9 (by decide) (fun c => ?_) (fun c => ?_)
    · have hw := hw.1 c
      refine g_aload_0 16 h.1 dX0_octet_16 ?_
      refine xg_X0_112_0 17 h dX0_octet_17 ?_
      refine g_iload_1 20 h.1 dX0_octet_20 ?_
      obtain ⟨f1, hw⟩ := hw
      refine xa_bald 21 rfl f1 h dX0_octet_21 ?_
      refine g_sipush 22 _ sp_255 h.1 dX0_octet_22 ?_
      refine g_iand 25 h.1 dX0_octet_25 ?_
      exact hR.1 26 _ _ _ _ _ _ hT rfl dX0_octet_26 ⟨_, rfl, hw⟩
    · have hw := hw.2 c
      refine g_iconstv 12 _ ic_m1 h.1 dX0_octet_12 ?_
      refine g_goto 13 26 h.1 dX0_octet_13 (by decide) ?_
      exact hR.1 26 _ _ _ _ _ _ hT rfl dX0_octet_26 ⟨_, rfl, hw⟩
theorem xm_X0_octet {l : Launch} {S : Adr} {A : Nat → Prop} (hD : FD xT S xcl A) {x1 : Int32} {ν : XN} {Q : Int32 → XN → Prop} (hw : xw_X0_octet x1 ν Q) : xMet l S A 1 0 0 1 yX0_octet [.ref (S.2.1 0), .int x1] ν (pI Q) :=
  x_met (plainFor_of_name (by decide)) hD ⟨⟨by decide, by decide, by show _ = some 1; decide +kernel⟩, by decide, q1735, q171⟩ (Nat.le_of_ble_eq_true rfl) (fun κ Z h hT hN hR => xt_X0_octet h hT hN hR hw)
def xw_X0_taken (ν : XN) (Q : Int32 → XN → Prop) : Prop :=
  (∀ ν1, ν1 = (sI ν.1 0 2 (0 : Int32), ν.2) → Q (fI ν.1 0 2) ν1)
theorem xt_X0_taken {κ : Cx} {S : Adr} {A : Nat → Prop} {Z : State → Prop} {Q : Int32 → XN → Prop} (h : XCx κ cX0_taken RX0 S A 1 0 0) (hT : (cxT κ).sig.returnType = some .int) (hN : (cxT κ).name = "taken") (hR : xRet κ S A 0 0 Z cX0_taken (pI Q)) {ν : XN} (hw : xw_X0_taken ν Q) : XG κ S A 0 0 Z 0 (ν, 0, 0) [some (.ref (S.2.1 0)), none] [] := by
  unfold xw_X0_taken at hw
  refine g_aload_0 0 h.1 dX0_taken_0 ?_
  refine xg_X0_115_0 1 h dX0_taken_1 ?_
  refine g_istore_1 4 h.1 rfl dX0_taken_4 ?_
  refine g_aload_0 5 h.1 dX0_taken_5 ?_
  refine g_iconstv 6 _ ic_0 h.1 dX0_taken_6 ?_
  refine xp_X0_115_0 7 h dX0_taken_7 (fun ν1 e2 => ?_)
  have hw := hw ν1 e2
  refine g_iload_1 10 h.1 dX0_taken_10 ?_
  exact hR.1 11 _ _ _ _ _ _ hT rfl dX0_taken_11 ⟨_, rfl, hw⟩
theorem xm_X0_taken {l : Launch} {S : Adr} {A : Nat → Prop} (hD : FD xT S xcl A) {ν : XN} {Q : Int32 → XN → Prop} (hw : xw_X0_taken ν Q) : xMet l S A 1 0 0 0 yX0_taken [.ref (S.2.1 0)] ν (pI Q) :=
  x_met (plainFor_of_name (by decide)) hD ⟨⟨by decide, by decide, by show _ = some 0; decide +kernel⟩, by decide, q577, q171⟩ (Nat.le_of_ble_eq_true rfl) (fun κ Z h hT hN hR => xt_X0_taken h hT hN hR hw)
def xw_X0_on (ν : XN) (Q : Int32 → XN → Prop) : Prop :=
  (xw_X0_taken ν (fun r2 ν1 => (xw_X0_comesOn r2 ν1 (fun r4 ν3 => ((¬ r4 = 0 → (xw_X5_copy 10 11 ν3 (fun r6 ν5 => (∀ ν7, ν7 = (sI ν5.1 0 21 (0 : Int32), ν5.2) → Q (1 : Int32) ν7)))) ∧ (r4 = 0 → (xw_X0_refuses (5 : Int32) ν3 (fun r10 ν9 => ((r10 < 0 → Q (0 : Int32) ν9) ∧ (¬ r10 < 0 → Q (1 : Int32) ν9))))))))))
theorem xt_X0_on {κ : Cx} {S : Adr} {A : Nat → Prop} {Z : State → Prop} {Q : Int32 → XN → Prop} (h : XCx κ cX0_on RX0 S A 5 0 0) (hT : (cxT κ).sig.returnType = some .boolean) (hN : (cxT κ).name = "on") (hR : xRet κ S A 0 0 Z cX0_on (pI Q)) {ν : XN} (hw : xw_X0_on ν Q) : XG κ S A 0 0 Z 0 (ν, 0, 0) [some (.ref (S.2.1 0))] [] := by
  unfold xw_X0_on at hw
  refine g_aload_0 0 h.1 dX0_on_0 ?_
  refine g_aload_0 1 h.1 dX0_on_1 ?_
  refine xcV_I_0 2 h (xm_X0_taken h.2.2.1 hw) (by decide) (Nat.le_of_eq (Nat.zero_add _)) (Nat.le_of_eq (Nat.zero_add _)) q576 qs3 (fun H hI => x_recvK h rfl rfl hI) q574 (Nat.le_of_ble_eq_true rfl) dX0_on_2 (fun r2 ν1 hw => ?_)
  refine xcV_I_1 5 h (xm_X0_comesOn h.2.2.1 hw) (by decide) (Nat.le_of_eq (Nat.zero_add _)) (Nat.le_of_eq (Nat.zero_add _)) q1742 qs65 (fun H hI => x_recvK h rfl rfl hI) q1740 (Nat.le_of_ble_eq_true rfl) dX0_on_5 (fun r4 ν3 hw => ?_)
  refine g_if_ne 8 25 h.1 dX0_on_8 (by decide) (fun c => ?_) (fun c => ?_)
  · have hw := hw.1 c
    refine g_aload_0 25 h.1 dX0_on_25 ?_
    refine xg_X0_69_0 26 h dX0_on_26 ?_
    refine g_aload_0 29 h.1 dX0_on_29 ?_
    refine xg_X0_73_0 30 h dX0_on_30 ?_
    refine xcV_K_1 33 h (xm_X5_copy h.2.2.1 hw) (by decide) (Nat.le_of_eq (Nat.zero_add _)) (Nat.le_of_eq (Nat.zero_add _)) q1436 q1437 (fun H hI => x_recvK h rfl rfl hI) q1435 (Nat.le_of_ble_eq_true rfl) dX0_on_33 (fun r6 ν5 hw => ?_)
    refine g_pop 36 rfl h.1 dX0_on_36 ?_
    refine g_aload_0 37 h.1 dX0_on_37 ?_
    refine g_iconstv 38 _ ic_0 h.1 dX0_on_38 ?_
    refine xp_X0_148_0 39 h dX0_on_39 (fun ν7 e8 => ?_)
    have hw := hw ν7 e8
    refine g_iconstv 42 _ ic_1 h.1 dX0_on_42 ?_
    exact hR.1 43 _ _ _ _ _ _ hT rfl dX0_on_43 ⟨_, rfl, hw⟩
  · have hw := hw.2 c
    refine g_aload_0 11 h.1 dX0_on_11 ?_
    refine g_iconstv 12 _ ic_5 h.1 dX0_on_12 ?_
    refine xcV_I_1 13 h (xm_X0_refuses h.2.2.1 hw) (by decide) (Nat.le_of_eq (Nat.zero_add _)) (Nat.le_of_eq (Nat.zero_add _)) q559 qs1 (fun H hI => x_recvK h rfl rfl hI) q557 (Nat.le_of_ble_eq_true rfl) dX0_on_13 (fun r10 ν9 hw => ?_)
    refine g_if_lt 16 23 h.1 dX0_on_16 (by decide) (fun c => ?_) (fun c => ?_)
    · have hw := hw.1 c
      refine g_iconstv 23 _ ic_0 h.1 dX0_on_23 ?_
      exact hR.1 24 _ _ _ _ _ _ hT rfl dX0_on_24 ⟨_, rfl, hw⟩
    · have hw := hw.2 c
      refine g_iconstv 19 _ ic_1 h.1 dX0_on_19 ?_
      refine g_goto 20 24 h.1 dX0_on_20 (by decide) ?_
      exact hR.1 24 _ _ _ _ _ _ hT rfl dX0_on_24 ⟨_, rfl, hw⟩
theorem xm_X0_on {l : Launch} {S : Adr} {A : Nat → Prop} (hD : FD xT S xcl A) {ν : XN} {Q : Int32 → XN → Prop} (hw : xw_X0_on ν Q) : xMet l S A 5 0 0 0 yX0_on [.ref (S.2.1 0)] ν (pI Q) :=
  x_met (plainFor_of_name (by decide)) hD ⟨⟨by decide, by decide, by show _ = some 0; decide +kernel⟩, by decide, q1739, q171⟩ (Nat.le_of_ble_eq_true rfl) (fun κ Z h hT hN hR => xt_X0_on h hT hN hR hw)
def xw_X0_person (x1 : Int32) (x2 : Int32) (ν : XN) (Q : Int32 → XN → Prop) : Prop :=
  (xw_X0_isPerson x1 ν (fun r2 ν1 => ((¬ r2 = 0 → ((x2 = 0 → (xok 1 (xft 10 4) ∧ (vp_in x1 (xlen (xft 10 4)) ∧ Q ((fA ν1.1 (xft 10 4) (Int32.toNatClampNeg x1)) - (fA ν1.1 (xft 10 4) (Int32.toNatClampNeg x1)) / (8 : Int32) * (8 : Int32)) ν1))) ∧ (¬ x2 = 0 → ((x2 = 1 → (xok 1 (xft 10 4) ∧ (vp_in x1 (xlen (xft 10 4)) ∧ Q ((fA ν1.1 (xft 10 4) (Int32.toNatClampNeg x1)) / (8 : Int32)) ν1))) ∧ (¬ x2 = 1 → ((x2 = 2 → (xok 1 (xft 10 5) ∧ (vp_in x1 (xlen (xft 10 5)) ∧ Q (fA ν1.1 (xft 10 5) (Int32.toNatClampNeg x1)) ν1))) ∧ (¬ x2 = 2 → ((x2 = 3 → (xok 1 (xft 10 6) ∧ (vp_in x1 (xlen (xft 10 6)) ∧ Q (fA ν1.1 (xft 10 6) (Int32.toNatClampNeg x1)) ν1))) ∧ (¬ x2 = 3 → Q (-1 : Int32) ν1))))))))) ∧ (r2 = 0 → Q (-1 : Int32) ν1))))
theorem xt_X0_person {κ : Cx} {S : Adr} {A : Nat → Prop} {Z : State → Prop} {Q : Int32 → XN → Prop} (h : XCx κ cX0_person RX0 S A 4 0 0) (hT : (cxT κ).sig.returnType = some .int) (hN : (cxT κ).name = "person") (hR : xRet κ S A 0 0 Z cX0_person (pI Q)) {x1 : Int32} {x2 : Int32} {ν : XN} (hw : xw_X0_person x1 x2 ν Q) : XG κ S A 0 0 Z 0 (ν, 0, 0) [some (.ref (S.2.1 0)), some (.int x1), some (.int x2)] [] := by
  unfold xw_X0_person at hw
  refine g_aload_0 0 h.1 dX0_person_0 ?_
  refine g_iload_1 1 h.1 dX0_person_1 ?_
  refine xcV_I_1 2 h (xm_X0_isPerson h.2.2.1 hw) (by decide) (Nat.le_of_eq (Nat.zero_add _)) (Nat.le_of_eq (Nat.zero_add _)) q1348 qs42 (fun H hI => x_recvK h rfl rfl hI) q1346 (Nat.le_of_ble_eq_true rfl) dX0_person_2 (fun r2 ν1 hw => ?_)
  refine g_if_ne 5 10 h.1 dX0_person_5 (by decide) (fun c => ?_) (fun c => ?_)
  · have hw := hw.1 c
    refine g_iload_2 10 h.1 dX0_person_10 ?_
    rcases Classical.em (x2 = 0) with c0 | c0
    · have hw := hw.1 c0
      refine g_tabIn 11 40 29 h.1 dX0_person_11 (by rw [c0]; decide) (by rw [c0]; decide) (by rw [c0]; decide) (by decide) ?_
      refine g_aload_0 40 h.1 dX0_person_40 ?_
      refine xg_X0_69_0 41 h dX0_person_41 ?_
      refine xg_X0_216_5 44 rfl h dX0_person_44 ?_
      refine g_iload_1 47 h.1 dX0_person_47 ?_
      obtain ⟨f3, hw⟩ := hw
      obtain ⟨f4, hw⟩ := hw
      refine xa_iald 48 f3 f4 h dX0_person_48 ?_
      refine g_bipush 49 _ bp_8 h.1 dX0_person_49 ?_
      refine g_irem 51 (by decide) h.1 dX0_person_51 ?_
      exact hR.1 52 _ _ _ _ _ _ hT rfl dX0_person_52 ⟨_, rfl, hw⟩
    · have hw := hw.2 c0
      rcases Classical.em (x2 = 1) with c1 | c1
      · have hw := hw.1 c1
        refine g_tabIn 11 53 42 h.1 dX0_person_11 (by rw [c1]; decide) (by rw [c1]; decide) (by rw [c1]; decide) (by decide) ?_
        refine g_aload_0 53 h.1 dX0_person_53 ?_
        refine xg_X0_69_0 54 h dX0_person_54 ?_
        refine xg_X0_216_5 57 rfl h dX0_person_57 ?_
        refine g_iload_1 60 h.1 dX0_person_60 ?_
        obtain ⟨f5, hw⟩ := hw
        obtain ⟨f6, hw⟩ := hw
        refine xa_iald 61 f5 f6 h dX0_person_61 ?_
        refine g_bipush 62 _ bp_8 h.1 dX0_person_62 ?_
        refine g_idiv 64 (by decide) h.1 dX0_person_64 ?_
        exact hR.1 65 _ _ _ _ _ _ hT rfl dX0_person_65 ⟨_, rfl, hw⟩
      · have hw := hw.2 c1
        rcases Classical.em (x2 = 2) with c2 | c2
        · have hw := hw.1 c2
          refine g_tabIn 11 66 55 h.1 dX0_person_11 (by rw [c2]; decide) (by rw [c2]; decide) (by rw [c2]; decide) (by decide) ?_
          refine g_aload_0 66 h.1 dX0_person_66 ?_
          refine xg_X0_69_0 67 h dX0_person_67 ?_
          refine xg_X0_219_5 70 rfl h dX0_person_70 ?_
          refine g_iload_1 73 h.1 dX0_person_73 ?_
          obtain ⟨f7, hw⟩ := hw
          obtain ⟨f8, hw⟩ := hw
          refine xa_iald 74 f7 f8 h dX0_person_74 ?_
          exact hR.1 75 _ _ _ _ _ _ hT rfl dX0_person_75 ⟨_, rfl, hw⟩
        · have hw := hw.2 c2
          rcases Classical.em (x2 = 3) with c3 | c3
          · have hw := hw.1 c3
            refine g_tabIn 11 76 65 h.1 dX0_person_11 (by rw [c3]; decide) (by rw [c3]; decide) (by rw [c3]; decide) (by decide) ?_
            refine g_aload_0 76 h.1 dX0_person_76 ?_
            refine xg_X0_69_0 77 h dX0_person_77 ?_
            refine xg_X0_222_5 80 rfl h dX0_person_80 ?_
            refine g_iload_1 83 h.1 dX0_person_83 ?_
            obtain ⟨f9, hw⟩ := hw
            obtain ⟨f10, hw⟩ := hw
            refine xa_iald 84 f9 f10 h dX0_person_84 ?_
            exact hR.1 85 _ _ _ _ _ _ hT rfl dX0_person_85 ⟨_, rfl, hw⟩
          · have hw := hw.2 c3
            refine g_tabOut 11 86 h.1 dX0_person_11 (tabOut_0_3 c0 c1 c2 c3) (by decide) ?_
            refine g_iconstv 86 _ ic_m1 h.1 dX0_person_86 ?_
            exact hR.1 87 _ _ _ _ _ _ hT rfl dX0_person_87 ⟨_, rfl, hw⟩
  · have hw := hw.2 c
    refine g_iconstv 8 _ ic_m1 h.1 dX0_person_8 ?_
    exact hR.1 9 _ _ _ _ _ _ hT rfl dX0_person_9 ⟨_, rfl, hw⟩
theorem xm_X0_person {l : Launch} {S : Adr} {A : Nat → Prop} (hD : FD xT S xcl A) {x1 : Int32} {x2 : Int32} {ν : XN} {Q : Int32 → XN → Prop} (hw : xw_X0_person x1 x2 ν Q) : xMet l S A 4 0 0 2 yX0_person [.ref (S.2.1 0), .int x1, .int x2] ν (pI Q) :=
  x_met (plainFor_of_name (by decide)) hD ⟨⟨by decide, by decide, by show _ = some 2; decide +kernel⟩, by decide, q1345, q171⟩ (Nat.le_of_ble_eq_true rfl) (fun κ Z h hT hN hR => xt_X0_person h hT hN hR hw)
def xw_X0_plan_45 (VA : Nat → Nat → XN → (Int64 → XN → Prop) → Prop) (TA : Nat → Nat → XN → (Int32 → XN → Prop) → Prop) (SF : Int32 → Int32 → Int32 → Int32 → Int32 → XN → (Int32 → XN → Prop) → Prop) (x1 : Int32) (x2 : Int32) (x3 : Int32) (x4 : Int32) (x5 : Int32) (ν : XN) (Q : Int32 → XN → Prop) : Prop :=
  ∀ X45 : Int32 → Int32 → Int32 → Int32 → Int32 → XN → Prop, (∀ (x1 : Int32) (x2 : Int32) (x3 : Int32) (x4 : Int32) (x5 : Int32) (ν : XN), (((3 : Int32) < x5 → Q (-1 : Int32) ν) ∧ (¬ (3 : Int32) < x5 → (SF x1 x2 x3 (0 : Int32) x5 ν (fun r12 ν11 => ((r12 = 0 → X45 x1 x2 x3 x4 (x5 + 1) ν11) ∧ (¬ r12 = 0 → ((¬ x4 = (-1 : Int32) → (xw_X0_is x4 (0 : Int32) (x5 - (1 : Int32)) ν11 (fun r14 ν13 => ((r14 = 0 → Q (-1 : Int32) ν13) ∧ (¬ r14 = 0 → (vp_in x4 3 ∧ Q (fA ν13.1 3 (Int32.toNatClampNeg x4)) ν13)))))) ∧ (x4 = (-1 : Int32) → Q x5 ν11)))))))) → X45 x1 x2 x3 x4 x5 ν) → X45 x1 x2 x3 x4 x5 ν
theorem xt_X0_plan_45 {κ : Cx} {S : Adr} {A : Nat → Prop} {Z : State → Prop} {Q : Int32 → XN → Prop} {dV : Nat} {VA : Nat → Nat → XN → (Int64 → XN → Prop) → Prop} {TA : Nat → Nat → XN → (Int32 → XN → Prop) → Prop} (hV : HVT S A dV VA TA) {dS : Nat} {SF : Int32 → Int32 → Int32 → Int32 → Int32 → XN → (Int32 → XN → Prop) → Prop} (hSF : ∀ l x1 x2 x3 x4 x5 ν Q, SF x1 x2 x3 x4 x5 ν Q → xMet l S A dS 0 0 5 yX0_plans [.ref (S.2.1 0), .int x1, .int x2, .int x3, .int x4, .int x5] ν (pI Q)) (h : XCx κ cX0_plan RX0 S A (dV + dS + 4) 0 0) (hT : (cxT κ).sig.returnType = some .int) (hN : (cxT κ).name = "plan") (hR : xRet κ S A 0 0 Z cX0_plan (pI Q)) {x1 : Int32} {x2 : Int32} {x3 : Int32} {x4 : Int32} {x5 : Int32} {ν : XN} (hw : xw_X0_plan_45 VA TA SF x1 x2 x3 x4 x5 ν Q) : XG κ S A 0 0 Z 45 (ν, 0, 0) [some (.ref (S.2.1 0)), some (.int x1), some (.int x2), some (.int x3), some (.int x4), some (.int x5)] [] := by
  refine hw (fun x1 x2 x3 x4 x5 ν => XG κ S A 0 0 Z 45 (ν, 0, 0) [some (.ref (S.2.1 0)), some (.int x1), some (.int x2), some (.int x3), some (.int x4), some (.int x5)] []) ?_
  clear hw
  intro x1 x2 x3 x4 x5 ν hw
  have hX45 : ∀ (x1 : Int32) (x2 : Int32) (x3 : Int32) (x4 : Int32) (x5 : Int32) (ν : XN), XG κ S A 0 0 Z 45 (ν, 0, 0) [some (.ref (S.2.1 0)), some (.int x1), some (.int x2), some (.int x3), some (.int x4), some (.int x5)] [] → XG κ S A 0 0 Z 45 (ν, 0, 0) [some (.ref (S.2.1 0)), some (.int x1), some (.int x2), some (.int x3), some (.int x4), some (.int x5)] [] := fun _ _ _ _ _ _ hh => hh
  refine g_iload_5 45 h.1 dX0_plan_45 ?_
  refine g_iconstv 47 _ ic_3 h.1 dX0_plan_47 ?_
  refine g_icmp_gt 48 106 h.1 dX0_plan_48 (by decide) (fun c => ?_) (fun c => ?_)
  · have hw := hw.1 c
    refine g_iconstv 106 _ ic_m1 h.1 dX0_plan_106 ?_
    exact hR.1 107 _ _ _ _ _ _ hT rfl dX0_plan_107 ⟨_, rfl, hw⟩
  · have hw := hw.2 c
    refine g_aload_0 51 h.1 dX0_plan_51 ?_
    refine g_iload_1 52 h.1 dX0_plan_52 ?_
    refine g_iload_2 53 h.1 dX0_plan_53 ?_
    refine g_iload_3 54 h.1 dX0_plan_54 ?_
    refine g_iconstv 55 _ ic_0 h.1 dX0_plan_55 ?_
    refine g_iload_5 56 h.1 dX0_plan_56 ?_
    refine xcV_I_5 58 h (hSF _ _ _ _ _ _ _ _ hw) (by omega) (Nat.le_of_eq (Nat.zero_add _)) (Nat.le_of_eq (Nat.zero_add _)) q1553 qs53 (fun H hI => x_recvK h rfl rfl hI) q1551 (Nat.le_of_ble_eq_true rfl) dX0_plan_58 (fun r12 ν11 hw => ?_)
    refine g_if_eq 61 100 h.1 dX0_plan_61 (by decide) (fun c => ?_) (fun c => ?_)
    · have hw := hw.1 c
      refine g_iinc_5 100 (x5 + 1) (congrArg _ ic_1) h.1 rfl dX0_plan_100 ?_
      refine g_goto 103 45 h.1 dX0_plan_103 (by decide) ?_
      exact g_le (hX45 _ _ _ _ _ _ hw) ⟨rfl, rfl, rfl, rfl, rfl, rfl, trivial⟩
    · have hw := hw.2 c
      refine g_iload_4 64 h.1 dX0_plan_64 ?_
      refine g_iconstv 66 _ ic_m1 h.1 dX0_plan_66 ?_
      refine g_icmp_ne 67 75 h.1 dX0_plan_67 (by decide) (fun c => ?_) (fun c => ?_)
      · have hw := hw.1 c
        refine g_iload_4 75 h.1 dX0_plan_75 ?_
        refine g_iconstv 77 _ ic_0 h.1 dX0_plan_77 ?_
        refine g_iload_5 78 h.1 dX0_plan_78 ?_
        refine g_iconstv 80 _ ic_1 h.1 dX0_plan_80 ?_
        refine g_isub 81 h.1 dX0_plan_81 ?_
        refine xcS_I_3 82 h (xm_X0_is h.2.2.1 hw) (by omega) (Nat.le_of_eq (Nat.zero_add _)) (Nat.le_of_eq (Nat.zero_add _)) q705 q1312 (Nat.le_of_ble_eq_true rfl) dX0_plan_82 (fun r14 ν13 hw => ?_)
        refine g_if_eq 85 98 h.1 dX0_plan_85 (by decide) (fun c => ?_) (fun c => ?_)
        · have hw := hw.1 c
          refine g_iconstv 98 _ ic_m1 h.1 dX0_plan_98 ?_
          exact hR.1 99 _ _ _ _ _ _ hT rfl dX0_plan_99 ⟨_, rfl, hw⟩
        · have hw := hw.2 c
          refine g_aload_0 88 h.1 dX0_plan_88 ?_
          refine xg_X0_80_0 89 h dX0_plan_89 ?_
          refine g_iload_4 92 h.1 dX0_plan_92 ?_
          obtain ⟨f15, hw⟩ := hw
          refine xa_iald 94 rfl f15 h dX0_plan_94 ?_
          refine g_goto 95 99 h.1 dX0_plan_95 (by decide) ?_
          exact hR.1 99 _ _ _ _ _ _ hT rfl dX0_plan_99 ⟨_, rfl, hw⟩
      · have hw := hw.2 c
        refine g_iload_5 70 h.1 dX0_plan_70 ?_
        refine g_goto 72 99 h.1 dX0_plan_72 (by decide) ?_
        exact hR.1 99 _ _ _ _ _ _ hT rfl dX0_plan_99 ⟨_, rfl, hw⟩
def xw_X0_plan (VA : Nat → Nat → XN → (Int64 → XN → Prop) → Prop) (TA : Nat → Nat → XN → (Int32 → XN → Prop) → Prop) (SF : Int32 → Int32 → Int32 → Int32 → Int32 → XN → (Int32 → XN → Prop) → Prop) (x1 : Int32) (x2 : Int32) (x3 : Int32) (x4 : Int32) (ν : XN) (Q : Int32 → XN → Prop) : Prop :=
  (xw_X0_isCell x1 ν (fun r2 ν1 => ((r2 = 0 → Q (-1 : Int32) ν1) ∧ (¬ r2 = 0 → (xw_X0_isCell x3 ν1 (fun r4 ν3 => ((r4 = 0 → Q (-1 : Int32) ν3) ∧ (¬ r4 = 0 → (xw_X0_is x2 (0 : Int32) (99 : Int32) ν3 (fun r6 ν5 => ((¬ r6 = 0 → (vp_in (0 : Int32) 4 ∧ (xoc (fP ν5.1 2 (Int32.toNatClampNeg (0 : Int32))) = 5 ∧ (xw_X5_copy (fP ν5.1 2 (Int32.toNatClampNeg (0 : Int32))) 10 ν5 (fun r9 ν8 => xw_X0_plan_45 VA TA SF x1 x2 x3 x4 (0 : Int32) ν8 Q))))) ∧ (r6 = 0 → Q (-1 : Int32) ν5))))))))))))
theorem xt_X0_plan {κ : Cx} {S : Adr} {A : Nat → Prop} {Z : State → Prop} {Q : Int32 → XN → Prop} {dV : Nat} {VA : Nat → Nat → XN → (Int64 → XN → Prop) → Prop} {TA : Nat → Nat → XN → (Int32 → XN → Prop) → Prop} (hV : HVT S A dV VA TA) {dS : Nat} {SF : Int32 → Int32 → Int32 → Int32 → Int32 → XN → (Int32 → XN → Prop) → Prop} (hSF : ∀ l x1 x2 x3 x4 x5 ν Q, SF x1 x2 x3 x4 x5 ν Q → xMet l S A dS 0 0 5 yX0_plans [.ref (S.2.1 0), .int x1, .int x2, .int x3, .int x4, .int x5] ν (pI Q)) (h : XCx κ cX0_plan RX0 S A (dV + dS + 4) 0 0) (hT : (cxT κ).sig.returnType = some .int) (hN : (cxT κ).name = "plan") (hR : xRet κ S A 0 0 Z cX0_plan (pI Q)) {x1 : Int32} {x2 : Int32} {x3 : Int32} {x4 : Int32} {ν : XN} (hw : xw_X0_plan VA TA SF x1 x2 x3 x4 ν Q) : XG κ S A 0 0 Z 0 (ν, 0, 0) [some (.ref (S.2.1 0)), some (.int x1), some (.int x2), some (.int x3), some (.int x4), none] [] := by
  unfold xw_X0_plan at hw
  refine g_aload_0 0 h.1 dX0_plan_0 ?_
  refine g_iload_1 1 h.1 dX0_plan_1 ?_
  refine xcV_I_1 2 h (xm_X0_isCell h.2.2.1 hw) (by omega) (Nat.le_of_eq (Nat.zero_add _)) (Nat.le_of_eq (Nat.zero_add _)) q1306 qs40 (fun H hI => x_recvK h rfl rfl hI) q1304 (Nat.le_of_ble_eq_true rfl) dX0_plan_2 (fun r2 ν1 hw => ?_)
  refine g_if_eq 5 26 h.1 dX0_plan_5 (by decide) (fun c => ?_) (fun c => ?_)
  · have hw := hw.1 c
    refine g_iconstv 26 _ ic_m1 h.1 dX0_plan_26 ?_
    exact hR.1 27 _ _ _ _ _ _ hT rfl dX0_plan_27 ⟨_, rfl, hw⟩
  · have hw := hw.2 c
    refine g_aload_0 8 h.1 dX0_plan_8 ?_
    refine g_iload_3 9 h.1 dX0_plan_9 ?_
    refine xcV_I_1 10 h (xm_X0_isCell h.2.2.1 hw) (by omega) (Nat.le_of_eq (Nat.zero_add _)) (Nat.le_of_eq (Nat.zero_add _)) q1306 qs40 (fun H hI => x_recvK h rfl rfl hI) q1304 (Nat.le_of_ble_eq_true rfl) dX0_plan_10 (fun r4 ν3 hw => ?_)
    refine g_if_eq 13 26 h.1 dX0_plan_13 (by decide) (fun c => ?_) (fun c => ?_)
    · have hw := hw.1 c
      refine g_iconstv 26 _ ic_m1 h.1 dX0_plan_26 ?_
      exact hR.1 27 _ _ _ _ _ _ hT rfl dX0_plan_27 ⟨_, rfl, hw⟩
    · have hw := hw.2 c
      refine g_iload_2 16 h.1 dX0_plan_16 ?_
      refine g_iconstv 17 _ ic_0 h.1 dX0_plan_17 ?_
      refine g_bipush 18 _ bp_99 h.1 dX0_plan_18 ?_
      refine xcS_I_3 20 h (xm_X0_is h.2.2.1 hw) (by omega) (Nat.le_of_eq (Nat.zero_add _)) (Nat.le_of_eq (Nat.zero_add _)) q705 q1312 (Nat.le_of_ble_eq_true rfl) dX0_plan_20 (fun r6 ν5 hw => ?_)
      refine g_if_ne 23 28 h.1 dX0_plan_23 (by decide) (fun c => ?_) (fun c => ?_)
      · have hw := hw.1 c
        refine g_aload_0 28 h.1 dX0_plan_28 ?_
        refine xg_X0_76_0 29 h dX0_plan_29 ?_
        refine g_iconstv 32 _ ic_0 h.1 dX0_plan_32 ?_
        obtain ⟨f7, hw⟩ := hw
        refine xa_aald6 33 rfl f7 h dX0_plan_33 ?_
        refine g_aload_0 34 h.1 dX0_plan_34 ?_
        refine xg_X0_69_0 35 h dX0_plan_35 ?_
        obtain ⟨f10, hw⟩ := hw
        refine xcV_K_1 38 h (xm_X5_copy h.2.2.1 hw) (by omega) (Nat.le_of_eq (Nat.zero_add _)) (Nat.le_of_eq (Nat.zero_add _)) q1436 q1437 (fun H hI => x_recvK h f10 rfl hI) q1435 (Nat.le_of_ble_eq_true rfl) dX0_plan_38 (fun r9 ν8 hw => ?_)
        refine g_pop 41 rfl h.1 dX0_plan_41 ?_
        refine g_iconstv 42 _ ic_0 h.1 dX0_plan_42 ?_
        refine g_istore_5 43 h.1 rfl dX0_plan_43 ?_
        exact g_le (xt_X0_plan_45 hV hSF h hT hN hR hw) ⟨rfl, rfl, rfl, rfl, rfl, rfl, trivial⟩
      · have hw := hw.2 c
        refine g_iconstv 26 _ ic_m1 h.1 dX0_plan_26 ?_
        exact hR.1 27 _ _ _ _ _ _ hT rfl dX0_plan_27 ⟨_, rfl, hw⟩
theorem xm_X0_plan {l : Launch} {S : Adr} {A : Nat → Prop} {dV : Nat} {VA : Nat → Nat → XN → (Int64 → XN → Prop) → Prop} {TA : Nat → Nat → XN → (Int32 → XN → Prop) → Prop} (hV : HVT S A dV VA TA) {dS : Nat} {SF : Int32 → Int32 → Int32 → Int32 → Int32 → XN → (Int32 → XN → Prop) → Prop} (hSF : ∀ l x1 x2 x3 x4 x5 ν Q, SF x1 x2 x3 x4 x5 ν Q → xMet l S A dS 0 0 5 yX0_plans [.ref (S.2.1 0), .int x1, .int x2, .int x3, .int x4, .int x5] ν (pI Q)) (hD : FD xT S xcl A) {x1 : Int32} {x2 : Int32} {x3 : Int32} {x4 : Int32} {ν : XN} {Q : Int32 → XN → Prop} (hw : xw_X0_plan VA TA SF x1 x2 x3 x4 ν Q) : xMet l S A (dV + dS + 4) 0 0 4 yX0_plan [.ref (S.2.1 0), .int x1, .int x2, .int x3, .int x4] ν (pI Q) :=
  x_met (plainFor_of_name (by decide)) hD ⟨⟨by decide, by decide, by show _ = some 4; decide +kernel⟩, by decide, q1550, q171⟩ (Nat.le_of_ble_eq_true rfl) (fun κ Z h hT hN hR => xt_X0_plan hV hSF h hT hN hR hw)
def xw_X0_plans_56 (VA : Nat → Nat → XN → (Int64 → XN → Prop) → Prop) (TA : Nat → Nat → XN → (Int32 → XN → Prop) → Prop) (SF : Int32 → Int32 → Int32 → Int32 → Int32 → XN → (Int32 → XN → Prop) → Prop) (x1 : Int32) (x2 : Int32) (x3 : Int32) (x4 : Int32) (x5 : Int32) (x6 : Int32) (ν : XN) (Q : Int32 → XN → Prop) : Prop :=
  ∀ X56 : Int32 → Int32 → Int32 → Int32 → Int32 → Int32 → XN → Prop, (∀ (x1 : Int32) (x2 : Int32) (x3 : Int32) (x4 : Int32) (x5 : Int32) (x6 : Int32) (ν : XN), (xw_X0_people ν (fun r11 ν10 => (xw_X0_topics ν10 (fun r13 ν12 => (((r11 * r13) ≤ x6 → Q (0 : Int32) ν12) ∧ (¬ (r11 * r13) ≤ x6 → (vp_in (x4 + (1 : Int32)) 4 ∧ (vp_in x4 4 ∧ (xoc (fP ν12.1 2 (Int32.toNatClampNeg (x4 + (1 : Int32)))) = 5 ∧ (xw_X5_copy (fP ν12.1 2 (Int32.toNatClampNeg (x4 + (1 : Int32)))) (fP ν12.1 2 (Int32.toNatClampNeg x4)) ν12 (fun r17 ν16 => (vp_in (x4 + (1 : Int32)) 4 ∧ (xw_X0_topics ν16 (fun r21 ν20 => (¬ r21 = 0 ∧ (xw_X0_topics ν20 (fun r24 ν23 => (¬ r24 = 0 ∧ (xoc (fP ν16.1 2 (Int32.toNatClampNeg (x4 + (1 : Int32)))) = 5 ∧ (xw_X5_asked VA TA (fP ν16.1 2 (Int32.toNatClampNeg (x4 + (1 : Int32)))) (x6 / r21) (x6 - x6 / r24 * r24) ν23 (fun r27 ν26 => (xw_X0_topics ν26 (fun r30 ν29 => (¬ r30 = 0 ∧ (xw_X0_topics ν29 (fun r33 ν32 => (¬ r33 = 0 ∧ (vp_in x4 3 ∧ (∀ ν35, ν35 = (sA ν32.1 3 (Int32.toNatClampNeg x4) (((8 : Int32) * (x6 / r30)) + (x6 - x6 / r33 * r33)), ν32.2) → (SF x1 x2 x3 (x4 + (1 : Int32)) x5 ν35 (fun r39 ν38 => ((r39 = 0 → X56 x1 x2 x3 x4 x5 (x6 + 1) ν38) ∧ (¬ r39 = 0 → Q (1 : Int32) ν38))))))))))))))))))))))))))))))))) → X56 x1 x2 x3 x4 x5 x6 ν) → X56 x1 x2 x3 x4 x5 x6 ν
theorem xt_X0_plans_56 {κ : Cx} {S : Adr} {A : Nat → Prop} {Z : State → Prop} {Q : Int32 → XN → Prop} {dV : Nat} {VA : Nat → Nat → XN → (Int64 → XN → Prop) → Prop} {TA : Nat → Nat → XN → (Int32 → XN → Prop) → Prop} (hV : HVT S A dV VA TA) {dS : Nat} {SF : Int32 → Int32 → Int32 → Int32 → Int32 → XN → (Int32 → XN → Prop) → Prop} (hSF : ∀ l x1 x2 x3 x4 x5 ν Q, SF x1 x2 x3 x4 x5 ν Q → xMet l S A dS 0 0 5 yX0_plans [.ref (S.2.1 0), .int x1, .int x2, .int x3, .int x4, .int x5] ν (pI Q)) (h : XCx κ cX0_plans RX0 S A (dV + dS + 8) 0 0) (hT : (cxT κ).sig.returnType = some .boolean) (hN : (cxT κ).name = "plans") (hR : xRet κ S A 0 0 Z cX0_plans (pI Q)) {x1 : Int32} {x2 : Int32} {x3 : Int32} {x4 : Int32} {x5 : Int32} {x6 : Int32} {ν : XN} (hw : xw_X0_plans_56 VA TA SF x1 x2 x3 x4 x5 x6 ν Q) : XG κ S A 0 0 Z 56 (ν, 0, 0) [some (.ref (S.2.1 0)), some (.int x1), some (.int x2), some (.int x3), some (.int x4), some (.int x5), some (.int x6)] [] := by
  refine hw (fun x1 x2 x3 x4 x5 x6 ν => XG κ S A 0 0 Z 56 (ν, 0, 0) [some (.ref (S.2.1 0)), some (.int x1), some (.int x2), some (.int x3), some (.int x4), some (.int x5), some (.int x6)] []) ?_
  clear hw
  intro x1 x2 x3 x4 x5 x6 ν hw
  have hX56 : ∀ (x1 : Int32) (x2 : Int32) (x3 : Int32) (x4 : Int32) (x5 : Int32) (x6 : Int32) (ν : XN), XG κ S A 0 0 Z 56 (ν, 0, 0) [some (.ref (S.2.1 0)), some (.int x1), some (.int x2), some (.int x3), some (.int x4), some (.int x5), some (.int x6)] [] → XG κ S A 0 0 Z 56 (ν, 0, 0) [some (.ref (S.2.1 0)), some (.int x1), some (.int x2), some (.int x3), some (.int x4), some (.int x5), some (.int x6)] [] := fun _ _ _ _ _ _ _ hh => hh
  refine g_iload_6 56 h.1 dX0_plans_56 ?_
  refine g_aload_0 58 h.1 dX0_plans_58 ?_
  refine xcV_I_0 59 h (xm_X0_people h.2.2.1 hw) (by omega) (Nat.le_of_eq (Nat.zero_add _)) (Nat.le_of_eq (Nat.zero_add _)) q1284 qs38 (fun H hI => x_recvK h rfl rfl hI) q1303 (Nat.le_of_ble_eq_true rfl) dX0_plans_59 (fun r11 ν10 hw => ?_)
  refine g_aload_0 62 h.1 dX0_plans_62 ?_
  refine xcV_I_0 63 h (xm_X0_topics h.2.2.1 hw) (by omega) (Nat.le_of_eq (Nat.zero_add _)) (Nat.le_of_eq (Nat.zero_add _)) q1301 qs39 (fun H hI => x_recvK h rfl rfl hI) q1299 (Nat.le_of_ble_eq_true rfl) dX0_plans_63 (fun r13 ν12 hw => ?_)
  refine g_imul 66 h.1 dX0_plans_66 ?_
  refine g_icmp_ge 67 166 h.1 dX0_plans_67 (by decide) (fun c => ?_) (fun c => ?_)
  · have hw := hw.1 c
    refine g_iconstv 166 _ ic_0 h.1 dX0_plans_166 ?_
    exact hR.1 167 _ _ _ _ _ _ hT rfl dX0_plans_167 ⟨_, rfl, hw⟩
  · have hw := hw.2 c
    refine g_aload_0 70 h.1 dX0_plans_70 ?_
    refine xg_X0_76_0 71 h dX0_plans_71 ?_
    refine g_iload_4 74 h.1 dX0_plans_74 ?_
    refine g_iconstv 76 _ ic_1 h.1 dX0_plans_76 ?_
    refine g_iadd 77 h.1 dX0_plans_77 ?_
    obtain ⟨f14, hw⟩ := hw
    refine xa_aald6 78 rfl f14 h dX0_plans_78 ?_
    refine g_aload_0 79 h.1 dX0_plans_79 ?_
    refine xg_X0_76_0 80 h dX0_plans_80 ?_
    refine g_iload_4 83 h.1 dX0_plans_83 ?_
    obtain ⟨f15, hw⟩ := hw
    refine xa_aald6 85 rfl f15 h dX0_plans_85 ?_
    obtain ⟨f18, hw⟩ := hw
    refine xcV_K_1 86 h (xm_X5_copy h.2.2.1 hw) (by omega) (Nat.le_of_eq (Nat.zero_add _)) (Nat.le_of_eq (Nat.zero_add _)) q1436 q1437 (fun H hI => x_recvK h f18 rfl hI) q1435 (Nat.le_of_ble_eq_true rfl) dX0_plans_86 (fun r17 ν16 hw => ?_)
    refine g_pop 89 rfl h.1 dX0_plans_89 ?_
    refine g_aload_0 90 h.1 dX0_plans_90 ?_
    refine xg_X0_76_0 91 h dX0_plans_91 ?_
    refine g_iload_4 94 h.1 dX0_plans_94 ?_
    refine g_iconstv 96 _ ic_1 h.1 dX0_plans_96 ?_
    refine g_iadd 97 h.1 dX0_plans_97 ?_
    obtain ⟨f19, hw⟩ := hw
    refine xa_aald6 98 rfl f19 h dX0_plans_98 ?_
    refine g_iload_6 99 h.1 dX0_plans_99 ?_
    refine g_aload_0 101 h.1 dX0_plans_101 ?_
    refine xcV_I_0 102 h (xm_X0_topics h.2.2.1 hw) (by omega) (Nat.le_of_eq (Nat.zero_add _)) (Nat.le_of_eq (Nat.zero_add _)) q1301 qs39 (fun H hI => x_recvK h rfl rfl hI) q1299 (Nat.le_of_ble_eq_true rfl) dX0_plans_102 (fun r21 ν20 hw => ?_)
    obtain ⟨f22, hw⟩ := hw
    refine g_idiv 105 f22 h.1 dX0_plans_105 ?_
    refine g_iload_6 106 h.1 dX0_plans_106 ?_
    refine g_aload_0 108 h.1 dX0_plans_108 ?_
    refine xcV_I_0 109 h (xm_X0_topics h.2.2.1 hw) (by omega) (Nat.le_of_eq (Nat.zero_add _)) (Nat.le_of_eq (Nat.zero_add _)) q1301 qs39 (fun H hI => x_recvK h rfl rfl hI) q1299 (Nat.le_of_ble_eq_true rfl) dX0_plans_109 (fun r24 ν23 hw => ?_)
    obtain ⟨f25, hw⟩ := hw
    refine g_irem 112 f25 h.1 dX0_plans_112 ?_
    obtain ⟨f28, hw⟩ := hw
    refine xcV_I_2 113 h (xm_X5_asked hV h.2.2.1 hw) (by omega) (Nat.le_of_eq (Nat.zero_add _)) (Nat.le_of_eq (Nat.zero_add _)) q1535 q1536 (fun H hI => x_recvK h f28 rfl hI) q1555 (Nat.le_of_ble_eq_true rfl) dX0_plans_113 (fun r27 ν26 hw => ?_)
    refine g_pop 116 rfl h.1 dX0_plans_116 ?_
    refine g_aload_0 117 h.1 dX0_plans_117 ?_
    refine xg_X0_80_0 118 h dX0_plans_118 ?_
    refine g_iload_4 121 h.1 dX0_plans_121 ?_
    refine g_bipush 123 _ bp_8 h.1 dX0_plans_123 ?_
    refine g_iload_6 125 h.1 dX0_plans_125 ?_
    refine g_aload_0 127 h.1 dX0_plans_127 ?_
    refine xcV_I_0 128 h (xm_X0_topics h.2.2.1 hw) (by omega) (Nat.le_of_eq (Nat.zero_add _)) (Nat.le_of_eq (Nat.zero_add _)) q1301 qs39 (fun H hI => x_recvK h rfl rfl hI) q1299 (Nat.le_of_ble_eq_true rfl) dX0_plans_128 (fun r30 ν29 hw => ?_)
    obtain ⟨f31, hw⟩ := hw
    refine g_idiv 131 f31 h.1 dX0_plans_131 ?_
    refine g_imul 132 h.1 dX0_plans_132 ?_
    refine g_iload_6 133 h.1 dX0_plans_133 ?_
    refine g_aload_0 135 h.1 dX0_plans_135 ?_
    refine xcV_I_0 136 h (xm_X0_topics h.2.2.1 hw) (by omega) (Nat.le_of_eq (Nat.zero_add _)) (Nat.le_of_eq (Nat.zero_add _)) q1301 qs39 (fun H hI => x_recvK h rfl rfl hI) q1299 (Nat.le_of_ble_eq_true rfl) dX0_plans_136 (fun r33 ν32 hw => ?_)
    obtain ⟨f34, hw⟩ := hw
    refine g_irem 139 f34 h.1 dX0_plans_139 ?_
    refine g_iadd 140 h.1 dX0_plans_140 ?_
    obtain ⟨f37, hw⟩ := hw
    refine xa_iast 141 rfl f37 h dX0_plans_141 (fun ν35 e36 => ?_)
    have hw := hw ν35 e36
    refine g_aload_0 142 h.1 dX0_plans_142 ?_
    refine g_iload_1 143 h.1 dX0_plans_143 ?_
    refine g_iload_2 144 h.1 dX0_plans_144 ?_
    refine g_iload_3 145 h.1 dX0_plans_145 ?_
    refine g_iload_4 146 h.1 dX0_plans_146 ?_
    refine g_iconstv 148 _ ic_1 h.1 dX0_plans_148 ?_
    refine g_iadd 149 h.1 dX0_plans_149 ?_
    refine g_iload_5 150 h.1 dX0_plans_150 ?_
    refine xcV_I_5 152 h (hSF _ _ _ _ _ _ _ _ hw) (by omega) (Nat.le_of_eq (Nat.zero_add _)) (Nat.le_of_eq (Nat.zero_add _)) q1553 qs53 (fun H hI => x_recvK h rfl rfl hI) q1551 (Nat.le_of_ble_eq_true rfl) dX0_plans_152 (fun r39 ν38 hw => ?_)
    refine g_if_eq 155 160 h.1 dX0_plans_155 (by decide) (fun c => ?_) (fun c => ?_)
    · have hw := hw.1 c
      refine g_iinc_6 160 (x6 + 1) (congrArg _ ic_1) h.1 rfl dX0_plans_160 ?_
      refine g_goto 163 56 h.1 dX0_plans_163 (by decide) ?_
      exact g_le (hX56 _ _ _ _ _ _ _ hw) ⟨rfl, rfl, rfl, rfl, rfl, rfl, rfl, trivial⟩
    · have hw := hw.2 c
      refine g_iconstv 158 _ ic_1 h.1 dX0_plans_158 ?_
      exact hR.1 159 _ _ _ _ _ _ hT rfl dX0_plans_159 ⟨_, rfl, hw⟩
def xw_X0_plans (VA : Nat → Nat → XN → (Int64 → XN → Prop) → Prop) (TA : Nat → Nat → XN → (Int32 → XN → Prop) → Prop) (SF : Int32 → Int32 → Int32 → Int32 → Int32 → XN → (Int32 → XN → Prop) → Prop) (x1 : Int32) (x2 : Int32) (x3 : Int32) (x4 : Int32) (x5 : Int32) (ν : XN) (Q : Int32 → XN → Prop) : Prop :=
  ((¬ x4 = x5 → xw_X0_plans_56 VA TA SF x1 x2 x3 x4 x5 (0 : Int32) ν Q) ∧ (x4 = x5 → (vp_in x4 4 ∧ (xoc (fP ν.1 2 (Int32.toNatClampNeg x4)) = 5 ∧ (xok 1 (xft (fP ν.1 2 (Int32.toNatClampNeg x4)) 3) ∧ (vp_in x1 (xlen (xft (fP ν.1 2 (Int32.toNatClampNeg x4)) 3)) ∧ (((fA ν.1 (xft (fP ν.1 2 (Int32.toNatClampNeg x4)) 3) (Int32.toNatClampNeg x1)) < x2 → Q (0 : Int32) ν) ∧ (¬ (fA ν.1 (xft (fP ν.1 2 (Int32.toNatClampNeg x4)) 3) (Int32.toNatClampNeg x1)) < x2 → (vp_in x4 4 ∧ (xok 1 (xft (fP ν.1 2 (Int32.toNatClampNeg x4)) 3) ∧ (vp_in x3 (xlen (xft (fP ν.1 2 (Int32.toNatClampNeg x4)) 3)) ∧ (xok 1 (xft 10 3) ∧ (vp_in x3 (xlen (xft 10 3)) ∧ ((¬ (fA ν.1 (xft (fP ν.1 2 (Int32.toNatClampNeg x4)) 3) (Int32.toNatClampNeg x3)) = (fA ν.1 (xft 10 3) (Int32.toNatClampNeg x3)) → Q (0 : Int32) ν) ∧ ((fA ν.1 (xft (fP ν.1 2 (Int32.toNatClampNeg x4)) 3) (Int32.toNatClampNeg x3)) = (fA ν.1 (xft 10 3) (Int32.toNatClampNeg x3)) → Q (1 : Int32) ν)))))))))))))))
theorem xt_X0_plans {κ : Cx} {S : Adr} {A : Nat → Prop} {Z : State → Prop} {Q : Int32 → XN → Prop} {dV : Nat} {VA : Nat → Nat → XN → (Int64 → XN → Prop) → Prop} {TA : Nat → Nat → XN → (Int32 → XN → Prop) → Prop} (hV : HVT S A dV VA TA) {dS : Nat} {SF : Int32 → Int32 → Int32 → Int32 → Int32 → XN → (Int32 → XN → Prop) → Prop} (hSF : ∀ l x1 x2 x3 x4 x5 ν Q, SF x1 x2 x3 x4 x5 ν Q → xMet l S A dS 0 0 5 yX0_plans [.ref (S.2.1 0), .int x1, .int x2, .int x3, .int x4, .int x5] ν (pI Q)) (h : XCx κ cX0_plans RX0 S A (dV + dS + 8) 0 0) (hT : (cxT κ).sig.returnType = some .boolean) (hN : (cxT κ).name = "plans") (hR : xRet κ S A 0 0 Z cX0_plans (pI Q)) {x1 : Int32} {x2 : Int32} {x3 : Int32} {x4 : Int32} {x5 : Int32} {ν : XN} (hw : xw_X0_plans VA TA SF x1 x2 x3 x4 x5 ν Q) : XG κ S A 0 0 Z 0 (ν, 0, 0) [some (.ref (S.2.1 0)), some (.int x1), some (.int x2), some (.int x3), some (.int x4), some (.int x5), none] [] := by
  unfold xw_X0_plans at hw
  refine g_iload_4 0 h.1 dX0_plans_0 ?_
  refine g_iload_5 2 h.1 dX0_plans_2 ?_
  refine g_icmp_ne 4 53 h.1 dX0_plans_4 (by decide) (fun c => ?_) (fun c => ?_)
  · have hw := hw.1 c
    refine g_iconstv 53 _ ic_0 h.1 dX0_plans_53 ?_
    refine g_istore_6 54 h.1 rfl dX0_plans_54 ?_
    exact g_le (xt_X0_plans_56 hV hSF h hT hN hR hw) ⟨rfl, rfl, rfl, rfl, rfl, rfl, rfl, trivial⟩
  · have hw := hw.2 c
    refine g_aload_0 7 h.1 dX0_plans_7 ?_
    refine xg_X0_76_0 8 h dX0_plans_8 ?_
    refine g_iload_4 11 h.1 dX0_plans_11 ?_
    obtain ⟨f1, hw⟩ := hw
    refine xa_aald6 13 rfl f1 h dX0_plans_13 ?_
    obtain ⟨f2, hw⟩ := hw
    refine xg_X0_198_5 14 f2 h dX0_plans_14 ?_
    refine g_iload_1 17 h.1 dX0_plans_17 ?_
    obtain ⟨f3, hw⟩ := hw
    obtain ⟨f4, hw⟩ := hw
    refine xa_iald 18 f3 f4 h dX0_plans_18 ?_
    refine g_iload_2 19 h.1 dX0_plans_19 ?_
    refine g_icmp_lt 20 51 h.1 dX0_plans_20 (by decide) (fun c => ?_) (fun c => ?_)
    · have hw := hw.1 c
      refine g_iconstv 51 _ ic_0 h.1 dX0_plans_51 ?_
      exact hR.1 52 _ _ _ _ _ _ hT rfl dX0_plans_52 ⟨_, rfl, hw⟩
    · have hw := hw.2 c
      refine g_aload_0 23 h.1 dX0_plans_23 ?_
      refine xg_X0_76_0 24 h dX0_plans_24 ?_
      refine g_iload_4 27 h.1 dX0_plans_27 ?_
      obtain ⟨f5, hw⟩ := hw
      refine xa_aald6 29 rfl f5 h dX0_plans_29 ?_
      refine xg_X0_198_5 30 f2 h dX0_plans_30 ?_
      refine g_iload_3 33 h.1 dX0_plans_33 ?_
      obtain ⟨f6, hw⟩ := hw
      obtain ⟨f7, hw⟩ := hw
      refine xa_iald 34 f6 f7 h dX0_plans_34 ?_
      refine g_aload_0 35 h.1 dX0_plans_35 ?_
      refine xg_X0_69_0 36 h dX0_plans_36 ?_
      refine xg_X0_198_5 39 rfl h dX0_plans_39 ?_
      refine g_iload_3 42 h.1 dX0_plans_42 ?_
      obtain ⟨f8, hw⟩ := hw
      obtain ⟨f9, hw⟩ := hw
      refine xa_iald 43 f8 f9 h dX0_plans_43 ?_
      refine g_icmp_ne 44 51 h.1 dX0_plans_44 (by decide) (fun c => ?_) (fun c => ?_)
      · have hw := hw.1 c
        refine g_iconstv 51 _ ic_0 h.1 dX0_plans_51 ?_
        exact hR.1 52 _ _ _ _ _ _ hT rfl dX0_plans_52 ⟨_, rfl, hw⟩
      · have hw := hw.2 c
        refine g_iconstv 47 _ ic_1 h.1 dX0_plans_47 ?_
        refine g_goto 48 52 h.1 dX0_plans_48 (by decide) ?_
        exact hR.1 52 _ _ _ _ _ _ hT rfl dX0_plans_52 ⟨_, rfl, hw⟩
theorem xm_X0_plans {l : Launch} {S : Adr} {A : Nat → Prop} {dV : Nat} {VA : Nat → Nat → XN → (Int64 → XN → Prop) → Prop} {TA : Nat → Nat → XN → (Int32 → XN → Prop) → Prop} (hV : HVT S A dV VA TA) {dS : Nat} {SF : Int32 → Int32 → Int32 → Int32 → Int32 → XN → (Int32 → XN → Prop) → Prop} (hSF : ∀ l x1 x2 x3 x4 x5 ν Q, SF x1 x2 x3 x4 x5 ν Q → xMet l S A dS 0 0 5 yX0_plans [.ref (S.2.1 0), .int x1, .int x2, .int x3, .int x4, .int x5] ν (pI Q)) (hD : FD xT S xcl A) {x1 : Int32} {x2 : Int32} {x3 : Int32} {x4 : Int32} {x5 : Int32} {ν : XN} {Q : Int32 → XN → Prop} (hw : xw_X0_plans VA TA SF x1 x2 x3 x4 x5 ν Q) : xMet l S A (dV + dS + 8) 0 0 5 yX0_plans [.ref (S.2.1 0), .int x1, .int x2, .int x3, .int x4, .int x5] ν (pI Q) :=
  x_met (plainFor_of_name (by decide)) hD ⟨⟨by decide, by decide, by show _ = some 5; decide +kernel⟩, by decide, q1554, q171⟩ (Nat.le_of_ble_eq_true rfl) (fun κ Z h hT hN hR => xt_X0_plans hV hSF h hT hN hR hw)
def xw_X0_pond_25 (x3 : Int32) (x4 : Int32) (ν : XN) (Q : Int32 → XN → Prop) : Prop :=
  ∀ X25 : Int32 → Int32 → XN → Prop, (∀ (x3 : Int32) (x4 : Int32) (ν : XN), ((x4 = x3 → Q x3 ν) ∧ (¬ x4 = x3 → (xw_X0_lower x4 ν (fun r6 ν5 => X25 x4 r6 ν5)))) → X25 x3 x4 ν) → X25 x3 x4 ν
theorem xt_X0_pond_25 {κ : Cx} {S : Adr} {A : Nat → Prop} {Z : State → Prop} {Q : Int32 → XN → Prop} (h : XCx κ cX0_pond RX0 S A 5 0 0) (hT : (cxT κ).sig.returnType = some .int) (hN : (cxT κ).name = "pond") (hR : xRet κ S A 0 0 Z cX0_pond (pI Q)) {x3 : Int32} {x4 : Int32} {ν : XN} (hw : xw_X0_pond_25 x3 x4 ν Q) : XG κ S A 0 0 Z 25 (ν, 0, 0) [some (.ref (S.2.1 0)), none, none, some (.int x3), some (.int x4)] [] := by
  refine hw (fun x3 x4 ν => XG κ S A 0 0 Z 25 (ν, 0, 0) [some (.ref (S.2.1 0)), none, none, some (.int x3), some (.int x4)] []) ?_
  clear hw
  intro x3 x4 ν hw
  have hX25 : ∀ (x3 : Int32) (x4 : Int32) (ν : XN), XG κ S A 0 0 Z 25 (ν, 0, 0) [some (.ref (S.2.1 0)), none, none, some (.int x3), some (.int x4)] [] → XG κ S A 0 0 Z 25 (ν, 0, 0) [some (.ref (S.2.1 0)), none, none, some (.int x3), some (.int x4)] [] := fun _ _ _ hh => hh
  refine g_iload_4 25 h.1 dX0_pond_25 ?_
  refine g_iload_3 27 h.1 dX0_pond_27 ?_
  refine g_icmp_eq 28 44 h.1 dX0_pond_28 (by decide) (fun c => ?_) (fun c => ?_)
  · have hw := hw.1 c
    refine g_iload_3 44 h.1 dX0_pond_44 ?_
    exact hR.1 45 _ _ _ _ _ _ hT rfl dX0_pond_45 ⟨_, rfl, hw⟩
  · have hw := hw.2 c
    refine g_iload_4 31 h.1 dX0_pond_31 ?_
    refine g_istore_3 33 h.1 rfl dX0_pond_33 ?_
    refine g_aload_0 34 h.1 dX0_pond_34 ?_
    refine g_iload_3 35 h.1 dX0_pond_35 ?_
    refine xcV_I_1 36 h (xm_X0_lower h.2.2.1 hw) (by decide) (Nat.le_of_eq (Nat.zero_add _)) (Nat.le_of_eq (Nat.zero_add _)) q1579 qs56 (fun H hI => x_recvK h rfl rfl hI) q1577 (Nat.le_of_ble_eq_true rfl) dX0_pond_36 (fun r6 ν5 hw => ?_)
    refine g_istore_4 39 h.1 rfl dX0_pond_39 ?_
    refine g_goto 41 25 h.1 dX0_pond_41 (by decide) ?_
    exact g_le (hX25 _ _ _ hw) ⟨rfl, rfl, rfl, trivial⟩
def xw_X0_pond (x1 : Int32) (x2 : Int32) (ν : XN) (Q : Int32 → XN → Prop) : Prop :=
  (xw_X0_isIn x1 x2 ν (fun r2 ν1 => ((¬ r2 = 0 → (xw_X0_lower (((8 : Int32) * x2) + x1) ν1 (fun r4 ν3 => xw_X0_pond_25 (((8 : Int32) * x2) + x1) r4 ν3 Q))) ∧ (r2 = 0 → Q (-1 : Int32) ν1))))
theorem xt_X0_pond {κ : Cx} {S : Adr} {A : Nat → Prop} {Z : State → Prop} {Q : Int32 → XN → Prop} (h : XCx κ cX0_pond RX0 S A 5 0 0) (hT : (cxT κ).sig.returnType = some .int) (hN : (cxT κ).name = "pond") (hR : xRet κ S A 0 0 Z cX0_pond (pI Q)) {x1 : Int32} {x2 : Int32} {ν : XN} (hw : xw_X0_pond x1 x2 ν Q) : XG κ S A 0 0 Z 0 (ν, 0, 0) [some (.ref (S.2.1 0)), some (.int x1), some (.int x2), none, none] [] := by
  unfold xw_X0_pond at hw
  refine g_aload_0 0 h.1 dX0_pond_0 ?_
  refine g_iload_1 1 h.1 dX0_pond_1 ?_
  refine g_iload_2 2 h.1 dX0_pond_2 ?_
  refine xcV_I_2 3 h (xm_X0_isIn h.2.2.1 hw) (by decide) (Nat.le_of_eq (Nat.zero_add _)) (Nat.le_of_eq (Nat.zero_add _)) q1310 qs41 (fun H hI => x_recvK h rfl rfl hI) q1308 (Nat.le_of_ble_eq_true rfl) dX0_pond_3 (fun r2 ν1 hw => ?_)
  refine g_if_ne 6 11 h.1 dX0_pond_6 (by decide) (fun c => ?_) (fun c => ?_)
  · have hw := hw.1 c
    refine g_bipush 11 _ bp_8 h.1 dX0_pond_11 ?_
    refine g_iload_2 13 h.1 dX0_pond_13 ?_
    refine g_imul 14 h.1 dX0_pond_14 ?_
    refine g_iload_1 15 h.1 dX0_pond_15 ?_
    refine g_iadd 16 h.1 dX0_pond_16 ?_
    refine g_istore_3 17 h.1 rfl dX0_pond_17 ?_
    refine g_aload_0 18 h.1 dX0_pond_18 ?_
    refine g_iload_3 19 h.1 dX0_pond_19 ?_
    refine xcV_I_1 20 h (xm_X0_lower h.2.2.1 hw) (by decide) (Nat.le_of_eq (Nat.zero_add _)) (Nat.le_of_eq (Nat.zero_add _)) q1579 qs56 (fun H hI => x_recvK h rfl rfl hI) q1577 (Nat.le_of_ble_eq_true rfl) dX0_pond_20 (fun r4 ν3 hw => ?_)
    refine g_istore_4 23 h.1 rfl dX0_pond_23 ?_
    exact g_le (xt_X0_pond_25 h hT hN hR hw) ⟨rfl, rfl, rfl, trivial⟩
  · have hw := hw.2 c
    refine g_iconstv 9 _ ic_m1 h.1 dX0_pond_9 ?_
    exact hR.1 10 _ _ _ _ _ _ hT rfl dX0_pond_10 ⟨_, rfl, hw⟩
theorem xm_X0_pond {l : Launch} {S : Adr} {A : Nat → Prop} (hD : FD xT S xcl A) {x1 : Int32} {x2 : Int32} {ν : XN} {Q : Int32 → XN → Prop} (hw : xw_X0_pond x1 x2 ν Q) : xMet l S A 5 0 0 2 yX0_pond [.ref (S.2.1 0), .int x1, .int x2] ν (pI Q) :=
  x_met (plainFor_of_name (by decide)) hD ⟨⟨by decide, by decide, by show _ = some 2; decide +kernel⟩, by decide, q1576, q171⟩ (Nat.le_of_ble_eq_true rfl) (fun κ Z h hT hN hR => xt_X0_pond h hT hN hR hw)
def xw_X0_rest_34 (VA : Nat → Nat → XN → (Int64 → XN → Prop) → Prop) (TA : Nat → Nat → XN → (Int32 → XN → Prop) → Prop) (X15 : Int32 → Int32 → XN → Prop) (x1 : Int32) (x2 : Int32) (x3 : Int32) (ν : XN) (Q : Int32 → XN → Prop) : Prop :=
  ∀ X34 : Int32 → Int32 → Int32 → XN → Prop, (∀ (x1 : Int32) (x2 : Int32) (x3 : Int32) (ν : XN), (xw_X0_people ν (fun r14 ν13 => ((r14 ≤ x3 → X15 x1 (x2 + 1) ν13) ∧ (¬ r14 ≤ x3 → (vp_in x2 128 ∧ (xok 1 (xft 11 4) ∧ (vp_in x3 (xlen (xft 11 4)) ∧ (xok 1 (xft 11 3) ∧ (vp_in (fA ν13.1 (xft 11 4) (Int32.toNatClampNeg x3)) (xlen (xft 11 3)) ∧ (xok 1 (fP ν13.1 5 (Int32.toNatClampNeg x2)) ∧ (vp_in x3 (xlen (fP ν13.1 5 (Int32.toNatClampNeg x2))) ∧ (∀ ν20, ν20 = (sA ν13.1 (fP ν13.1 5 (Int32.toNatClampNeg x2)) (Int32.toNatClampNeg x3) (fA ν13.1 (xft 11 3) (Int32.toNatClampNeg (fA ν13.1 (xft 11 4) (Int32.toNatClampNeg x3)))), ν13.2) → X34 x1 x2 (x3 + 1) ν20)))))))))))) → X34 x1 x2 x3 ν) → X34 x1 x2 x3 ν
theorem xt_X0_rest_34 {κ : Cx} {S : Adr} {A : Nat → Prop} {Z : State → Prop} {Q : Int32 → XN → Prop} {dV : Nat} {VA : Nat → Nat → XN → (Int64 → XN → Prop) → Prop} {TA : Nat → Nat → XN → (Int32 → XN → Prop) → Prop} (hV : HVT S A dV VA TA) (h : XCx κ cX0_rest RX0 S A (dV + 11) 0 0) (hT : (cxT κ).sig.returnType = some .int) (hN : (cxT κ).name = "rest") (hR : xRet κ S A 0 0 Z cX0_rest (pI Q)) {X15 : Int32 → Int32 → XN → Prop} (hX15 : ∀ (x1 : Int32) (x2 : Int32) (ν : XN), X15 x1 x2 ν → XG κ S A 0 0 Z 15 (ν, 0, 0) [some (.ref (S.2.1 0)), some (.int x1), some (.int x2), none] []) {x1 : Int32} {x2 : Int32} {x3 : Int32} {ν : XN} (hw : xw_X0_rest_34 VA TA X15 x1 x2 x3 ν Q) : XG κ S A 0 0 Z 34 (ν, 0, 0) [some (.ref (S.2.1 0)), some (.int x1), some (.int x2), some (.int x3)] [] := by
  refine hw (fun x1 x2 x3 ν => XG κ S A 0 0 Z 34 (ν, 0, 0) [some (.ref (S.2.1 0)), some (.int x1), some (.int x2), some (.int x3)] []) ?_
  clear hw
  intro x1 x2 x3 ν hw
  have hX34 : ∀ (x1 : Int32) (x2 : Int32) (x3 : Int32) (ν : XN), XG κ S A 0 0 Z 34 (ν, 0, 0) [some (.ref (S.2.1 0)), some (.int x1), some (.int x2), some (.int x3)] [] → XG κ S A 0 0 Z 34 (ν, 0, 0) [some (.ref (S.2.1 0)), some (.int x1), some (.int x2), some (.int x3)] [] := fun _ _ _ _ hh => hh
  refine g_iload_3 34 h.1 dX0_rest_34 ?_
  refine g_aload_0 35 h.1 dX0_rest_35 ?_
  refine xcV_I_0 36 h (xm_X0_people h.2.2.1 hw) (by omega) (Nat.le_of_eq (Nat.zero_add _)) (Nat.le_of_eq (Nat.zero_add _)) q1284 qs38 (fun H hI => x_recvK h rfl rfl hI) q1303 (Nat.le_of_ble_eq_true rfl) dX0_rest_36 (fun r14 ν13 hw => ?_)
  refine g_icmp_ge 39 73 h.1 dX0_rest_39 (by decide) (fun c => ?_) (fun c => ?_)
  · have hw := hw.1 c
    refine g_iinc_2 73 (x2 + 1) (congrArg _ ic_1) h.1 rfl dX0_rest_73 ?_
    refine g_goto 76 15 h.1 dX0_rest_76 (by decide) ?_
    exact g_le (hX15 _ _ _ hw) ⟨rfl, rfl, rfl, trivial⟩
  · have hw := hw.2 c
    refine g_aload_0 42 h.1 dX0_rest_42 ?_
    refine xg_X0_88_0 43 h dX0_rest_43 ?_
    refine g_iload_2 46 h.1 dX0_rest_46 ?_
    obtain ⟨f15, hw⟩ := hw
    refine xa_aald7 47 rfl f15 h dX0_rest_47 ?_
    refine g_iload_3 48 h.1 dX0_rest_48 ?_
    refine g_aload_0 49 h.1 dX0_rest_49 ?_
    refine xg_X0_73_0 50 h dX0_rest_50 ?_
    refine xg_X0_198_5 53 rfl h dX0_rest_53 ?_
    refine g_aload_0 56 h.1 dX0_rest_56 ?_
    refine xg_X0_73_0 57 h dX0_rest_57 ?_
    refine xg_X0_216_5 60 rfl h dX0_rest_60 ?_
    refine g_iload_3 63 h.1 dX0_rest_63 ?_
    obtain ⟨f16, hw⟩ := hw
    obtain ⟨f17, hw⟩ := hw
    refine xa_iald 64 f16 f17 h dX0_rest_64 ?_
    obtain ⟨f18, hw⟩ := hw
    obtain ⟨f19, hw⟩ := hw
    refine xa_iald 65 f18 f19 h dX0_rest_65 ?_
    obtain ⟨f22, hw⟩ := hw
    obtain ⟨f23, hw⟩ := hw
    refine xa_iast 66 f22 f23 h dX0_rest_66 (fun ν20 e21 => ?_)
    have hw := hw ν20 e21
    refine g_iinc_3 67 (x3 + 1) (congrArg _ ic_1) h.1 rfl dX0_rest_67 ?_
    refine g_goto 70 34 h.1 dX0_rest_70 (by decide) ?_
    exact g_le (hX34 _ _ _ _ hw) ⟨rfl, rfl, rfl, rfl, trivial⟩
def xw_X0_rest_111 (VA : Nat → Nat → XN → (Int64 → XN → Prop) → Prop) (TA : Nat → Nat → XN → (Int32 → XN → Prop) → Prop) (X83 : Int32 → Int32 → XN → Prop) (x2 : Int32) (x3 : Int32) (ν : XN) (Q : Int32 → XN → Prop) : Prop :=
  X83 x2 (x3 + 1) ν
theorem xt_X0_rest_111 {κ : Cx} {S : Adr} {A : Nat → Prop} {Z : State → Prop} {Q : Int32 → XN → Prop} {dV : Nat} {VA : Nat → Nat → XN → (Int64 → XN → Prop) → Prop} {TA : Nat → Nat → XN → (Int32 → XN → Prop) → Prop} (hV : HVT S A dV VA TA) (h : XCx κ cX0_rest RX0 S A (dV + 11) 0 0) (hT : (cxT κ).sig.returnType = some .int) (hN : (cxT κ).name = "rest") (hR : xRet κ S A 0 0 Z cX0_rest (pI Q)) {X83 : Int32 → Int32 → XN → Prop} (hX83 : ∀ (x2 : Int32) (x3 : Int32) (ν : XN), X83 x2 x3 ν → XG κ S A 0 0 Z 83 (ν, 0, 0) [some (.ref (S.2.1 0)), none, some (.int x2), some (.int x3)] []) {x2 : Int32} {x3 : Int32} {ν : XN} (hw : xw_X0_rest_111 VA TA X83 x2 x3 ν Q) : XG κ S A 0 0 Z 111 (ν, 0, 0) [some (.ref (S.2.1 0)), none, some (.int x2), some (.int x3)] [] := by
  unfold xw_X0_rest_111 at hw
  refine g_iinc_3 111 (x3 + 1) (congrArg _ ic_1) h.1 rfl dX0_rest_111 ?_
  refine g_goto 114 83 h.1 dX0_rest_114 (by decide) ?_
  exact g_le (hX83 _ _ _ hw) ⟨rfl, rfl, rfl, trivial⟩
def xw_X0_rest_83 (VA : Nat → Nat → XN → (Int64 → XN → Prop) → Prop) (TA : Nat → Nat → XN → (Int32 → XN → Prop) → Prop) (x2 : Int32) (x3 : Int32) (ν : XN) (Q : Int32 → XN → Prop) : Prop :=
  ∀ X83 : Int32 → Int32 → XN → Prop, (∀ (x2 : Int32) (x3 : Int32) (ν : XN), (xw_X0_people ν (fun r8 ν7 => ((((1 : Int32) <<< (r8 &&& 31)) ≤ x3 → Q x2 ν7) ∧ (¬ ((1 : Int32) <<< (r8 &&& 31)) ≤ x3 → (xw_X0_isFewer x3 x2 ν7 (fun r10 ν9 => ((r10 = 0 → xw_X0_rest_111 VA TA X83 x2 x3 ν9 Q) ∧ (¬ r10 = 0 → (xw_X0_isRest x3 ν9 (fun r12 ν11 => ((r12 = 0 → xw_X0_rest_111 VA TA X83 x2 x3 ν11 Q) ∧ (¬ r12 = 0 → xw_X0_rest_111 VA TA X83 x3 x3 ν11 Q)))))))))))) → X83 x2 x3 ν) → X83 x2 x3 ν
theorem xt_X0_rest_83 {κ : Cx} {S : Adr} {A : Nat → Prop} {Z : State → Prop} {Q : Int32 → XN → Prop} {dV : Nat} {VA : Nat → Nat → XN → (Int64 → XN → Prop) → Prop} {TA : Nat → Nat → XN → (Int32 → XN → Prop) → Prop} (hV : HVT S A dV VA TA) (h : XCx κ cX0_rest RX0 S A (dV + 11) 0 0) (hT : (cxT κ).sig.returnType = some .int) (hN : (cxT κ).name = "rest") (hR : xRet κ S A 0 0 Z cX0_rest (pI Q)) {x2 : Int32} {x3 : Int32} {ν : XN} (hw : xw_X0_rest_83 VA TA x2 x3 ν Q) : XG κ S A 0 0 Z 83 (ν, 0, 0) [some (.ref (S.2.1 0)), none, some (.int x2), some (.int x3)] [] := by
  refine hw (fun x2 x3 ν => XG κ S A 0 0 Z 83 (ν, 0, 0) [some (.ref (S.2.1 0)), none, some (.int x2), some (.int x3)] []) ?_
  clear hw
  intro x2 x3 ν hw
  have hX83 : ∀ (x2 : Int32) (x3 : Int32) (ν : XN), XG κ S A 0 0 Z 83 (ν, 0, 0) [some (.ref (S.2.1 0)), none, some (.int x2), some (.int x3)] [] → XG κ S A 0 0 Z 83 (ν, 0, 0) [some (.ref (S.2.1 0)), none, some (.int x2), some (.int x3)] [] := fun _ _ _ hh => hh
  refine g_iload_3 83 h.1 dX0_rest_83 ?_
  refine g_iconstv 84 _ ic_1 h.1 dX0_rest_84 ?_
  refine g_aload_0 85 h.1 dX0_rest_85 ?_
  refine xcV_I_0 86 h (xm_X0_people h.2.2.1 hw) (by omega) (Nat.le_of_eq (Nat.zero_add _)) (Nat.le_of_eq (Nat.zero_add _)) q1284 qs38 (fun H hI => x_recvK h rfl rfl hI) q1303 (Nat.le_of_ble_eq_true rfl) dX0_rest_86 (fun r8 ν7 hw => ?_)
  refine g_ishl 89 h.1 dX0_rest_89 ?_
  refine g_icmp_ge 90 117 h.1 dX0_rest_90 (by decide) (fun c => ?_) (fun c => ?_)
  · have hw := hw.1 c
    refine g_iload_2 117 h.1 dX0_rest_117 ?_
    exact hR.1 118 _ _ _ _ _ _ hT rfl dX0_rest_118 ⟨_, rfl, hw⟩
  · have hw := hw.2 c
    refine g_iload_3 93 h.1 dX0_rest_93 ?_
    refine g_iload_2 94 h.1 dX0_rest_94 ?_
    refine xcS_I_2 95 h (xm_X0_isFewer h.2.2.1 hw) (by omega) (Nat.le_of_eq (Nat.zero_add _)) (Nat.le_of_eq (Nat.zero_add _)) q1586 q1585 (Nat.le_of_ble_eq_true rfl) dX0_rest_95 (fun r10 ν9 hw => ?_)
    refine g_if_eq 98 111 h.1 dX0_rest_98 (by decide) (fun c => ?_) (fun c => ?_)
    · have hw := hw.1 c
      exact g_le (xt_X0_rest_111 hV h hT hN hR hX83 hw) ⟨rfl, rfl, rfl, trivial⟩
    · have hw := hw.2 c
      refine g_aload_0 101 h.1 dX0_rest_101 ?_
      refine g_iload_3 102 h.1 dX0_rest_102 ?_
      refine xcV_I_1 103 h (xm_X0_isRest h.2.2.1 hw) (by omega) (Nat.le_of_eq (Nat.zero_add _)) (Nat.le_of_eq (Nat.zero_add _)) q1599 qs58 (fun H hI => x_recvK h rfl rfl hI) q1597 (Nat.le_of_ble_eq_true rfl) dX0_rest_103 (fun r12 ν11 hw => ?_)
      refine g_if_eq 106 111 h.1 dX0_rest_106 (by decide) (fun c => ?_) (fun c => ?_)
      · have hw := hw.1 c
        exact g_le (xt_X0_rest_111 hV h hT hN hR hX83 hw) ⟨rfl, rfl, rfl, trivial⟩
      · have hw := hw.2 c
        refine g_iload_3 109 h.1 dX0_rest_109 ?_
        refine g_istore_2 110 h.1 rfl dX0_rest_110 ?_
        exact g_le (xt_X0_rest_111 hV h hT hN hR hX83 hw) ⟨rfl, rfl, rfl, trivial⟩
def xw_X0_rest_15 (VA : Nat → Nat → XN → (Int64 → XN → Prop) → Prop) (TA : Nat → Nat → XN → (Int32 → XN → Prop) → Prop) (x1 : Int32) (x2 : Int32) (ν : XN) (Q : Int32 → XN → Prop) : Prop :=
  ∀ X15 : Int32 → Int32 → XN → Prop, (∀ (x1 : Int32) (x2 : Int32) (ν : XN), (xw_X0_people ν (fun r4 ν3 => ((((1 : Int32) <<< (r4 &&& 31)) ≤ x2 → xw_X0_rest_83 VA TA (-1 : Int32) (0 : Int32) ν3 Q) ∧ (¬ ((1 : Int32) <<< (r4 &&& 31)) ≤ x2 → (xw_X0_silently VA TA x2 x1 ν3 (fun r6 ν5 => xw_X0_rest_34 VA TA X15 x1 x2 (0 : Int32) ν5 Q)))))) → X15 x1 x2 ν) → X15 x1 x2 ν
theorem xt_X0_rest_15 {κ : Cx} {S : Adr} {A : Nat → Prop} {Z : State → Prop} {Q : Int32 → XN → Prop} {dV : Nat} {VA : Nat → Nat → XN → (Int64 → XN → Prop) → Prop} {TA : Nat → Nat → XN → (Int32 → XN → Prop) → Prop} (hV : HVT S A dV VA TA) (h : XCx κ cX0_rest RX0 S A (dV + 11) 0 0) (hT : (cxT κ).sig.returnType = some .int) (hN : (cxT κ).name = "rest") (hR : xRet κ S A 0 0 Z cX0_rest (pI Q)) {x1 : Int32} {x2 : Int32} {ν : XN} (hw : xw_X0_rest_15 VA TA x1 x2 ν Q) : XG κ S A 0 0 Z 15 (ν, 0, 0) [some (.ref (S.2.1 0)), some (.int x1), some (.int x2), none] [] := by
  refine hw (fun x1 x2 ν => XG κ S A 0 0 Z 15 (ν, 0, 0) [some (.ref (S.2.1 0)), some (.int x1), some (.int x2), none] []) ?_
  clear hw
  intro x1 x2 ν hw
  have hX15 : ∀ (x1 : Int32) (x2 : Int32) (ν : XN), XG κ S A 0 0 Z 15 (ν, 0, 0) [some (.ref (S.2.1 0)), some (.int x1), some (.int x2), none] [] → XG κ S A 0 0 Z 15 (ν, 0, 0) [some (.ref (S.2.1 0)), some (.int x1), some (.int x2), none] [] := fun _ _ _ hh => hh
  refine g_iload_2 15 h.1 dX0_rest_15 ?_
  refine g_iconstv 16 _ ic_1 h.1 dX0_rest_16 ?_
  refine g_aload_0 17 h.1 dX0_rest_17 ?_
  refine xcV_I_0 18 h (xm_X0_people h.2.2.1 hw) (by omega) (Nat.le_of_eq (Nat.zero_add _)) (Nat.le_of_eq (Nat.zero_add _)) q1284 qs38 (fun H hI => x_recvK h rfl rfl hI) q1303 (Nat.le_of_ble_eq_true rfl) dX0_rest_18 (fun r4 ν3 hw => ?_)
  refine g_ishl 21 h.1 dX0_rest_21 ?_
  refine g_icmp_ge 22 79 h.1 dX0_rest_22 (by decide) (fun c => ?_) (fun c => ?_)
  · have hw := hw.1 c
    refine g_iconstv 79 _ ic_m1 h.1 dX0_rest_79 ?_
    refine g_istore_2 80 h.1 rfl dX0_rest_80 ?_
    refine g_iconstv 81 _ ic_0 h.1 dX0_rest_81 ?_
    refine g_istore_3 82 h.1 rfl dX0_rest_82 ?_
    exact g_le (xt_X0_rest_83 hV h hT hN hR hw) ⟨rfl, rfl, rfl, trivial⟩
  · have hw := hw.2 c
    refine g_aload_0 25 h.1 dX0_rest_25 ?_
    refine g_iload_2 26 h.1 dX0_rest_26 ?_
    refine g_iload_1 27 h.1 dX0_rest_27 ?_
    refine xcV_K_2 28 h (xm_X0_silently hV h.2.2.1 hw) (by omega) (Nat.le_of_eq (Nat.zero_add _)) (Nat.le_of_eq (Nat.zero_add _)) q1591 qs57 (fun H hI => x_recvK h rfl rfl hI) q1589 (Nat.le_of_ble_eq_true rfl) dX0_rest_28 (fun r6 ν5 hw => ?_)
    refine g_pop 31 rfl h.1 dX0_rest_31 ?_
    refine g_iconstv 32 _ ic_0 h.1 dX0_rest_32 ?_
    refine g_istore_3 33 h.1 rfl dX0_rest_33 ?_
    exact g_le (xt_X0_rest_34 hV h hT hN hR hX15 hw) ⟨rfl, rfl, rfl, rfl, trivial⟩
def xw_X0_rest (VA : Nat → Nat → XN → (Int64 → XN → Prop) → Prop) (TA : Nat → Nat → XN → (Int32 → XN → Prop) → Prop) (x1 : Int32) (ν : XN) (Q : Int32 → XN → Prop) : Prop :=
  (xw_X0_isAhead x1 (1 : Int32) (20 : Int32) ν (fun r2 ν1 => ((¬ r2 = 0 → xw_X0_rest_15 VA TA x1 (0 : Int32) ν1 Q) ∧ (r2 = 0 → Q (-1 : Int32) ν1))))
theorem xt_X0_rest {κ : Cx} {S : Adr} {A : Nat → Prop} {Z : State → Prop} {Q : Int32 → XN → Prop} {dV : Nat} {VA : Nat → Nat → XN → (Int64 → XN → Prop) → Prop} {TA : Nat → Nat → XN → (Int32 → XN → Prop) → Prop} (hV : HVT S A dV VA TA) (h : XCx κ cX0_rest RX0 S A (dV + 11) 0 0) (hT : (cxT κ).sig.returnType = some .int) (hN : (cxT κ).name = "rest") (hR : xRet κ S A 0 0 Z cX0_rest (pI Q)) {x1 : Int32} {ν : XN} (hw : xw_X0_rest VA TA x1 ν Q) : XG κ S A 0 0 Z 0 (ν, 0, 0) [some (.ref (S.2.1 0)), some (.int x1), none, none] [] := by
  unfold xw_X0_rest at hw
  refine g_aload_0 0 h.1 dX0_rest_0 ?_
  refine g_iload_1 1 h.1 dX0_rest_1 ?_
  refine g_iconstv 2 _ ic_1 h.1 dX0_rest_2 ?_
  refine g_bipush 3 _ bp_20 h.1 dX0_rest_3 ?_
  refine xcV_I_3 5 h (xm_X0_isAhead h.2.2.1 hw) (by omega) (Nat.le_of_eq (Nat.zero_add _)) (Nat.le_of_eq (Nat.zero_add _)) q1508 qs51 (fun H hI => x_recvK h rfl rfl hI) q1506 (Nat.le_of_ble_eq_true rfl) dX0_rest_5 (fun r2 ν1 hw => ?_)
  refine g_if_ne 8 13 h.1 dX0_rest_8 (by decide) (fun c => ?_) (fun c => ?_)
  · have hw := hw.1 c
    refine g_iconstv 13 _ ic_0 h.1 dX0_rest_13 ?_
    refine g_istore_2 14 h.1 rfl dX0_rest_14 ?_
    exact g_le (xt_X0_rest_15 hV h hT hN hR hw) ⟨rfl, rfl, rfl, trivial⟩
  · have hw := hw.2 c
    refine g_iconstv 11 _ ic_m1 h.1 dX0_rest_11 ?_
    exact hR.1 12 _ _ _ _ _ _ hT rfl dX0_rest_12 ⟨_, rfl, hw⟩
theorem xm_X0_rest {l : Launch} {S : Adr} {A : Nat → Prop} {dV : Nat} {VA : Nat → Nat → XN → (Int64 → XN → Prop) → Prop} {TA : Nat → Nat → XN → (Int32 → XN → Prop) → Prop} (hV : HVT S A dV VA TA) (hD : FD xT S xcl A) {x1 : Int32} {ν : XN} {Q : Int32 → XN → Prop} (hw : xw_X0_rest VA TA x1 ν Q) : xMet l S A (dV + 11) 0 0 1 yX0_rest [.ref (S.2.1 0), .int x1] ν (pI Q) :=
  x_met (plainFor_of_name (by decide)) hD ⟨⟨by decide, by decide, by show _ = some 1; decide +kernel⟩, by decide, q1596, q171⟩ (Nat.le_of_ble_eq_true rfl) (fun κ Z h hT hN hR => xt_X0_rest hV h hT hN hR hw)
def xw_X0_rises_26 (VA : Nat → Nat → XN → (Int64 → XN → Prop) → Prop) (TA : Nat → Nat → XN → (Int32 → XN → Prop) → Prop) (x1 : Int32) (x2 : Int32) (x3 : Int32) (x4 : Int32) (ν : XN) (Q : Int32 → XN → Prop) : Prop :=
  ∀ X26 : Int32 → Int32 → Int32 → Int32 → XN → Prop, (∀ (x1 : Int32) (x2 : Int32) (x3 : Int32) (x4 : Int32) (ν : XN), (xw_X0_isAhead x4 (0 : Int32) (60 : Int32) ν (fun r6 ν5 => ((r6 = 0 → Q (-1 : Int32) ν5) ∧ (¬ r6 = 0 → (xok 1 (xft 11 3) ∧ (vp_in (((8 : Int32) * x2) + x1) (xlen (xft 11 3)) ∧ (((fA ν5.1 (xft 11 3) (Int32.toNatClampNeg (((8 : Int32) * x2) + x1))) < x3 → (xw_X5_passes VA TA 11 ν5 (fun r10 ν9 => X26 x1 x2 x3 (x4 + 1) ν9))) ∧ (¬ (fA ν5.1 (xft 11 3) (Int32.toNatClampNeg (((8 : Int32) * x2) + x1))) < x3 → Q x4 ν5)))))))) → X26 x1 x2 x3 x4 ν) → X26 x1 x2 x3 x4 ν
theorem xt_X0_rises_26 {κ : Cx} {S : Adr} {A : Nat → Prop} {Z : State → Prop} {Q : Int32 → XN → Prop} {dV : Nat} {VA : Nat → Nat → XN → (Int64 → XN → Prop) → Prop} {TA : Nat → Nat → XN → (Int32 → XN → Prop) → Prop} (hV : HVT S A dV VA TA) (h : XCx κ cX0_rises RX0 S A (dV + 9) 0 0) (hT : (cxT κ).sig.returnType = some .int) (hN : (cxT κ).name = "rises") (hR : xRet κ S A 0 0 Z cX0_rises (pI Q)) {x1 : Int32} {x2 : Int32} {x3 : Int32} {x4 : Int32} {ν : XN} (hw : xw_X0_rises_26 VA TA x1 x2 x3 x4 ν Q) : XG κ S A 0 0 Z 26 (ν, 0, 0) [some (.ref (S.2.1 0)), some (.int x1), some (.int x2), some (.int x3), some (.int x4)] [] := by
  refine hw (fun x1 x2 x3 x4 ν => XG κ S A 0 0 Z 26 (ν, 0, 0) [some (.ref (S.2.1 0)), some (.int x1), some (.int x2), some (.int x3), some (.int x4)] []) ?_
  clear hw
  intro x1 x2 x3 x4 ν hw
  have hX26 : ∀ (x1 : Int32) (x2 : Int32) (x3 : Int32) (x4 : Int32) (ν : XN), XG κ S A 0 0 Z 26 (ν, 0, 0) [some (.ref (S.2.1 0)), some (.int x1), some (.int x2), some (.int x3), some (.int x4)] [] → XG κ S A 0 0 Z 26 (ν, 0, 0) [some (.ref (S.2.1 0)), some (.int x1), some (.int x2), some (.int x3), some (.int x4)] [] := fun _ _ _ _ _ hh => hh
  refine g_aload_0 26 h.1 dX0_rises_26 ?_
  refine g_iload_4 27 h.1 dX0_rises_27 ?_
  refine g_iconstv 29 _ ic_0 h.1 dX0_rises_29 ?_
  refine g_bipush 30 _ bp_60 h.1 dX0_rises_30 ?_
  refine xcV_I_3 32 h (xm_X0_isAhead h.2.2.1 hw) (by omega) (Nat.le_of_eq (Nat.zero_add _)) (Nat.le_of_eq (Nat.zero_add _)) q1508 qs51 (fun H hI => x_recvK h rfl rfl hI) q1506 (Nat.le_of_ble_eq_true rfl) dX0_rises_32 (fun r6 ν5 hw => ?_)
  refine g_if_eq 35 73 h.1 dX0_rises_35 (by decide) (fun c => ?_) (fun c => ?_)
  · have hw := hw.1 c
    refine g_iconstv 73 _ ic_m1 h.1 dX0_rises_73 ?_
    exact hR.1 74 _ _ _ _ _ _ hT rfl dX0_rises_74 ⟨_, rfl, hw⟩
  · have hw := hw.2 c
    refine g_aload_0 38 h.1 dX0_rises_38 ?_
    refine xg_X0_73_0 39 h dX0_rises_39 ?_
    refine xg_X0_198_5 42 rfl h dX0_rises_42 ?_
    refine g_bipush 45 _ bp_8 h.1 dX0_rises_45 ?_
    refine g_iload_2 47 h.1 dX0_rises_47 ?_
    refine g_imul 48 h.1 dX0_rises_48 ?_
    refine g_iload_1 49 h.1 dX0_rises_49 ?_
    refine g_iadd 50 h.1 dX0_rises_50 ?_
    obtain ⟨f7, hw⟩ := hw
    obtain ⟨f8, hw⟩ := hw
    refine xa_iald 51 f7 f8 h dX0_rises_51 ?_
    refine g_iload_3 52 h.1 dX0_rises_52 ?_
    refine g_icmp_lt 53 59 h.1 dX0_rises_53 (by decide) (fun c => ?_) (fun c => ?_)
    · have hw := hw.1 c
      refine g_aload_0 59 h.1 dX0_rises_59 ?_
      refine xg_X0_73_0 60 h dX0_rises_60 ?_
      refine xcV_I_0 63 h (xm_X5_passes hV h.2.2.1 hw) (by omega) (Nat.le_of_eq (Nat.zero_add _)) (Nat.le_of_eq (Nat.zero_add _)) q1519 q1520 (fun H hI => x_recvK h rfl rfl hI) q1546 (Nat.le_of_ble_eq_true rfl) dX0_rises_63 (fun r10 ν9 hw => ?_)
      refine g_pop 66 rfl h.1 dX0_rises_66 ?_
      refine g_iinc_4 67 (x4 + 1) (congrArg _ ic_1) h.1 rfl dX0_rises_67 ?_
      refine g_goto 70 26 h.1 dX0_rises_70 (by decide) ?_
      exact g_le (hX26 _ _ _ _ _ hw) ⟨rfl, rfl, rfl, rfl, rfl, trivial⟩
    · have hw := hw.2 c
      refine g_iload_4 56 h.1 dX0_rises_56 ?_
      exact hR.1 58 _ _ _ _ _ _ hT rfl dX0_rises_58 ⟨_, rfl, hw⟩
def xw_X0_rises (VA : Nat → Nat → XN → (Int64 → XN → Prop) → Prop) (TA : Nat → Nat → XN → (Int32 → XN → Prop) → Prop) (x1 : Int32) (x2 : Int32) (x3 : Int32) (ν : XN) (Q : Int32 → XN → Prop) : Prop :=
  (xw_X0_isIn x1 x2 ν (fun r2 ν1 => ((¬ r2 = 0 → (xw_X5_copy 11 10 ν1 (fun r4 ν3 => xw_X0_rises_26 VA TA x1 x2 x3 (0 : Int32) ν3 Q))) ∧ (r2 = 0 → Q (-1 : Int32) ν1))))
theorem xt_X0_rises {κ : Cx} {S : Adr} {A : Nat → Prop} {Z : State → Prop} {Q : Int32 → XN → Prop} {dV : Nat} {VA : Nat → Nat → XN → (Int64 → XN → Prop) → Prop} {TA : Nat → Nat → XN → (Int32 → XN → Prop) → Prop} (hV : HVT S A dV VA TA) (h : XCx κ cX0_rises RX0 S A (dV + 9) 0 0) (hT : (cxT κ).sig.returnType = some .int) (hN : (cxT κ).name = "rises") (hR : xRet κ S A 0 0 Z cX0_rises (pI Q)) {x1 : Int32} {x2 : Int32} {x3 : Int32} {ν : XN} (hw : xw_X0_rises VA TA x1 x2 x3 ν Q) : XG κ S A 0 0 Z 0 (ν, 0, 0) [some (.ref (S.2.1 0)), some (.int x1), some (.int x2), some (.int x3), none] [] := by
  unfold xw_X0_rises at hw
  refine g_aload_0 0 h.1 dX0_rises_0 ?_
  refine g_iload_1 1 h.1 dX0_rises_1 ?_
  refine g_iload_2 2 h.1 dX0_rises_2 ?_
  refine xcV_I_2 3 h (xm_X0_isIn h.2.2.1 hw) (by omega) (Nat.le_of_eq (Nat.zero_add _)) (Nat.le_of_eq (Nat.zero_add _)) q1310 qs41 (fun H hI => x_recvK h rfl rfl hI) q1308 (Nat.le_of_ble_eq_true rfl) dX0_rises_3 (fun r2 ν1 hw => ?_)
  refine g_if_ne 6 11 h.1 dX0_rises_6 (by decide) (fun c => ?_) (fun c => ?_)
  · have hw := hw.1 c
    refine g_aload_0 11 h.1 dX0_rises_11 ?_
    refine xg_X0_73_0 12 h dX0_rises_12 ?_
    refine g_aload_0 15 h.1 dX0_rises_15 ?_
    refine xg_X0_69_0 16 h dX0_rises_16 ?_
    refine xcV_K_1 19 h (xm_X5_copy h.2.2.1 hw) (by omega) (Nat.le_of_eq (Nat.zero_add _)) (Nat.le_of_eq (Nat.zero_add _)) q1436 q1437 (fun H hI => x_recvK h rfl rfl hI) q1435 (Nat.le_of_ble_eq_true rfl) dX0_rises_19 (fun r4 ν3 hw => ?_)
    refine g_pop 22 rfl h.1 dX0_rises_22 ?_
    refine g_iconstv 23 _ ic_0 h.1 dX0_rises_23 ?_
    refine g_istore_4 24 h.1 rfl dX0_rises_24 ?_
    exact g_le (xt_X0_rises_26 hV h hT hN hR hw) ⟨rfl, rfl, rfl, rfl, rfl, trivial⟩
  · have hw := hw.2 c
    refine g_iconstv 9 _ ic_m1 h.1 dX0_rises_9 ?_
    exact hR.1 10 _ _ _ _ _ _ hT rfl dX0_rises_10 ⟨_, rfl, hw⟩
theorem xm_X0_rises {l : Launch} {S : Adr} {A : Nat → Prop} {dV : Nat} {VA : Nat → Nat → XN → (Int64 → XN → Prop) → Prop} {TA : Nat → Nat → XN → (Int32 → XN → Prop) → Prop} (hV : HVT S A dV VA TA) (hD : FD xT S xcl A) {x1 : Int32} {x2 : Int32} {x3 : Int32} {ν : XN} {Q : Int32 → XN → Prop} (hw : xw_X0_rises VA TA x1 x2 x3 ν Q) : xMet l S A (dV + 9) 0 0 3 yX0_rises [.ref (S.2.1 0), .int x1, .int x2, .int x3] ν (pI Q) :=
  x_met (plainFor_of_name (by decide)) hD ⟨⟨by decide, by decide, by show _ = some 3; decide +kernel⟩, by decide, q1545, q171⟩ (Nat.le_of_ble_eq_true rfl) (fun κ Z h hT hN hR => xt_X0_rises hV h hT hN hR hw)
def xw_X0_see_86 (X29 : Int32 → Int32 → Int32 → XN → Prop) (x1 : Int32) (x3 : Int32) (y0 : Int32) (ν : XN) (Q : Int32 → XN → Prop) : Prop :=
  X29 x1 y0 (x3 + 4) ν
theorem xt_X0_see_86 {κ : Cx} {S : Adr} {A : Nat → Prop} {Z : State → Prop} {Q : Int32 → XN → Prop} (h : XCx κ cX0_see RX0 S A 3 0 0) (hT : (cxT κ).sig.returnType = some .int) (hN : (cxT κ).name = "see") (hR : xRet κ S A 0 0 Z cX0_see (pI Q)) {X29 : Int32 → Int32 → Int32 → XN → Prop} (hX29 : ∀ (x1 : Int32) (x2 : Int32) (x3 : Int32) (ν : XN), X29 x1 x2 x3 ν → XG κ S A 0 0 Z 29 (ν, 0, 0) [some (.ref (S.2.1 0)), some (.int x1), some (.int x2), some (.int x3)] []) {x1 : Int32} {x3 : Int32} {y0 : Int32} {ν : XN} (hw : xw_X0_see_86 X29 x1 x3 y0 ν Q) : XG κ S A 0 0 Z 86 (ν, 0, 0) [some (.ref (S.2.1 0)), some (.int x1), none, some (.int x3)] [.int y0] := by
  unfold xw_X0_see_86 at hw
  refine g_istore_2 86 h.1 rfl dX0_see_86 ?_
  refine g_iinc_3 87 (x3 + 4) (congrArg _ ic_4) h.1 rfl dX0_see_87 ?_
  refine g_goto 90 29 h.1 dX0_see_90 (by decide) ?_
  exact g_le (hX29 _ _ _ _ hw) ⟨rfl, rfl, rfl, rfl, trivial⟩
def xw_X0_see_85 (X29 : Int32 → Int32 → Int32 → XN → Prop) (x1 : Int32) (x3 : Int32) (ν : XN) (Q : Int32 → XN → Prop) : Prop :=
  xw_X0_see_86 X29 x1 x3 (0 : Int32) ν Q
theorem xt_X0_see_85 {κ : Cx} {S : Adr} {A : Nat → Prop} {Z : State → Prop} {Q : Int32 → XN → Prop} (h : XCx κ cX0_see RX0 S A 3 0 0) (hT : (cxT κ).sig.returnType = some .int) (hN : (cxT κ).name = "see") (hR : xRet κ S A 0 0 Z cX0_see (pI Q)) {X29 : Int32 → Int32 → Int32 → XN → Prop} (hX29 : ∀ (x1 : Int32) (x2 : Int32) (x3 : Int32) (ν : XN), X29 x1 x2 x3 ν → XG κ S A 0 0 Z 29 (ν, 0, 0) [some (.ref (S.2.1 0)), some (.int x1), some (.int x2), some (.int x3)] []) {x1 : Int32} {x3 : Int32} {ν : XN} (hw : xw_X0_see_85 X29 x1 x3 ν Q) : XG κ S A 0 0 Z 85 (ν, 0, 0) [some (.ref (S.2.1 0)), some (.int x1), none, some (.int x3)] [] := by
  unfold xw_X0_see_85 at hw
  refine g_iconstv 85 _ ic_0 h.1 dX0_see_85 ?_
  exact g_le (xt_X0_see_86 h hT hN hR hX29 hw) ⟨rfl, rfl, rfl, trivial⟩
def xw_X0_see_112 (x3 : Int32) (ν : XN) (Q : Int32 → XN → Prop) : Prop :=
  ∀ X112 : Int32 → XN → Prop, (∀ (x3 : Int32) (ν : XN), (((fI ν.1 0 18) ≤ x3 → Q (fI ν.1 0 18) ν) ∧ (¬ (fI ν.1 0 18) ≤ x3 → (xw_X0_byteAt ((4 : Int32) * x3) ν (fun r18 ν17 => (vp_in x3 16 ∧ (∀ ν19, ν19 = (sA ν17.1 6 (Int32.toNatClampNeg x3) r18, ν17.2) → (xw_X0_byteAt (((4 : Int32) * x3) + (2 : Int32)) ν19 (fun r23 ν22 => (xw_X0_byteAt (((4 : Int32) * x3) + (1 : Int32)) ν22 (fun r25 ν24 => (vp_in x3 16 ∧ (∀ ν26, ν26 = (sA ν24.1 7 (Int32.toNatClampNeg x3) (((8 : Int32) * r23) + r25), ν24.2) → (xw_X0_byteAt (((4 : Int32) * x3) + (3 : Int32)) ν26 (fun r30 ν29 => (vp_in x3 16 ∧ (∀ ν31, ν31 = (sA ν29.1 8 (Int32.toNatClampNeg x3) r30, ν29.2) → X112 (x3 + 1) ν31)))))))))))))))) → X112 x3 ν) → X112 x3 ν
theorem xt_X0_see_112 {κ : Cx} {S : Adr} {A : Nat → Prop} {Z : State → Prop} {Q : Int32 → XN → Prop} (h : XCx κ cX0_see RX0 S A 3 0 0) (hT : (cxT κ).sig.returnType = some .int) (hN : (cxT κ).name = "see") (hR : xRet κ S A 0 0 Z cX0_see (pI Q)) {x3 : Int32} {ν : XN} (hw : xw_X0_see_112 x3 ν Q) : XG κ S A 0 0 Z 112 (ν, 0, 0) [some (.ref (S.2.1 0)), none, none, some (.int x3)] [] := by
  refine hw (fun x3 ν => XG κ S A 0 0 Z 112 (ν, 0, 0) [some (.ref (S.2.1 0)), none, none, some (.int x3)] []) ?_
  clear hw
  intro x3 ν hw
  have hX112 : ∀ (x3 : Int32) (ν : XN), XG κ S A 0 0 Z 112 (ν, 0, 0) [some (.ref (S.2.1 0)), none, none, some (.int x3)] [] → XG κ S A 0 0 Z 112 (ν, 0, 0) [some (.ref (S.2.1 0)), none, none, some (.int x3)] [] := fun _ _ hh => hh
  refine g_iload_3 112 h.1 dX0_see_112 ?_
  refine g_aload_0 113 h.1 dX0_see_113 ?_
  refine xg_X0_151_0 114 h dX0_see_114 ?_
  refine g_icmp_ge 117 182 h.1 dX0_see_117 (by decide) (fun c => ?_) (fun c => ?_)
  · have hw := hw.1 c
    refine g_aload_0 182 h.1 dX0_see_182 ?_
    refine xg_X0_151_0 183 h dX0_see_183 ?_
    exact hR.1 186 _ _ _ _ _ _ hT rfl dX0_see_186 ⟨_, rfl, hw⟩
  · have hw := hw.2 c
    refine g_aload_0 120 h.1 dX0_see_120 ?_
    refine xg_X0_91_0 121 h dX0_see_121 ?_
    refine g_iload_3 124 h.1 dX0_see_124 ?_
    refine g_aload_0 125 h.1 dX0_see_125 ?_
    refine g_iconstv 126 _ ic_4 h.1 dX0_see_126 ?_
    refine g_iload_3 127 h.1 dX0_see_127 ?_
    refine g_imul 128 h.1 dX0_see_128 ?_
    refine xcV_I_1 129 h (xm_X0_byteAt h.2.2.1 hw) (by decide) (Nat.le_of_eq (Nat.zero_add _)) (Nat.le_of_eq (Nat.zero_add _)) q1607 qs59 (fun H hI => x_recvK h rfl rfl hI) q1605 (Nat.le_of_ble_eq_true rfl) dX0_see_129 (fun r18 ν17 hw => ?_)
    obtain ⟨f21, hw⟩ := hw
    refine xa_iast 132 rfl f21 h dX0_see_132 (fun ν19 e20 => ?_)
    have hw := hw ν19 e20
    refine g_aload_0 133 h.1 dX0_see_133 ?_
    refine xg_X0_94_0 134 h dX0_see_134 ?_
    refine g_iload_3 137 h.1 dX0_see_137 ?_
    refine g_bipush 138 _ bp_8 h.1 dX0_see_138 ?_
    refine g_aload_0 140 h.1 dX0_see_140 ?_
    refine g_iconstv 141 _ ic_4 h.1 dX0_see_141 ?_
    refine g_iload_3 142 h.1 dX0_see_142 ?_
    refine g_imul 143 h.1 dX0_see_143 ?_
    refine g_iconstv 144 _ ic_2 h.1 dX0_see_144 ?_
    refine g_iadd 145 h.1 dX0_see_145 ?_
    refine xcV_I_1 146 h (xm_X0_byteAt h.2.2.1 hw) (by decide) (Nat.le_of_eq (Nat.zero_add _)) (Nat.le_of_eq (Nat.zero_add _)) q1607 qs59 (fun H hI => x_recvK h rfl rfl hI) q1605 (Nat.le_of_ble_eq_true rfl) dX0_see_146 (fun r23 ν22 hw => ?_)
    refine g_imul 149 h.1 dX0_see_149 ?_
    refine g_aload_0 150 h.1 dX0_see_150 ?_
    refine g_iconstv 151 _ ic_4 h.1 dX0_see_151 ?_
    refine g_iload_3 152 h.1 dX0_see_152 ?_
    refine g_imul 153 h.1 dX0_see_153 ?_
    refine g_iconstv 154 _ ic_1 h.1 dX0_see_154 ?_
    refine g_iadd 155 h.1 dX0_see_155 ?_
    refine xcV_I_1 156 h (xm_X0_byteAt h.2.2.1 hw) (by decide) (Nat.le_of_eq (Nat.zero_add _)) (Nat.le_of_eq (Nat.zero_add _)) q1607 qs59 (fun H hI => x_recvK h rfl rfl hI) q1605 (Nat.le_of_ble_eq_true rfl) dX0_see_156 (fun r25 ν24 hw => ?_)
    refine g_iadd 159 h.1 dX0_see_159 ?_
    obtain ⟨f28, hw⟩ := hw
    refine xa_iast 160 rfl f28 h dX0_see_160 (fun ν26 e27 => ?_)
    have hw := hw ν26 e27
    refine g_aload_0 161 h.1 dX0_see_161 ?_
    refine xg_X0_97_0 162 h dX0_see_162 ?_
    refine g_iload_3 165 h.1 dX0_see_165 ?_
    refine g_aload_0 166 h.1 dX0_see_166 ?_
    refine g_iconstv 167 _ ic_4 h.1 dX0_see_167 ?_
    refine g_iload_3 168 h.1 dX0_see_168 ?_
    refine g_imul 169 h.1 dX0_see_169 ?_
    refine g_iconstv 170 _ ic_3 h.1 dX0_see_170 ?_
    refine g_iadd 171 h.1 dX0_see_171 ?_
    refine xcV_I_1 172 h (xm_X0_byteAt h.2.2.1 hw) (by decide) (Nat.le_of_eq (Nat.zero_add _)) (Nat.le_of_eq (Nat.zero_add _)) q1607 qs59 (fun H hI => x_recvK h rfl rfl hI) q1605 (Nat.le_of_ble_eq_true rfl) dX0_see_172 (fun r30 ν29 hw => ?_)
    obtain ⟨f33, hw⟩ := hw
    refine xa_iast 175 rfl f33 h dX0_see_175 (fun ν31 e32 => ?_)
    have hw := hw ν31 e32
    refine g_iinc_3 176 (x3 + 1) (congrArg _ ic_1) h.1 rfl dX0_see_176 ?_
    refine g_goto 179 112 h.1 dX0_see_179 (by decide) ?_
    exact g_le (hX112 _ _ hw) ⟨rfl, rfl, trivial⟩
def xw_X0_see_93 (x1 : Int32) (x2 : Int32) (ν : XN) (Q : Int32 → XN → Prop) : Prop :=
  ((¬ x2 = 0 → (∀ ν13, ν13 = (sI ν.1 0 18 (x1 / (4 : Int32)), ν.2) → xw_X0_see_112 (0 : Int32) ν13 Q)) ∧ (x2 = 0 → (xw_X0_refuses (1 : Int32) ν (fun r16 ν15 => Q r16 ν15))))
theorem xt_X0_see_93 {κ : Cx} {S : Adr} {A : Nat → Prop} {Z : State → Prop} {Q : Int32 → XN → Prop} (h : XCx κ cX0_see RX0 S A 3 0 0) (hT : (cxT κ).sig.returnType = some .int) (hN : (cxT κ).name = "see") (hR : xRet κ S A 0 0 Z cX0_see (pI Q)) {x1 : Int32} {x2 : Int32} {ν : XN} (hw : xw_X0_see_93 x1 x2 ν Q) : XG κ S A 0 0 Z 93 (ν, 0, 0) [some (.ref (S.2.1 0)), some (.int x1), some (.int x2), none] [] := by
  unfold xw_X0_see_93 at hw
  refine g_iload_2 93 h.1 dX0_see_93 ?_
  refine g_if_ne 94 103 h.1 dX0_see_94 (by decide) (fun c => ?_) (fun c => ?_)
  · have hw := hw.1 c
    refine g_aload_0 103 h.1 dX0_see_103 ?_
    refine g_iload_1 104 h.1 dX0_see_104 ?_
    refine g_iconstv 105 _ ic_4 h.1 dX0_see_105 ?_
    refine g_idiv 106 (by decide) h.1 dX0_see_106 ?_
    refine xp_X0_151_0 107 h dX0_see_107 (fun ν13 e14 => ?_)
    have hw := hw ν13 e14
    refine g_iconstv 110 _ ic_0 h.1 dX0_see_110 ?_
    refine g_istore_3 111 h.1 rfl dX0_see_111 ?_
    exact g_le (xt_X0_see_112 h hT hN hR hw) ⟨rfl, rfl, trivial⟩
  · have hw := hw.2 c
    refine g_aload_0 97 h.1 dX0_see_97 ?_
    refine g_iconstv 98 _ ic_1 h.1 dX0_see_98 ?_
    refine xcV_I_1 99 h (xm_X0_refuses h.2.2.1 hw) (by decide) (Nat.le_of_eq (Nat.zero_add _)) (Nat.le_of_eq (Nat.zero_add _)) q559 qs1 (fun H hI => x_recvK h rfl rfl hI) q557 (Nat.le_of_ble_eq_true rfl) dX0_see_99 (fun r16 ν15 hw => ?_)
    exact hR.1 102 _ _ _ _ _ _ hT rfl dX0_see_102 ⟨_, rfl, hw⟩
def xw_X0_see_29 (x1 : Int32) (x2 : Int32) (x3 : Int32) (ν : XN) (Q : Int32 → XN → Prop) : Prop :=
  ∀ X29 : Int32 → Int32 → Int32 → XN → Prop, (∀ (x1 : Int32) (x2 : Int32) (x3 : Int32) (ν : XN), ((x1 ≤ x3 → xw_X0_see_93 x1 x2 ν Q) ∧ (¬ x1 ≤ x3 → ((x2 = 0 → xw_X0_see_93 x1 x2 ν Q) ∧ (¬ x2 = 0 → (xw_X0_byteAt x3 ν (fun r4 ν3 => (((30 : Int32) < r4 → xw_X0_see_85 X29 x1 x3 ν3 Q) ∧ (¬ (30 : Int32) < r4 → (xw_X0_byteAt (x3 + (1 : Int32)) ν3 (fun r6 ν5 => (xw_X0_byteAt (x3 + (2 : Int32)) ν5 (fun r8 ν7 => (xw_X0_isIn r6 r8 ν7 (fun r10 ν9 => ((r10 = 0 → xw_X0_see_85 X29 x1 x3 ν9 Q) ∧ (¬ r10 = 0 → (xw_X0_byteAt (x3 + (3 : Int32)) ν9 (fun r12 ν11 => (((99 : Int32) < r12 → xw_X0_see_85 X29 x1 x3 ν11 Q) ∧ (¬ (99 : Int32) < r12 → xw_X0_see_86 X29 x1 x3 (1 : Int32) ν11 Q)))))))))))))))))))) → X29 x1 x2 x3 ν) → X29 x1 x2 x3 ν
theorem xt_X0_see_29 {κ : Cx} {S : Adr} {A : Nat → Prop} {Z : State → Prop} {Q : Int32 → XN → Prop} (h : XCx κ cX0_see RX0 S A 3 0 0) (hT : (cxT κ).sig.returnType = some .int) (hN : (cxT κ).name = "see") (hR : xRet κ S A 0 0 Z cX0_see (pI Q)) {x1 : Int32} {x2 : Int32} {x3 : Int32} {ν : XN} (hw : xw_X0_see_29 x1 x2 x3 ν Q) : XG κ S A 0 0 Z 29 (ν, 0, 0) [some (.ref (S.2.1 0)), some (.int x1), some (.int x2), some (.int x3)] [] := by
  refine hw (fun x1 x2 x3 ν => XG κ S A 0 0 Z 29 (ν, 0, 0) [some (.ref (S.2.1 0)), some (.int x1), some (.int x2), some (.int x3)] []) ?_
  clear hw
  intro x1 x2 x3 ν hw
  have hX29 : ∀ (x1 : Int32) (x2 : Int32) (x3 : Int32) (ν : XN), XG κ S A 0 0 Z 29 (ν, 0, 0) [some (.ref (S.2.1 0)), some (.int x1), some (.int x2), some (.int x3)] [] → XG κ S A 0 0 Z 29 (ν, 0, 0) [some (.ref (S.2.1 0)), some (.int x1), some (.int x2), some (.int x3)] [] := fun _ _ _ _ hh => hh
  refine g_iload_3 29 h.1 dX0_see_29 ?_
  refine g_iload_1 30 h.1 dX0_see_30 ?_
  refine g_icmp_ge 31 93 h.1 dX0_see_31 (by decide) (fun c => ?_) (fun c => ?_)
  · have hw := hw.1 c
    exact g_le (xt_X0_see_93 h hT hN hR hw) ⟨rfl, rfl, rfl, trivial⟩
  · have hw := hw.2 c
    refine g_iload_2 34 h.1 dX0_see_34 ?_
    refine g_if_eq 35 93 h.1 dX0_see_35 (by decide) (fun c => ?_) (fun c => ?_)
    · have hw := hw.1 c
      exact g_le (xt_X0_see_93 h hT hN hR hw) ⟨rfl, rfl, rfl, trivial⟩
    · have hw := hw.2 c
      refine g_aload_0 38 h.1 dX0_see_38 ?_
      refine g_iload_3 39 h.1 dX0_see_39 ?_
      refine xcV_I_1 40 h (xm_X0_byteAt h.2.2.1 hw) (by decide) (Nat.le_of_eq (Nat.zero_add _)) (Nat.le_of_eq (Nat.zero_add _)) q1607 qs59 (fun H hI => x_recvK h rfl rfl hI) q1605 (Nat.le_of_ble_eq_true rfl) dX0_see_40 (fun r4 ν3 hw => ?_)
      refine g_bipush 43 _ bp_30 h.1 dX0_see_43 ?_
      refine g_icmp_gt 45 85 h.1 dX0_see_45 (by decide) (fun c => ?_) (fun c => ?_)
      · have hw := hw.1 c
        exact g_le (xt_X0_see_85 h hT hN hR hX29 hw) ⟨rfl, rfl, rfl, trivial⟩
      · have hw := hw.2 c
        refine g_aload_0 48 h.1 dX0_see_48 ?_
        refine g_aload_0 49 h.1 dX0_see_49 ?_
        refine g_iload_3 50 h.1 dX0_see_50 ?_
        refine g_iconstv 51 _ ic_1 h.1 dX0_see_51 ?_
        refine g_iadd 52 h.1 dX0_see_52 ?_
        refine xcV_I_1 53 h (xm_X0_byteAt h.2.2.1 hw) (by decide) (Nat.le_of_eq (Nat.zero_add _)) (Nat.le_of_eq (Nat.zero_add _)) q1607 qs59 (fun H hI => x_recvK h rfl rfl hI) q1605 (Nat.le_of_ble_eq_true rfl) dX0_see_53 (fun r6 ν5 hw => ?_)
        refine g_aload_0 56 h.1 dX0_see_56 ?_
        refine g_iload_3 57 h.1 dX0_see_57 ?_
        refine g_iconstv 58 _ ic_2 h.1 dX0_see_58 ?_
        refine g_iadd 59 h.1 dX0_see_59 ?_
        refine xcV_I_1 60 h (xm_X0_byteAt h.2.2.1 hw) (by decide) (Nat.le_of_eq (Nat.zero_add _)) (Nat.le_of_eq (Nat.zero_add _)) q1607 qs59 (fun H hI => x_recvK h rfl rfl hI) q1605 (Nat.le_of_ble_eq_true rfl) dX0_see_60 (fun r8 ν7 hw => ?_)
        refine xcV_I_2 63 h (xm_X0_isIn h.2.2.1 hw) (by decide) (Nat.le_of_eq (Nat.zero_add _)) (Nat.le_of_eq (Nat.zero_add _)) q1310 qs41 (fun H hI => x_recvK h rfl rfl hI) q1308 (Nat.le_of_ble_eq_true rfl) dX0_see_63 (fun r10 ν9 hw => ?_)
        refine g_if_eq 66 85 h.1 dX0_see_66 (by decide) (fun c => ?_) (fun c => ?_)
        · have hw := hw.1 c
          exact g_le (xt_X0_see_85 h hT hN hR hX29 hw) ⟨rfl, rfl, rfl, trivial⟩
        · have hw := hw.2 c
          refine g_aload_0 69 h.1 dX0_see_69 ?_
          refine g_iload_3 70 h.1 dX0_see_70 ?_
          refine g_iconstv 71 _ ic_3 h.1 dX0_see_71 ?_
          refine g_iadd 72 h.1 dX0_see_72 ?_
          refine xcV_I_1 73 h (xm_X0_byteAt h.2.2.1 hw) (by decide) (Nat.le_of_eq (Nat.zero_add _)) (Nat.le_of_eq (Nat.zero_add _)) q1607 qs59 (fun H hI => x_recvK h rfl rfl hI) q1605 (Nat.le_of_ble_eq_true rfl) dX0_see_73 (fun r12 ν11 hw => ?_)
          refine g_bipush 76 _ bp_99 h.1 dX0_see_76 ?_
          refine g_icmp_gt 78 85 h.1 dX0_see_78 (by decide) (fun c => ?_) (fun c => ?_)
          · have hw := hw.1 c
            exact g_le (xt_X0_see_85 h hT hN hR hX29 hw) ⟨rfl, rfl, rfl, trivial⟩
          · have hw := hw.2 c
            refine g_iconstv 81 _ ic_1 h.1 dX0_see_81 ?_
            refine g_goto 82 86 h.1 dX0_see_82 (by decide) ?_
            exact g_le (xt_X0_see_86 h hT hN hR hX29 hw) ⟨rfl, rfl, rfl, trivial⟩
def xw_X0_see_26 (x1 : Int32) (y0 : Int32) (ν : XN) (Q : Int32 → XN → Prop) : Prop :=
  xw_X0_see_29 x1 y0 (0 : Int32) ν Q
theorem xt_X0_see_26 {κ : Cx} {S : Adr} {A : Nat → Prop} {Z : State → Prop} {Q : Int32 → XN → Prop} (h : XCx κ cX0_see RX0 S A 3 0 0) (hT : (cxT κ).sig.returnType = some .int) (hN : (cxT κ).name = "see") (hR : xRet κ S A 0 0 Z cX0_see (pI Q)) {x1 : Int32} {y0 : Int32} {ν : XN} (hw : xw_X0_see_26 x1 y0 ν Q) : XG κ S A 0 0 Z 26 (ν, 0, 0) [some (.ref (S.2.1 0)), some (.int x1), none, none] [.int y0] := by
  unfold xw_X0_see_26 at hw
  refine g_istore_2 26 h.1 rfl dX0_see_26 ?_
  refine g_iconstv 27 _ ic_0 h.1 dX0_see_27 ?_
  refine g_istore_3 28 h.1 rfl dX0_see_28 ?_
  exact g_le (xt_X0_see_29 h hT hN hR hw) ⟨rfl, rfl, rfl, rfl, trivial⟩
def xw_X0_see_25 (x1 : Int32) (ν : XN) (Q : Int32 → XN → Prop) : Prop :=
  xw_X0_see_26 x1 (0 : Int32) ν Q
theorem xt_X0_see_25 {κ : Cx} {S : Adr} {A : Nat → Prop} {Z : State → Prop} {Q : Int32 → XN → Prop} (h : XCx κ cX0_see RX0 S A 3 0 0) (hT : (cxT κ).sig.returnType = some .int) (hN : (cxT κ).name = "see") (hR : xRet κ S A 0 0 Z cX0_see (pI Q)) {x1 : Int32} {ν : XN} (hw : xw_X0_see_25 x1 ν Q) : XG κ S A 0 0 Z 25 (ν, 0, 0) [some (.ref (S.2.1 0)), some (.int x1), none, none] [] := by
  unfold xw_X0_see_25 at hw
  refine g_iconstv 25 _ ic_0 h.1 dX0_see_25 ?_
  exact g_le (xt_X0_see_26 h hT hN hR hw) ⟨rfl, rfl, trivial⟩
def xw_X0_see (ν : XN) (Q : Int32 → XN → Prop) : Prop :=
  (xw_X0_taken ν (fun r2 ν1 => ((r2 ≤ 0 → xw_X0_see_25 r2 ν1 Q) ∧ (¬ r2 ≤ 0 → ((¬ (r2 - r2 / (4 : Int32) * (4 : Int32)) = 0 → xw_X0_see_25 r2 ν1 Q) ∧ ((r2 - r2 / (4 : Int32) * (4 : Int32)) = 0 → (((64 : Int32) < r2 → xw_X0_see_25 r2 ν1 Q) ∧ (¬ (64 : Int32) < r2 → xw_X0_see_26 r2 (1 : Int32) ν1 Q))))))))
theorem xt_X0_see {κ : Cx} {S : Adr} {A : Nat → Prop} {Z : State → Prop} {Q : Int32 → XN → Prop} (h : XCx κ cX0_see RX0 S A 3 0 0) (hT : (cxT κ).sig.returnType = some .int) (hN : (cxT κ).name = "see") (hR : xRet κ S A 0 0 Z cX0_see (pI Q)) {ν : XN} (hw : xw_X0_see ν Q) : XG κ S A 0 0 Z 0 (ν, 0, 0) [some (.ref (S.2.1 0)), none, none, none] [] := by
  unfold xw_X0_see at hw
  refine g_aload_0 0 h.1 dX0_see_0 ?_
  refine xcV_I_0 1 h (xm_X0_taken h.2.2.1 hw) (by decide) (Nat.le_of_eq (Nat.zero_add _)) (Nat.le_of_eq (Nat.zero_add _)) q576 qs3 (fun H hI => x_recvK h rfl rfl hI) q574 (Nat.le_of_ble_eq_true rfl) dX0_see_1 (fun r2 ν1 hw => ?_)
  refine g_istore_1 4 h.1 rfl dX0_see_4 ?_
  refine g_iload_1 5 h.1 dX0_see_5 ?_
  refine g_if_le 6 25 h.1 dX0_see_6 (by decide) (fun c => ?_) (fun c => ?_)
  · have hw := hw.1 c
    exact g_le (xt_X0_see_25 h hT hN hR hw) ⟨rfl, rfl, trivial⟩
  · have hw := hw.2 c
    refine g_iload_1 9 h.1 dX0_see_9 ?_
    refine g_iconstv 10 _ ic_4 h.1 dX0_see_10 ?_
    refine g_irem 11 (by decide) h.1 dX0_see_11 ?_
    refine g_if_ne 12 25 h.1 dX0_see_12 (by decide) (fun c => ?_) (fun c => ?_)
    · have hw := hw.1 c
      exact g_le (xt_X0_see_25 h hT hN hR hw) ⟨rfl, rfl, trivial⟩
    · have hw := hw.2 c
      refine g_iload_1 15 h.1 dX0_see_15 ?_
      refine g_bipush 16 _ bp_64 h.1 dX0_see_16 ?_
      refine g_icmp_gt 18 25 h.1 dX0_see_18 (by decide) (fun c => ?_) (fun c => ?_)
      · have hw := hw.1 c
        exact g_le (xt_X0_see_25 h hT hN hR hw) ⟨rfl, rfl, trivial⟩
      · have hw := hw.2 c
        refine g_iconstv 21 _ ic_1 h.1 dX0_see_21 ?_
        refine g_goto 22 26 h.1 dX0_see_22 (by decide) ?_
        exact g_le (xt_X0_see_26 h hT hN hR hw) ⟨rfl, rfl, trivial⟩
theorem xm_X0_see {l : Launch} {S : Adr} {A : Nat → Prop} (hD : FD xT S xcl A) {ν : XN} {Q : Int32 → XN → Prop} (hw : xw_X0_see ν Q) : xMet l S A 3 0 0 0 yX0_see [.ref (S.2.1 0)] ν (pI Q) :=
  x_met (plainFor_of_name (by decide)) hD ⟨⟨by decide, by decide, by show _ = some 0; decide +kernel⟩, by decide, q1604, q171⟩ (Nat.le_of_ble_eq_true rfl) (fun κ Z h hT hN hR => xt_X0_see h hT hN hR hw)
def xw_X0_seed (x1 : Int32) (ν : XN) (Q : Int32 → XN → Prop) : Prop :=
  ((0 ≤ x1 → (∀ ν1, ν1 = (sL ν.1 0 22 (Int32.toInt64 x1), ν.2) → Q (1 : Int32) ν1)) ∧ (¬ 0 ≤ x1 → (xw_X0_refuses (5 : Int32) ν (fun r4 ν3 => ((r4 < 0 → Q (0 : Int32) ν3) ∧ (¬ r4 < 0 → Q (1 : Int32) ν3))))))
theorem xt_X0_seed {κ : Cx} {S : Adr} {A : Nat → Prop} {Z : State → Prop} {Q : Int32 → XN → Prop} (h : XCx κ cX0_seed RX0 S A 2 0 0) (hT : (cxT κ).sig.returnType = some .boolean) (hN : (cxT κ).name = "seed") (hR : xRet κ S A 0 0 Z cX0_seed (pI Q)) {x1 : Int32} {ν : XN} (hw : xw_X0_seed x1 ν Q) : XG κ S A 0 0 Z 0 (ν, 0, 0) [some (.ref (S.2.1 0)), some (.int x1)] [] := by
  unfold xw_X0_seed at hw
  refine g_iload_1 0 h.1 dX0_seed_0 ?_
  refine g_if_ge 1 18 h.1 dX0_seed_1 (by decide) (fun c => ?_) (fun c => ?_)
  · have hw := hw.1 c
    refine g_aload_0 18 h.1 dX0_seed_18 ?_
    refine g_iload_1 19 h.1 dX0_seed_19 ?_
    refine g_i2l 20 h.1 dX0_seed_20 ?_
    refine xp_X0_108_0 21 h dX0_seed_21 (fun ν1 e2 => ?_)
    have hw := hw ν1 e2
    refine g_iconstv 24 _ ic_1 h.1 dX0_seed_24 ?_
    exact hR.1 25 _ _ _ _ _ _ hT rfl dX0_seed_25 ⟨_, rfl, hw⟩
  · have hw := hw.2 c
    refine g_aload_0 4 h.1 dX0_seed_4 ?_
    refine g_iconstv 5 _ ic_5 h.1 dX0_seed_5 ?_
    refine xcV_I_1 6 h (xm_X0_refuses h.2.2.1 hw) (by decide) (Nat.le_of_eq (Nat.zero_add _)) (Nat.le_of_eq (Nat.zero_add _)) q559 qs1 (fun H hI => x_recvK h rfl rfl hI) q557 (Nat.le_of_ble_eq_true rfl) dX0_seed_6 (fun r4 ν3 hw => ?_)
    refine g_if_lt 9 16 h.1 dX0_seed_9 (by decide) (fun c => ?_) (fun c => ?_)
    · have hw := hw.1 c
      refine g_iconstv 16 _ ic_0 h.1 dX0_seed_16 ?_
      exact hR.1 17 _ _ _ _ _ _ hT rfl dX0_seed_17 ⟨_, rfl, hw⟩
    · have hw := hw.2 c
      refine g_iconstv 12 _ ic_1 h.1 dX0_seed_12 ?_
      refine g_goto 13 17 h.1 dX0_seed_13 (by decide) ?_
      exact hR.1 17 _ _ _ _ _ _ hT rfl dX0_seed_17 ⟨_, rfl, hw⟩
theorem xm_X0_seed {l : Launch} {S : Adr} {A : Nat → Prop} (hD : FD xT S xcl A) {x1 : Int32} {ν : XN} {Q : Int32 → XN → Prop} (hw : xw_X0_seed x1 ν Q) : xMet l S A 2 0 0 1 yX0_seed [.ref (S.2.1 0), .int x1] ν (pI Q) :=
  x_met (plainFor_of_name (by decide)) hD ⟨⟨by decide, by decide, by show _ = some 1; decide +kernel⟩, by decide, q1674, q171⟩ (Nat.le_of_ble_eq_true rfl) (fun κ Z h hT hN hR => xt_X0_seed h hT hN hR hw)
def xw_X0_status (x1 : Int32) (ν : XN) (Q : Int32 → XN → Prop) : Prop :=
  (xw_X0_is x1 (0 : Int32) (5 : Int32) ν (fun r2 ν1 => ((r2 = 0 → Q (-1 : Int32) ν1) ∧ (¬ r2 = 0 → (vp_in x1 6 ∧ Q (fA ν1.1 1 (Int32.toNatClampNeg x1)) ν1)))))
theorem xt_X0_status {κ : Cx} {S : Adr} {A : Nat → Prop} {Z : State → Prop} {Q : Int32 → XN → Prop} (h : XCx κ cX0_status RX0 S A 2 0 0) (hT : (cxT κ).sig.returnType = some .int) (hN : (cxT κ).name = "status") (hR : xRet κ S A 0 0 Z cX0_status (pI Q)) {x1 : Int32} {ν : XN} (hw : xw_X0_status x1 ν Q) : XG κ S A 0 0 Z 0 (ν, 0, 0) [some (.ref (S.2.1 0)), some (.int x1)] [] := by
  unfold xw_X0_status at hw
  refine g_iload_1 0 h.1 dX0_status_0 ?_
  refine g_iconstv 1 _ ic_0 h.1 dX0_status_1 ?_
  refine g_iconstv 2 _ ic_5 h.1 dX0_status_2 ?_
  refine xcS_I_3 3 h (xm_X0_is h.2.2.1 hw) (by decide) (Nat.le_of_eq (Nat.zero_add _)) (Nat.le_of_eq (Nat.zero_add _)) q705 q1312 (Nat.le_of_ble_eq_true rfl) dX0_status_3 (fun r2 ν1 hw => ?_)
  refine g_if_eq 6 18 h.1 dX0_status_6 (by decide) (fun c => ?_) (fun c => ?_)
  · have hw := hw.1 c
    refine g_iconstv 18 _ ic_m1 h.1 dX0_status_18 ?_
    exact hR.1 19 _ _ _ _ _ _ hT rfl dX0_status_19 ⟨_, rfl, hw⟩
  · have hw := hw.2 c
    refine g_aload_0 9 h.1 dX0_status_9 ?_
    refine xg_X0_62_0 10 h dX0_status_10 ?_
    refine g_iload_1 13 h.1 dX0_status_13 ?_
    obtain ⟨f3, hw⟩ := hw
    refine xa_iald 14 rfl f3 h dX0_status_14 ?_
    refine g_goto 15 19 h.1 dX0_status_15 (by decide) ?_
    exact hR.1 19 _ _ _ _ _ _ hT rfl dX0_status_19 ⟨_, rfl, hw⟩
theorem xm_X0_status {l : Launch} {S : Adr} {A : Nat → Prop} (hD : FD xT S xcl A) {x1 : Int32} {ν : XN} {Q : Int32 → XN → Prop} (hw : xw_X0_status x1 ν Q) : xMet l S A 2 0 0 1 yX0_status [.ref (S.2.1 0), .int x1] ν (pI Q) :=
  x_met (plainFor_of_name (by decide)) hD ⟨⟨by decide, by decide, by show _ = some 1; decide +kernel⟩, by decide, q1751, q171⟩ (Nat.le_of_ble_eq_true rfl) (fun κ Z h hT hN hR => xt_X0_status h hT hN hR hw)
def xw_X0_teach_51 (ν : XN) (Q : Int32 → XN → Prop) : Prop :=
  (xw_X0_refuses (2 : Int32) ν (fun r12 ν11 => ((r12 < 0 → Q (0 : Int32) ν11) ∧ (¬ r12 < 0 → Q (1 : Int32) ν11))))
theorem xt_X0_teach_51 {κ : Cx} {S : Adr} {A : Nat → Prop} {Z : State → Prop} {Q : Int32 → XN → Prop} (h : XCx κ cX0_teach RX0 S A 4 0 0) (hT : (cxT κ).sig.returnType = some .boolean) (hN : (cxT κ).name = "teach") (hR : xRet κ S A 0 0 Z cX0_teach (pI Q)) {ν : XN} (hw : xw_X0_teach_51 ν Q) : XG κ S A 0 0 Z 51 (ν, 0, 0) [some (.ref (S.2.1 0)), none, none, none] [] := by
  unfold xw_X0_teach_51 at hw
  refine g_aload_0 51 h.1 dX0_teach_51 ?_
  refine g_iconstv 52 _ ic_2 h.1 dX0_teach_52 ?_
  refine xcV_I_1 53 h (xm_X0_refuses h.2.2.1 hw) (by decide) (Nat.le_of_eq (Nat.zero_add _)) (Nat.le_of_eq (Nat.zero_add _)) q559 qs1 (fun H hI => x_recvK h rfl rfl hI) q557 (Nat.le_of_ble_eq_true rfl) dX0_teach_53 (fun r12 ν11 hw => ?_)
  refine g_if_lt 56 63 h.1 dX0_teach_56 (by decide) (fun c => ?_) (fun c => ?_)
  · have hw := hw.1 c
    refine g_iconstv 63 _ ic_0 h.1 dX0_teach_63 ?_
    exact hR.1 64 _ _ _ _ _ _ hT rfl dX0_teach_64 ⟨_, rfl, hw⟩
  · have hw := hw.2 c
    refine g_iconstv 59 _ ic_1 h.1 dX0_teach_59 ?_
    refine g_goto 60 64 h.1 dX0_teach_60 (by decide) ?_
    exact hR.1 64 _ _ _ _ _ _ hT rfl dX0_teach_64 ⟨_, rfl, hw⟩
def xw_X0_teach_48 (x1 : Int32) (x2 : Int32) (y0 : Int32) (y1 : Int32) (ν : XN) (Q : Int32 → XN → Prop) : Prop :=
  ((¬ y1 = y0 → (xw_X0_remembers ν (fun ν13 => (xok 1 (xft 10 6) ∧ (vp_in x1 (xlen (xft 10 6)) ∧ (xok 1 (xft 10 6) ∧ (vp_in x1 (xlen (xft 10 6)) ∧ (∀ ν16, ν16 = (sA ν13.1 (xft 10 6) (Int32.toNatClampNeg x1) ((fA ν13.1 (xft 10 6) (Int32.toNatClampNeg x1)) ^^^ ((1 : Int32) <<< (x2 &&& 31))), ν13.2) → Q (1 : Int32) ν16)))))))) ∧ (y1 = y0 → xw_X0_teach_51 ν Q))
theorem xt_X0_teach_48 {κ : Cx} {S : Adr} {A : Nat → Prop} {Z : State → Prop} {Q : Int32 → XN → Prop} (h : XCx κ cX0_teach RX0 S A 4 0 0) (hT : (cxT κ).sig.returnType = some .boolean) (hN : (cxT κ).name = "teach") (hR : xRet κ S A 0 0 Z cX0_teach (pI Q)) {x1 : Int32} {x2 : Int32} {y0 : Int32} {y1 : Int32} {ν : XN} (hw : xw_X0_teach_48 x1 x2 y0 y1 ν Q) : XG κ S A 0 0 Z 48 (ν, 0, 0) [some (.ref (S.2.1 0)), some (.int x1), some (.int x2), none] [.int y0, .int y1] := by
  unfold xw_X0_teach_48 at hw
  refine g_icmp_ne 48 65 h.1 dX0_teach_48 (by decide) (fun c => ?_) (fun c => ?_)
  · have hw := hw.1 c
    refine g_aload_0 65 h.1 dX0_teach_65 ?_
    refine xcV_V_0 66 h (xm_X0_remembers h.2.2.1 hw) (by decide) (Nat.le_of_eq (Nat.zero_add _)) (Nat.le_of_eq (Nat.zero_add _)) q1637 qs62 (fun H hI => x_recvK h rfl rfl hI) q1635 (Nat.le_of_ble_eq_true rfl) dX0_teach_66 (fun ν13 hw => ?_)
    refine g_aload_0 69 h.1 dX0_teach_69 ?_
    refine xg_X0_69_0 70 h dX0_teach_70 ?_
    refine xg_X0_222_5 73 rfl h dX0_teach_73 ?_
    refine g_iload_1 76 h.1 dX0_teach_76 ?_
    refine g_dup2 77 rfl rfl h.1 dX0_teach_77 ?_
    obtain ⟨f14, hw⟩ := hw
    obtain ⟨f15, hw⟩ := hw
    refine xa_iald 78 f14 f15 h dX0_teach_78 ?_
    refine g_iconstv 79 _ ic_1 h.1 dX0_teach_79 ?_
    refine g_iload_2 80 h.1 dX0_teach_80 ?_
    refine g_ishl 81 h.1 dX0_teach_81 ?_
    refine g_ixor 82 h.1 dX0_teach_82 ?_
    obtain ⟨f18, hw⟩ := hw
    obtain ⟨f19, hw⟩ := hw
    refine xa_iast 83 f18 f19 h dX0_teach_83 (fun ν16 e17 => ?_)
    have hw := hw ν16 e17
    refine g_iconstv 84 _ ic_1 h.1 dX0_teach_84 ?_
    exact hR.1 85 _ _ _ _ _ _ hT rfl dX0_teach_85 ⟨_, rfl, hw⟩
  · have hw := hw.2 c
    exact g_le (xt_X0_teach_51 h hT hN hR hw) ⟨rfl, trivial⟩
def xw_X0_teach (x1 : Int32) (x2 : Int32) (x3 : Int32) (ν : XN) (Q : Int32 → XN → Prop) : Prop :=
  (xw_X0_isPerson x1 ν (fun r2 ν1 => ((r2 = 0 → xw_X0_teach_51 ν1 Q) ∧ (¬ r2 = 0 → (xw_X0_isTopic x2 ν1 (fun r4 ν3 => ((r4 = 0 → xw_X0_teach_51 ν3 Q) ∧ (¬ r4 = 0 → (xw_X0_is x3 (0 : Int32) (1 : Int32) ν3 (fun r6 ν5 => ((r6 = 0 → xw_X0_teach_51 ν5 Q) ∧ (¬ r6 = 0 → (xok 1 (xft 10 6) ∧ (vp_in x1 (xlen (xft 10 6)) ∧ (xw_X0_has (fA ν5.1 (xft 10 6) (Int32.toNatClampNeg x1)) x2 ν5 (fun r10 ν9 => ((¬ x3 = (1 : Int32) → xw_X0_teach_48 x1 x2 (0 : Int32) r10 ν9 Q) ∧ (x3 = (1 : Int32) → xw_X0_teach_48 x1 x2 (1 : Int32) r10 ν9 Q))))))))))))))))))
theorem xt_X0_teach {κ : Cx} {S : Adr} {A : Nat → Prop} {Z : State → Prop} {Q : Int32 → XN → Prop} (h : XCx κ cX0_teach RX0 S A 4 0 0) (hT : (cxT κ).sig.returnType = some .boolean) (hN : (cxT κ).name = "teach") (hR : xRet κ S A 0 0 Z cX0_teach (pI Q)) {x1 : Int32} {x2 : Int32} {x3 : Int32} {ν : XN} (hw : xw_X0_teach x1 x2 x3 ν Q) : XG κ S A 0 0 Z 0 (ν, 0, 0) [some (.ref (S.2.1 0)), some (.int x1), some (.int x2), some (.int x3)] [] := by
  unfold xw_X0_teach at hw
  refine g_aload_0 0 h.1 dX0_teach_0 ?_
  refine g_iload_1 1 h.1 dX0_teach_1 ?_
  refine xcV_I_1 2 h (xm_X0_isPerson h.2.2.1 hw) (by decide) (Nat.le_of_eq (Nat.zero_add _)) (Nat.le_of_eq (Nat.zero_add _)) q1348 qs42 (fun H hI => x_recvK h rfl rfl hI) q1346 (Nat.le_of_ble_eq_true rfl) dX0_teach_2 (fun r2 ν1 hw => ?_)
  refine g_if_eq 5 51 h.1 dX0_teach_5 (by decide) (fun c => ?_) (fun c => ?_)
  · have hw := hw.1 c
    exact g_le (xt_X0_teach_51 h hT hN hR hw) ⟨rfl, trivial⟩
  · have hw := hw.2 c
    refine g_aload_0 8 h.1 dX0_teach_8 ?_
    refine g_iload_2 9 h.1 dX0_teach_9 ?_
    refine xcV_I_1 10 h (xm_X0_isTopic h.2.2.1 hw) (by decide) (Nat.le_of_eq (Nat.zero_add _)) (Nat.le_of_eq (Nat.zero_add _)) q1361 qs43 (fun H hI => x_recvK h rfl rfl hI) q1359 (Nat.le_of_ble_eq_true rfl) dX0_teach_10 (fun r4 ν3 hw => ?_)
    refine g_if_eq 13 51 h.1 dX0_teach_13 (by decide) (fun c => ?_) (fun c => ?_)
    · have hw := hw.1 c
      exact g_le (xt_X0_teach_51 h hT hN hR hw) ⟨rfl, trivial⟩
    · have hw := hw.2 c
      refine g_iload_3 16 h.1 dX0_teach_16 ?_
      refine g_iconstv 17 _ ic_0 h.1 dX0_teach_17 ?_
      refine g_iconstv 18 _ ic_1 h.1 dX0_teach_18 ?_
      refine xcS_I_3 19 h (xm_X0_is h.2.2.1 hw) (by decide) (Nat.le_of_eq (Nat.zero_add _)) (Nat.le_of_eq (Nat.zero_add _)) q705 q1312 (Nat.le_of_ble_eq_true rfl) dX0_teach_19 (fun r6 ν5 hw => ?_)
      refine g_if_eq 22 51 h.1 dX0_teach_22 (by decide) (fun c => ?_) (fun c => ?_)
      · have hw := hw.1 c
        exact g_le (xt_X0_teach_51 h hT hN hR hw) ⟨rfl, trivial⟩
      · have hw := hw.2 c
        refine g_aload_0 25 h.1 dX0_teach_25 ?_
        refine xg_X0_69_0 26 h dX0_teach_26 ?_
        refine xg_X0_222_5 29 rfl h dX0_teach_29 ?_
        refine g_iload_1 32 h.1 dX0_teach_32 ?_
        obtain ⟨f7, hw⟩ := hw
        obtain ⟨f8, hw⟩ := hw
        refine xa_iald 33 f7 f8 h dX0_teach_33 ?_
        refine g_iload_2 34 h.1 dX0_teach_34 ?_
        refine xcS_I_2 35 h (xm_X0_has h.2.2.1 hw) (by decide) (Nat.le_of_eq (Nat.zero_add _)) (Nat.le_of_eq (Nat.zero_add _)) q983 q1434 (Nat.le_of_ble_eq_true rfl) dX0_teach_35 (fun r10 ν9 hw => ?_)
        refine g_iload_3 38 h.1 dX0_teach_38 ?_
        refine g_iconstv 39 _ ic_1 h.1 dX0_teach_39 ?_
        refine g_icmp_ne 40 47 h.1 dX0_teach_40 (by decide) (fun c => ?_) (fun c => ?_)
        · have hw := hw.1 c
          refine g_iconstv 47 _ ic_0 h.1 dX0_teach_47 ?_
          exact g_le (xt_X0_teach_48 h hT hN hR hw) ⟨rfl, rfl, rfl, trivial⟩
        · have hw := hw.2 c
          refine g_iconstv 43 _ ic_1 h.1 dX0_teach_43 ?_
          refine g_goto 44 48 h.1 dX0_teach_44 (by decide) ?_
          exact g_le (xt_X0_teach_48 h hT hN hR hw) ⟨rfl, rfl, rfl, trivial⟩
theorem xm_X0_teach {l : Launch} {S : Adr} {A : Nat → Prop} (hD : FD xT S xcl A) {x1 : Int32} {x2 : Int32} {x3 : Int32} {ν : XN} {Q : Int32 → XN → Prop} (hw : xw_X0_teach x1 x2 x3 ν Q) : xMet l S A 4 0 0 3 yX0_teach [.ref (S.2.1 0), .int x1, .int x2, .int x3] ν (pI Q) :=
  x_met (plainFor_of_name (by decide)) hD ⟨⟨by decide, by decide, by show _ = some 3; decide +kernel⟩, by decide, q1642, q171⟩ (Nat.le_of_ble_eq_true rfl) (fun κ Z h hT hN hR => xt_X0_teach h hT hN hR hw)
def xw_X0_wasAsked_127 (VA : Nat → Nat → XN → (Int64 → XN → Prop) → Prop) (TA : Nat → Nat → XN → (Int32 → XN → Prop) → Prop) (X22 : Int32 → Int32 → Int32 → XN → Prop) (X75 : Int32 → Int32 → Int32 → Int32 → XN → Prop) (x1 : Int32) (x4 : Int32) (x5 : Int32) (y0 : Int32) (y1 : Int32) (ν : XN) (Q : Int32 → XN → Prop) : Prop :=
  X75 x1 (y1 + y0) x4 (x5 + 1) ν
theorem xt_X0_wasAsked_127 {κ : Cx} {S : Adr} {A : Nat → Prop} {Z : State → Prop} {Q : Int32 → XN → Prop} {dV : Nat} {VA : Nat → Nat → XN → (Int64 → XN → Prop) → Prop} {TA : Nat → Nat → XN → (Int32 → XN → Prop) → Prop} (hV : HVT S A dV VA TA) (h : XCx κ cX0_wasAsked RX0 S A (dV + 9) 0 0) (hT : (cxT κ).sig.returnType = some .boolean) (hN : (cxT κ).name = "wasAsked") (hR : xRet κ S A 0 0 Z cX0_wasAsked (pI Q)) {X22 : Int32 → Int32 → Int32 → XN → Prop} {X75 : Int32 → Int32 → Int32 → Int32 → XN → Prop} (hX22 : ∀ (x1 : Int32) (x3 : Int32) (x4 : Int32) (ν : XN), X22 x1 x3 x4 ν → XG κ S A 0 0 Z 22 (ν, 0, 0) [some (.ref (S.2.1 0)), some (.int x1), none, some (.int x3), some (.int x4), none] []) (hX75 : ∀ (x1 : Int32) (x3 : Int32) (x4 : Int32) (x5 : Int32) (ν : XN), X75 x1 x3 x4 x5 ν → XG κ S A 0 0 Z 75 (ν, 0, 0) [some (.ref (S.2.1 0)), some (.int x1), none, some (.int x3), some (.int x4), some (.int x5)] []) {x1 : Int32} {x4 : Int32} {x5 : Int32} {y0 : Int32} {y1 : Int32} {ν : XN} (hw : xw_X0_wasAsked_127 VA TA X22 X75 x1 x4 x5 y0 y1 ν Q) : XG κ S A 0 0 Z 127 (ν, 0, 0) [some (.ref (S.2.1 0)), some (.int x1), none, none, some (.int x4), some (.int x5)] [.int y0, .int y1] := by
  unfold xw_X0_wasAsked_127 at hw
  refine g_iadd 127 h.1 dX0_wasAsked_127 ?_
  refine g_istore_3 128 h.1 rfl dX0_wasAsked_128 ?_
  refine g_iinc_5 129 (x5 + 1) (congrArg _ ic_1) h.1 rfl dX0_wasAsked_129 ?_
  refine g_goto 132 75 h.1 dX0_wasAsked_132 (by decide) ?_
  exact g_le (hX75 _ _ _ _ _ hw) ⟨rfl, rfl, rfl, rfl, rfl, trivial⟩
def xw_X0_wasAsked_126 (VA : Nat → Nat → XN → (Int64 → XN → Prop) → Prop) (TA : Nat → Nat → XN → (Int32 → XN → Prop) → Prop) (X22 : Int32 → Int32 → Int32 → XN → Prop) (X75 : Int32 → Int32 → Int32 → Int32 → XN → Prop) (x1 : Int32) (x4 : Int32) (x5 : Int32) (y0 : Int32) (ν : XN) (Q : Int32 → XN → Prop) : Prop :=
  xw_X0_wasAsked_127 VA TA X22 X75 x1 x4 x5 (0 : Int32) y0 ν Q
theorem xt_X0_wasAsked_126 {κ : Cx} {S : Adr} {A : Nat → Prop} {Z : State → Prop} {Q : Int32 → XN → Prop} {dV : Nat} {VA : Nat → Nat → XN → (Int64 → XN → Prop) → Prop} {TA : Nat → Nat → XN → (Int32 → XN → Prop) → Prop} (hV : HVT S A dV VA TA) (h : XCx κ cX0_wasAsked RX0 S A (dV + 9) 0 0) (hT : (cxT κ).sig.returnType = some .boolean) (hN : (cxT κ).name = "wasAsked") (hR : xRet κ S A 0 0 Z cX0_wasAsked (pI Q)) {X22 : Int32 → Int32 → Int32 → XN → Prop} {X75 : Int32 → Int32 → Int32 → Int32 → XN → Prop} (hX22 : ∀ (x1 : Int32) (x3 : Int32) (x4 : Int32) (ν : XN), X22 x1 x3 x4 ν → XG κ S A 0 0 Z 22 (ν, 0, 0) [some (.ref (S.2.1 0)), some (.int x1), none, some (.int x3), some (.int x4), none] []) (hX75 : ∀ (x1 : Int32) (x3 : Int32) (x4 : Int32) (x5 : Int32) (ν : XN), X75 x1 x3 x4 x5 ν → XG κ S A 0 0 Z 75 (ν, 0, 0) [some (.ref (S.2.1 0)), some (.int x1), none, some (.int x3), some (.int x4), some (.int x5)] []) {x1 : Int32} {x4 : Int32} {x5 : Int32} {y0 : Int32} {ν : XN} (hw : xw_X0_wasAsked_126 VA TA X22 X75 x1 x4 x5 y0 ν Q) : XG κ S A 0 0 Z 126 (ν, 0, 0) [some (.ref (S.2.1 0)), some (.int x1), none, none, some (.int x4), some (.int x5)] [.int y0] := by
  unfold xw_X0_wasAsked_126 at hw
  refine g_iconstv 126 _ ic_0 h.1 dX0_wasAsked_126 ?_
  exact g_le (xt_X0_wasAsked_127 hV h hT hN hR hX22 hX75 hw) ⟨rfl, rfl, rfl, rfl, trivial⟩
def xw_X0_wasAsked_75 (VA : Nat → Nat → XN → (Int64 → XN → Prop) → Prop) (TA : Nat → Nat → XN → (Int32 → XN → Prop) → Prop) (X22 : Int32 → Int32 → Int32 → XN → Prop) (x1 : Int32) (x3 : Int32) (x4 : Int32) (x5 : Int32) (ν : XN) (Q : Int32 → XN → Prop) : Prop :=
  ∀ X75 : Int32 → Int32 → Int32 → Int32 → XN → Prop, (∀ (x1 : Int32) (x3 : Int32) (x4 : Int32) (x5 : Int32) (ν : XN), (((fI ν.1 0 18) ≤ x5 → (xw_X5_passes VA TA 11 ν (fun r18 ν17 => X22 x1 x3 (x4 + 1) ν17))) ∧ (¬ (fI ν.1 0 18) ≤ x5 → (vp_in x5 16 ∧ ((¬ (fA ν.1 6 (Int32.toNatClampNeg x5)) = x4 → xw_X0_wasAsked_126 VA TA X22 X75 x1 x4 x5 x3 ν Q) ∧ ((fA ν.1 6 (Int32.toNatClampNeg x5)) = x4 → (vp_in x5 16 ∧ (xok 1 (xft 11 3) ∧ (vp_in (fA ν.1 7 (Int32.toNatClampNeg x5)) (xlen (xft 11 3)) ∧ (vp_in x5 16 ∧ ((¬ (fA ν.1 (xft 11 3) (Int32.toNatClampNeg (fA ν.1 7 (Int32.toNatClampNeg x5)))) = (fA ν.1 8 (Int32.toNatClampNeg x5)) → xw_X0_wasAsked_126 VA TA X22 X75 x1 x4 x5 x3 ν Q) ∧ ((fA ν.1 (xft 11 3) (Int32.toNatClampNeg (fA ν.1 7 (Int32.toNatClampNeg x5)))) = (fA ν.1 8 (Int32.toNatClampNeg x5)) → xw_X0_wasAsked_127 VA TA X22 X75 x1 x4 x5 (1 : Int32) x3 ν Q))))))))))) → X75 x1 x3 x4 x5 ν) → X75 x1 x3 x4 x5 ν
theorem xt_X0_wasAsked_75 {κ : Cx} {S : Adr} {A : Nat → Prop} {Z : State → Prop} {Q : Int32 → XN → Prop} {dV : Nat} {VA : Nat → Nat → XN → (Int64 → XN → Prop) → Prop} {TA : Nat → Nat → XN → (Int32 → XN → Prop) → Prop} (hV : HVT S A dV VA TA) (h : XCx κ cX0_wasAsked RX0 S A (dV + 9) 0 0) (hT : (cxT κ).sig.returnType = some .boolean) (hN : (cxT κ).name = "wasAsked") (hR : xRet κ S A 0 0 Z cX0_wasAsked (pI Q)) {X22 : Int32 → Int32 → Int32 → XN → Prop} (hX22 : ∀ (x1 : Int32) (x3 : Int32) (x4 : Int32) (ν : XN), X22 x1 x3 x4 ν → XG κ S A 0 0 Z 22 (ν, 0, 0) [some (.ref (S.2.1 0)), some (.int x1), none, some (.int x3), some (.int x4), none] []) {x1 : Int32} {x3 : Int32} {x4 : Int32} {x5 : Int32} {ν : XN} (hw : xw_X0_wasAsked_75 VA TA X22 x1 x3 x4 x5 ν Q) : XG κ S A 0 0 Z 75 (ν, 0, 0) [some (.ref (S.2.1 0)), some (.int x1), none, some (.int x3), some (.int x4), some (.int x5)] [] := by
  refine hw (fun x1 x3 x4 x5 ν => XG κ S A 0 0 Z 75 (ν, 0, 0) [some (.ref (S.2.1 0)), some (.int x1), none, some (.int x3), some (.int x4), some (.int x5)] []) ?_
  clear hw
  intro x1 x3 x4 x5 ν hw
  have hX75 : ∀ (x1 : Int32) (x3 : Int32) (x4 : Int32) (x5 : Int32) (ν : XN), XG κ S A 0 0 Z 75 (ν, 0, 0) [some (.ref (S.2.1 0)), some (.int x1), none, some (.int x3), some (.int x4), some (.int x5)] [] → XG κ S A 0 0 Z 75 (ν, 0, 0) [some (.ref (S.2.1 0)), some (.int x1), none, some (.int x3), some (.int x4), some (.int x5)] [] := fun _ _ _ _ _ hh => hh
  refine g_iload_5 75 h.1 dX0_wasAsked_75 ?_
  refine g_aload_0 77 h.1 dX0_wasAsked_77 ?_
  refine xg_X0_151_0 78 h dX0_wasAsked_78 ?_
  refine g_icmp_ge 81 135 h.1 dX0_wasAsked_81 (by decide) (fun c => ?_) (fun c => ?_)
  · have hw := hw.1 c
    refine g_aload_0 135 h.1 dX0_wasAsked_135 ?_
    refine xg_X0_73_0 136 h dX0_wasAsked_136 ?_
    refine xcV_I_0 139 h (xm_X5_passes hV h.2.2.1 hw) (by omega) (Nat.le_of_eq (Nat.zero_add _)) (Nat.le_of_eq (Nat.zero_add _)) q1519 q1520 (fun H hI => x_recvK h rfl rfl hI) q1546 (Nat.le_of_ble_eq_true rfl) dX0_wasAsked_139 (fun r18 ν17 hw => ?_)
    refine g_pop 142 rfl h.1 dX0_wasAsked_142 ?_
    refine g_iinc_4 143 (x4 + 1) (congrArg _ ic_1) h.1 rfl dX0_wasAsked_143 ?_
    refine g_goto 146 22 h.1 dX0_wasAsked_146 (by decide) ?_
    exact g_le (hX22 _ _ _ _ hw) ⟨rfl, rfl, rfl, rfl, trivial⟩
  · have hw := hw.2 c
    refine g_iload_3 84 h.1 dX0_wasAsked_84 ?_
    refine g_aload_0 85 h.1 dX0_wasAsked_85 ?_
    refine xg_X0_91_0 86 h dX0_wasAsked_86 ?_
    refine g_iload_5 89 h.1 dX0_wasAsked_89 ?_
    obtain ⟨f19, hw⟩ := hw
    refine xa_iald 91 rfl f19 h dX0_wasAsked_91 ?_
    refine g_iload_4 92 h.1 dX0_wasAsked_92 ?_
    refine g_icmp_ne 94 126 h.1 dX0_wasAsked_94 (by decide) (fun c => ?_) (fun c => ?_)
    · have hw := hw.1 c
      exact g_le (xt_X0_wasAsked_126 hV h hT hN hR hX22 hX75 hw) ⟨rfl, rfl, rfl, rfl, trivial⟩
    · have hw := hw.2 c
      refine g_aload_0 97 h.1 dX0_wasAsked_97 ?_
      refine xg_X0_73_0 98 h dX0_wasAsked_98 ?_
      refine xg_X0_198_5 101 rfl h dX0_wasAsked_101 ?_
      refine g_aload_0 104 h.1 dX0_wasAsked_104 ?_
      refine xg_X0_94_0 105 h dX0_wasAsked_105 ?_
      refine g_iload_5 108 h.1 dX0_wasAsked_108 ?_
      obtain ⟨f20, hw⟩ := hw
      refine xa_iald 110 rfl f20 h dX0_wasAsked_110 ?_
      obtain ⟨f21, hw⟩ := hw
      obtain ⟨f22, hw⟩ := hw
      refine xa_iald 111 f21 f22 h dX0_wasAsked_111 ?_
      refine g_aload_0 112 h.1 dX0_wasAsked_112 ?_
      refine xg_X0_97_0 113 h dX0_wasAsked_113 ?_
      refine g_iload_5 116 h.1 dX0_wasAsked_116 ?_
      obtain ⟨f23, hw⟩ := hw
      refine xa_iald 118 rfl f23 h dX0_wasAsked_118 ?_
      refine g_icmp_ne 119 126 h.1 dX0_wasAsked_119 (by decide) (fun c => ?_) (fun c => ?_)
      · have hw := hw.1 c
        exact g_le (xt_X0_wasAsked_126 hV h hT hN hR hX22 hX75 hw) ⟨rfl, rfl, rfl, rfl, trivial⟩
      · have hw := hw.2 c
        refine g_iconstv 122 _ ic_1 h.1 dX0_wasAsked_122 ?_
        refine g_goto 123 127 h.1 dX0_wasAsked_123 (by decide) ?_
        exact g_le (xt_X0_wasAsked_127 hV h hT hN hR hX22 hX75 hw) ⟨rfl, rfl, rfl, rfl, trivial⟩
def xw_X0_wasAsked_37 (VA : Nat → Nat → XN → (Int64 → XN → Prop) → Prop) (TA : Nat → Nat → XN → (Int32 → XN → Prop) → Prop) (X22 : Int32 → Int32 → Int32 → XN → Prop) (x1 : Int32) (x3 : Int32) (x4 : Int32) (x5 : Int32) (ν : XN) (Q : Int32 → XN → Prop) : Prop :=
  ∀ X37 : Int32 → Int32 → Int32 → Int32 → XN → Prop, (∀ (x1 : Int32) (x3 : Int32) (x4 : Int32) (x5 : Int32) (ν : XN), (((64 : Int32) ≤ x5 → xw_X0_wasAsked_75 VA TA X22 x1 x3 x4 (0 : Int32) ν Q) ∧ (¬ (64 : Int32) ≤ x5 → (vp_in x1 7 ∧ (xok 7 (fP ν.1 9 (Int32.toNatClampNeg x1)) ∧ (vp_in x4 (xlen (fP ν.1 9 (Int32.toNatClampNeg x1))) ∧ (xok 1 (xft 11 3) ∧ (vp_in x5 (xlen (xft 11 3)) ∧ (xok 1 (fP ν.1 (fP ν.1 9 (Int32.toNatClampNeg x1)) (Int32.toNatClampNeg x4)) ∧ (vp_in x5 (xlen (fP ν.1 (fP ν.1 9 (Int32.toNatClampNeg x1)) (Int32.toNatClampNeg x4))) ∧ (∀ ν13, ν13 = (sA ν.1 (fP ν.1 (fP ν.1 9 (Int32.toNatClampNeg x1)) (Int32.toNatClampNeg x4)) (Int32.toNatClampNeg x5) (fA ν.1 (xft 11 3) (Int32.toNatClampNeg x5)), ν.2) → X37 x1 x3 x4 (x5 + 1) ν13)))))))))) → X37 x1 x3 x4 x5 ν) → X37 x1 x3 x4 x5 ν
theorem xt_X0_wasAsked_37 {κ : Cx} {S : Adr} {A : Nat → Prop} {Z : State → Prop} {Q : Int32 → XN → Prop} {dV : Nat} {VA : Nat → Nat → XN → (Int64 → XN → Prop) → Prop} {TA : Nat → Nat → XN → (Int32 → XN → Prop) → Prop} (hV : HVT S A dV VA TA) (h : XCx κ cX0_wasAsked RX0 S A (dV + 9) 0 0) (hT : (cxT κ).sig.returnType = some .boolean) (hN : (cxT κ).name = "wasAsked") (hR : xRet κ S A 0 0 Z cX0_wasAsked (pI Q)) {X22 : Int32 → Int32 → Int32 → XN → Prop} (hX22 : ∀ (x1 : Int32) (x3 : Int32) (x4 : Int32) (ν : XN), X22 x1 x3 x4 ν → XG κ S A 0 0 Z 22 (ν, 0, 0) [some (.ref (S.2.1 0)), some (.int x1), none, some (.int x3), some (.int x4), none] []) {x1 : Int32} {x3 : Int32} {x4 : Int32} {x5 : Int32} {ν : XN} (hw : xw_X0_wasAsked_37 VA TA X22 x1 x3 x4 x5 ν Q) : XG κ S A 0 0 Z 37 (ν, 0, 0) [some (.ref (S.2.1 0)), some (.int x1), none, some (.int x3), some (.int x4), some (.int x5)] [] := by
  refine hw (fun x1 x3 x4 x5 ν => XG κ S A 0 0 Z 37 (ν, 0, 0) [some (.ref (S.2.1 0)), some (.int x1), none, some (.int x3), some (.int x4), some (.int x5)] []) ?_
  clear hw
  intro x1 x3 x4 x5 ν hw
  have hX37 : ∀ (x1 : Int32) (x3 : Int32) (x4 : Int32) (x5 : Int32) (ν : XN), XG κ S A 0 0 Z 37 (ν, 0, 0) [some (.ref (S.2.1 0)), some (.int x1), none, some (.int x3), some (.int x4), some (.int x5)] [] → XG κ S A 0 0 Z 37 (ν, 0, 0) [some (.ref (S.2.1 0)), some (.int x1), none, some (.int x3), some (.int x4), some (.int x5)] [] := fun _ _ _ _ _ hh => hh
  refine g_iload_5 37 h.1 dX0_wasAsked_37 ?_
  refine g_bipush 39 _ bp_64 h.1 dX0_wasAsked_39 ?_
  refine g_icmp_ge 41 72 h.1 dX0_wasAsked_41 (by decide) (fun c => ?_) (fun c => ?_)
  · have hw := hw.1 c
    refine g_iconstv 72 _ ic_0 h.1 dX0_wasAsked_72 ?_
    refine g_istore_5 73 h.1 rfl dX0_wasAsked_73 ?_
    exact g_le (xt_X0_wasAsked_75 hV h hT hN hR hX22 hw) ⟨rfl, rfl, rfl, rfl, rfl, trivial⟩
  · have hw := hw.2 c
    refine g_aload_0 44 h.1 dX0_wasAsked_44 ?_
    refine xg_X0_102_0 45 h dX0_wasAsked_45 ?_
    refine g_iload_1 48 h.1 dX0_wasAsked_48 ?_
    obtain ⟨f8, hw⟩ := hw
    refine xa_aald8 49 rfl f8 h dX0_wasAsked_49 ?_
    refine g_iload_4 50 h.1 dX0_wasAsked_50 ?_
    obtain ⟨f9, hw⟩ := hw
    obtain ⟨f10, hw⟩ := hw
    refine xa_aald7 52 f9 f10 h dX0_wasAsked_52 ?_
    refine g_iload_5 53 h.1 dX0_wasAsked_53 ?_
    refine g_aload_0 55 h.1 dX0_wasAsked_55 ?_
    refine xg_X0_73_0 56 h dX0_wasAsked_56 ?_
    refine xg_X0_198_5 59 rfl h dX0_wasAsked_59 ?_
    refine g_iload_5 62 h.1 dX0_wasAsked_62 ?_
    obtain ⟨f11, hw⟩ := hw
    obtain ⟨f12, hw⟩ := hw
    refine xa_iald 64 f11 f12 h dX0_wasAsked_64 ?_
    obtain ⟨f15, hw⟩ := hw
    obtain ⟨f16, hw⟩ := hw
    refine xa_iast 65 f15 f16 h dX0_wasAsked_65 (fun ν13 e14 => ?_)
    have hw := hw ν13 e14
    refine g_iinc_5 66 (x5 + 1) (congrArg _ ic_1) h.1 rfl dX0_wasAsked_66 ?_
    refine g_goto 69 37 h.1 dX0_wasAsked_69 (by decide) ?_
    exact g_le (hX37 _ _ _ _ _ hw) ⟨rfl, rfl, rfl, rfl, rfl, trivial⟩
def xw_X0_wasAsked_22 (VA : Nat → Nat → XN → (Int64 → XN → Prop) → Prop) (TA : Nat → Nat → XN → (Int32 → XN → Prop) → Prop) (x1 : Int32) (x3 : Int32) (x4 : Int32) (ν : XN) (Q : Int32 → XN → Prop) : Prop :=
  ∀ X22 : Int32 → Int32 → Int32 → XN → Prop, (∀ (x1 : Int32) (x3 : Int32) (x4 : Int32) (ν : XN), (xw_X0_isAhead x4 (0 : Int32) (30 : Int32) ν (fun r7 ν6 => ((r7 = 0 → ((¬ x3 = (fI ν6.1 0 18) → Q (0 : Int32) ν6) ∧ (x3 = (fI ν6.1 0 18) → Q (1 : Int32) ν6))) ∧ (¬ r7 = 0 → xw_X0_wasAsked_37 VA TA X22 x1 x3 x4 (0 : Int32) ν6 Q)))) → X22 x1 x3 x4 ν) → X22 x1 x3 x4 ν
theorem xt_X0_wasAsked_22 {κ : Cx} {S : Adr} {A : Nat → Prop} {Z : State → Prop} {Q : Int32 → XN → Prop} {dV : Nat} {VA : Nat → Nat → XN → (Int64 → XN → Prop) → Prop} {TA : Nat → Nat → XN → (Int32 → XN → Prop) → Prop} (hV : HVT S A dV VA TA) (h : XCx κ cX0_wasAsked RX0 S A (dV + 9) 0 0) (hT : (cxT κ).sig.returnType = some .boolean) (hN : (cxT κ).name = "wasAsked") (hR : xRet κ S A 0 0 Z cX0_wasAsked (pI Q)) {x1 : Int32} {x3 : Int32} {x4 : Int32} {ν : XN} (hw : xw_X0_wasAsked_22 VA TA x1 x3 x4 ν Q) : XG κ S A 0 0 Z 22 (ν, 0, 0) [some (.ref (S.2.1 0)), some (.int x1), none, some (.int x3), some (.int x4), none] [] := by
  refine hw (fun x1 x3 x4 ν => XG κ S A 0 0 Z 22 (ν, 0, 0) [some (.ref (S.2.1 0)), some (.int x1), none, some (.int x3), some (.int x4), none] []) ?_
  clear hw
  intro x1 x3 x4 ν hw
  have hX22 : ∀ (x1 : Int32) (x3 : Int32) (x4 : Int32) (ν : XN), XG κ S A 0 0 Z 22 (ν, 0, 0) [some (.ref (S.2.1 0)), some (.int x1), none, some (.int x3), some (.int x4), none] [] → XG κ S A 0 0 Z 22 (ν, 0, 0) [some (.ref (S.2.1 0)), some (.int x1), none, some (.int x3), some (.int x4), none] [] := fun _ _ _ _ hh => hh
  refine g_aload_0 22 h.1 dX0_wasAsked_22 ?_
  refine g_iload_4 23 h.1 dX0_wasAsked_23 ?_
  refine g_iconstv 25 _ ic_0 h.1 dX0_wasAsked_25 ?_
  refine g_bipush 26 _ bp_30 h.1 dX0_wasAsked_26 ?_
  refine xcV_I_3 28 h (xm_X0_isAhead h.2.2.1 hw) (by omega) (Nat.le_of_eq (Nat.zero_add _)) (Nat.le_of_eq (Nat.zero_add _)) q1508 qs51 (fun H hI => x_recvK h rfl rfl hI) q1506 (Nat.le_of_ble_eq_true rfl) dX0_wasAsked_28 (fun r7 ν6 hw => ?_)
  refine g_if_eq 31 149 h.1 dX0_wasAsked_31 (by decide) (fun c => ?_) (fun c => ?_)
  · have hw := hw.1 c
    refine g_iload_3 149 h.1 dX0_wasAsked_149 ?_
    refine g_aload_0 150 h.1 dX0_wasAsked_150 ?_
    refine xg_X0_151_0 151 h dX0_wasAsked_151 ?_
    refine g_icmp_ne 154 161 h.1 dX0_wasAsked_154 (by decide) (fun c => ?_) (fun c => ?_)
    · have hw := hw.1 c
      refine g_iconstv 161 _ ic_0 h.1 dX0_wasAsked_161 ?_
      exact hR.1 162 _ _ _ _ _ _ hT rfl dX0_wasAsked_162 ⟨_, rfl, hw⟩
    · have hw := hw.2 c
      refine g_iconstv 157 _ ic_1 h.1 dX0_wasAsked_157 ?_
      refine g_goto 158 162 h.1 dX0_wasAsked_158 (by decide) ?_
      exact hR.1 162 _ _ _ _ _ _ hT rfl dX0_wasAsked_162 ⟨_, rfl, hw⟩
  · have hw := hw.2 c
    refine g_iconstv 34 _ ic_0 h.1 dX0_wasAsked_34 ?_
    refine g_istore_5 35 h.1 rfl dX0_wasAsked_35 ?_
    exact g_le (xt_X0_wasAsked_37 hV h hT hN hR hX22 hw) ⟨rfl, rfl, rfl, rfl, rfl, trivial⟩
def xw_X0_wasAsked (VA : Nat → Nat → XN → (Int64 → XN → Prop) → Prop) (TA : Nat → Nat → XN → (Int32 → XN → Prop) → Prop) (x1 : Int32) (x2 : Int32) (ν : XN) (Q : Int32 → XN → Prop) : Prop :=
  (xw_X5_copy 11 10 ν (fun r2 ν1 => (xoc r2 = 5 ∧ (xw_X5_asked VA TA r2 x1 x2 ν1 (fun r4 ν3 => xw_X0_wasAsked_22 VA TA x1 (0 : Int32) (0 : Int32) ν3 Q)))))
theorem xt_X0_wasAsked {κ : Cx} {S : Adr} {A : Nat → Prop} {Z : State → Prop} {Q : Int32 → XN → Prop} {dV : Nat} {VA : Nat → Nat → XN → (Int64 → XN → Prop) → Prop} {TA : Nat → Nat → XN → (Int32 → XN → Prop) → Prop} (hV : HVT S A dV VA TA) (h : XCx κ cX0_wasAsked RX0 S A (dV + 9) 0 0) (hT : (cxT κ).sig.returnType = some .boolean) (hN : (cxT κ).name = "wasAsked") (hR : xRet κ S A 0 0 Z cX0_wasAsked (pI Q)) {x1 : Int32} {x2 : Int32} {ν : XN} (hw : xw_X0_wasAsked VA TA x1 x2 ν Q) : XG κ S A 0 0 Z 0 (ν, 0, 0) [some (.ref (S.2.1 0)), some (.int x1), some (.int x2), none, none, none] [] := by
  unfold xw_X0_wasAsked at hw
  refine g_aload_0 0 h.1 dX0_wasAsked_0 ?_
  refine xg_X0_73_0 1 h dX0_wasAsked_1 ?_
  refine g_aload_0 4 h.1 dX0_wasAsked_4 ?_
  refine xg_X0_69_0 5 h dX0_wasAsked_5 ?_
  refine xcV_K_1 8 h (xm_X5_copy h.2.2.1 hw) (by omega) (Nat.le_of_eq (Nat.zero_add _)) (Nat.le_of_eq (Nat.zero_add _)) q1436 q1437 (fun H hI => x_recvK h rfl rfl hI) q1435 (Nat.le_of_ble_eq_true rfl) dX0_wasAsked_8 (fun r2 ν1 hw => ?_)
  refine g_iload_1 11 h.1 dX0_wasAsked_11 ?_
  refine g_iload_2 12 h.1 dX0_wasAsked_12 ?_
  obtain ⟨f5, hw⟩ := hw
  refine xcV_I_2 13 h (xm_X5_asked hV h.2.2.1 hw) (by omega) (Nat.le_of_eq (Nat.zero_add _)) (Nat.le_of_eq (Nat.zero_add _)) q1535 q1536 (fun H hI => x_recvK h f5 rfl hI) q1555 (Nat.le_of_ble_eq_true rfl) dX0_wasAsked_13 (fun r4 ν3 hw => ?_)
  refine g_pop 16 rfl h.1 dX0_wasAsked_16 ?_
  refine g_iconstv 17 _ ic_0 h.1 dX0_wasAsked_17 ?_
  refine g_istore_3 18 h.1 rfl dX0_wasAsked_18 ?_
  refine g_iconstv 19 _ ic_0 h.1 dX0_wasAsked_19 ?_
  refine g_istore_4 20 h.1 rfl dX0_wasAsked_20 ?_
  exact g_le (xt_X0_wasAsked_22 hV h hT hN hR hw) ⟨rfl, rfl, rfl, rfl, trivial⟩
theorem xm_X0_wasAsked {l : Launch} {S : Adr} {A : Nat → Prop} {dV : Nat} {VA : Nat → Nat → XN → (Int64 → XN → Prop) → Prop} {TA : Nat → Nat → XN → (Int32 → XN → Prop) → Prop} (hV : HVT S A dV VA TA) (hD : FD xT S xcl A) {x1 : Int32} {x2 : Int32} {ν : XN} {Q : Int32 → XN → Prop} (hw : xw_X0_wasAsked VA TA x1 x2 ν Q) : xMet l S A (dV + 9) 0 0 2 yX0_wasAsked [.ref (S.2.1 0), .int x1, .int x2] ν (pI Q) :=
  x_met (plainFor_of_name (by decide)) hD ⟨⟨by decide, by decide, by show _ = some 2; decide +kernel⟩, by decide, q1616, q171⟩ (Nat.le_of_ble_eq_true rfl) (fun κ Z h hT hN hR => xt_X0_wasAsked hV h hT hN hR hw)
def xw_X0_who_39 (VA : Nat → Nat → XN → (Int64 → XN → Prop) → Prop) (TA : Nat → Nat → XN → (Int32 → XN → Prop) → Prop) (X14 : Int32 → Int32 → Int32 → XN → Prop) (x1 : Int32) (x3 : Int32) (y0 : Int32) (y1 : Int32) (ν : XN) (Q : Int32 → XN → Prop) : Prop :=
  X14 x1 (y1 ||| y0) (x3 + 1) ν
theorem xt_X0_who_39 {κ : Cx} {S : Adr} {A : Nat → Prop} {Z : State → Prop} {Q : Int32 → XN → Prop} {dV : Nat} {VA : Nat → Nat → XN → (Int64 → XN → Prop) → Prop} {TA : Nat → Nat → XN → (Int32 → XN → Prop) → Prop} (hV : HVT S A dV VA TA) (h : XCx κ cX0_who RX0 S A (dV + 10) 0 0) (hT : (cxT κ).sig.returnType = some .int) (hN : (cxT κ).name = "who") (hR : xRet κ S A 0 0 Z cX0_who (pI Q)) {X14 : Int32 → Int32 → Int32 → XN → Prop} (hX14 : ∀ (x1 : Int32) (x2 : Int32) (x3 : Int32) (ν : XN), X14 x1 x2 x3 ν → XG κ S A 0 0 Z 14 (ν, 0, 0) [some (.ref (S.2.1 0)), some (.int x1), some (.int x2), some (.int x3)] []) {x1 : Int32} {x3 : Int32} {y0 : Int32} {y1 : Int32} {ν : XN} (hw : xw_X0_who_39 VA TA X14 x1 x3 y0 y1 ν Q) : XG κ S A 0 0 Z 39 (ν, 0, 0) [some (.ref (S.2.1 0)), some (.int x1), none, some (.int x3)] [.int y0, .int y1] := by
  unfold xw_X0_who_39 at hw
  refine g_ior 39 h.1 dX0_who_39 ?_
  refine g_istore_2 40 h.1 rfl dX0_who_40 ?_
  refine g_iinc_3 41 (x3 + 1) (congrArg _ ic_1) h.1 rfl dX0_who_41 ?_
  refine g_goto 44 14 h.1 dX0_who_44 (by decide) ?_
  exact g_le (hX14 _ _ _ _ hw) ⟨rfl, rfl, rfl, rfl, trivial⟩
def xw_X0_who_14 (VA : Nat → Nat → XN → (Int64 → XN → Prop) → Prop) (TA : Nat → Nat → XN → (Int32 → XN → Prop) → Prop) (x1 : Int32) (x2 : Int32) (x3 : Int32) (ν : XN) (Q : Int32 → XN → Prop) : Prop :=
  ∀ X14 : Int32 → Int32 → Int32 → XN → Prop, (∀ (x1 : Int32) (x2 : Int32) (x3 : Int32) (ν : XN), (xw_X0_people ν (fun r4 ν3 => ((r4 ≤ x3 → Q x2 ν3) ∧ (¬ r4 ≤ x3 → (xw_X0_wasAsked VA TA x3 x1 ν3 (fun r6 ν5 => ((r6 = 0 → xw_X0_who_39 VA TA X14 x1 x3 (0 : Int32) x2 ν5 Q) ∧ (¬ r6 = 0 → xw_X0_who_39 VA TA X14 x1 x3 ((1 : Int32) <<< (x3 &&& 31)) x2 ν5 Q)))))))) → X14 x1 x2 x3 ν) → X14 x1 x2 x3 ν
theorem xt_X0_who_14 {κ : Cx} {S : Adr} {A : Nat → Prop} {Z : State → Prop} {Q : Int32 → XN → Prop} {dV : Nat} {VA : Nat → Nat → XN → (Int64 → XN → Prop) → Prop} {TA : Nat → Nat → XN → (Int32 → XN → Prop) → Prop} (hV : HVT S A dV VA TA) (h : XCx κ cX0_who RX0 S A (dV + 10) 0 0) (hT : (cxT κ).sig.returnType = some .int) (hN : (cxT κ).name = "who") (hR : xRet κ S A 0 0 Z cX0_who (pI Q)) {x1 : Int32} {x2 : Int32} {x3 : Int32} {ν : XN} (hw : xw_X0_who_14 VA TA x1 x2 x3 ν Q) : XG κ S A 0 0 Z 14 (ν, 0, 0) [some (.ref (S.2.1 0)), some (.int x1), some (.int x2), some (.int x3)] [] := by
  refine hw (fun x1 x2 x3 ν => XG κ S A 0 0 Z 14 (ν, 0, 0) [some (.ref (S.2.1 0)), some (.int x1), some (.int x2), some (.int x3)] []) ?_
  clear hw
  intro x1 x2 x3 ν hw
  have hX14 : ∀ (x1 : Int32) (x2 : Int32) (x3 : Int32) (ν : XN), XG κ S A 0 0 Z 14 (ν, 0, 0) [some (.ref (S.2.1 0)), some (.int x1), some (.int x2), some (.int x3)] [] → XG κ S A 0 0 Z 14 (ν, 0, 0) [some (.ref (S.2.1 0)), some (.int x1), some (.int x2), some (.int x3)] [] := fun _ _ _ _ hh => hh
  refine g_iload_3 14 h.1 dX0_who_14 ?_
  refine g_aload_0 15 h.1 dX0_who_15 ?_
  refine xcV_I_0 16 h (xm_X0_people h.2.2.1 hw) (by omega) (Nat.le_of_eq (Nat.zero_add _)) (Nat.le_of_eq (Nat.zero_add _)) q1284 qs38 (fun H hI => x_recvK h rfl rfl hI) q1303 (Nat.le_of_ble_eq_true rfl) dX0_who_16 (fun r4 ν3 hw => ?_)
  refine g_icmp_ge 19 47 h.1 dX0_who_19 (by decide) (fun c => ?_) (fun c => ?_)
  · have hw := hw.1 c
    refine g_iload_2 47 h.1 dX0_who_47 ?_
    exact hR.1 48 _ _ _ _ _ _ hT rfl dX0_who_48 ⟨_, rfl, hw⟩
  · have hw := hw.2 c
    refine g_iload_2 22 h.1 dX0_who_22 ?_
    refine g_aload_0 23 h.1 dX0_who_23 ?_
    refine g_iload_3 24 h.1 dX0_who_24 ?_
    refine g_iload_1 25 h.1 dX0_who_25 ?_
    refine xcV_I_2 26 h (xm_X0_wasAsked hV h.2.2.1 hw) (by omega) (Nat.le_of_eq (Nat.zero_add _)) (Nat.le_of_eq (Nat.zero_add _)) q1615 qs60 (fun H hI => x_recvK h rfl rfl hI) q1613 (Nat.le_of_ble_eq_true rfl) dX0_who_26 (fun r6 ν5 hw => ?_)
    refine g_if_eq 29 38 h.1 dX0_who_29 (by decide) (fun c => ?_) (fun c => ?_)
    · have hw := hw.1 c
      refine g_iconstv 38 _ ic_0 h.1 dX0_who_38 ?_
      exact g_le (xt_X0_who_39 hV h hT hN hR hX14 hw) ⟨rfl, rfl, rfl, trivial⟩
    · have hw := hw.2 c
      refine g_iconstv 32 _ ic_1 h.1 dX0_who_32 ?_
      refine g_iload_3 33 h.1 dX0_who_33 ?_
      refine g_ishl 34 h.1 dX0_who_34 ?_
      refine g_goto 35 39 h.1 dX0_who_35 (by decide) ?_
      exact g_le (xt_X0_who_39 hV h hT hN hR hX14 hw) ⟨rfl, rfl, rfl, trivial⟩
def xw_X0_who (VA : Nat → Nat → XN → (Int64 → XN → Prop) → Prop) (TA : Nat → Nat → XN → (Int32 → XN → Prop) → Prop) (x1 : Int32) (ν : XN) (Q : Int32 → XN → Prop) : Prop :=
  (xw_X0_isTopic x1 ν (fun r2 ν1 => ((¬ r2 = 0 → xw_X0_who_14 VA TA x1 (0 : Int32) (0 : Int32) ν1 Q) ∧ (r2 = 0 → Q (-1 : Int32) ν1))))
theorem xt_X0_who {κ : Cx} {S : Adr} {A : Nat → Prop} {Z : State → Prop} {Q : Int32 → XN → Prop} {dV : Nat} {VA : Nat → Nat → XN → (Int64 → XN → Prop) → Prop} {TA : Nat → Nat → XN → (Int32 → XN → Prop) → Prop} (hV : HVT S A dV VA TA) (h : XCx κ cX0_who RX0 S A (dV + 10) 0 0) (hT : (cxT κ).sig.returnType = some .int) (hN : (cxT κ).name = "who") (hR : xRet κ S A 0 0 Z cX0_who (pI Q)) {x1 : Int32} {ν : XN} (hw : xw_X0_who VA TA x1 ν Q) : XG κ S A 0 0 Z 0 (ν, 0, 0) [some (.ref (S.2.1 0)), some (.int x1), none, none] [] := by
  unfold xw_X0_who at hw
  refine g_aload_0 0 h.1 dX0_who_0 ?_
  refine g_iload_1 1 h.1 dX0_who_1 ?_
  refine xcV_I_1 2 h (xm_X0_isTopic h.2.2.1 hw) (by omega) (Nat.le_of_eq (Nat.zero_add _)) (Nat.le_of_eq (Nat.zero_add _)) q1361 qs43 (fun H hI => x_recvK h rfl rfl hI) q1359 (Nat.le_of_ble_eq_true rfl) dX0_who_2 (fun r2 ν1 hw => ?_)
  refine g_if_ne 5 10 h.1 dX0_who_5 (by decide) (fun c => ?_) (fun c => ?_)
  · have hw := hw.1 c
    refine g_iconstv 10 _ ic_0 h.1 dX0_who_10 ?_
    refine g_istore_2 11 h.1 rfl dX0_who_11 ?_
    refine g_iconstv 12 _ ic_0 h.1 dX0_who_12 ?_
    refine g_istore_3 13 h.1 rfl dX0_who_13 ?_
    exact g_le (xt_X0_who_14 hV h hT hN hR hw) ⟨rfl, rfl, rfl, rfl, trivial⟩
  · have hw := hw.2 c
    refine g_iconstv 8 _ ic_m1 h.1 dX0_who_8 ?_
    exact hR.1 9 _ _ _ _ _ _ hT rfl dX0_who_9 ⟨_, rfl, hw⟩
theorem xm_X0_who {l : Launch} {S : Adr} {A : Nat → Prop} {dV : Nat} {VA : Nat → Nat → XN → (Int64 → XN → Prop) → Prop} {TA : Nat → Nat → XN → (Int32 → XN → Prop) → Prop} (hV : HVT S A dV VA TA) (hD : FD xT S xcl A) {x1 : Int32} {ν : XN} {Q : Int32 → XN → Prop} (hw : xw_X0_who VA TA x1 ν Q) : xMet l S A (dV + 10) 0 0 1 yX0_who [.ref (S.2.1 0), .int x1] ν (pI Q) :=
  x_met (plainFor_of_name (by decide)) hD ⟨⟨by decide, by decide, by show _ = some 1; decide +kernel⟩, by decide, q1612, q171⟩ (Nat.le_of_ble_eq_true rfl) (fun κ Z h hT hN hR => xt_X0_who hV h hT hN hR hw)
def xw_X0_tells_104 (VA : Nat → Nat → XN → (Int64 → XN → Prop) → Prop) (TA : Nat → Nat → XN → (Int32 → XN → Prop) → Prop) (X32 : Int32 → Int32 → Int32 → Int32 → Int32 → XN → Prop) (X47 : Int32 → Int32 → Int32 → Int32 → Int32 → Int32 → XN → Prop) (x2 : Int32) (x3 : Int32) (x4 : Int32) (x5 : Int32) (x6 : Int32) (x7 : Int32) (ν : XN) (Q : Int32 → XN → Prop) : Prop :=
  X47 x2 x3 x4 x5 x6 (x7 + 1) ν
theorem xt_X0_tells_104 {κ : Cx} {S : Adr} {A : Nat → Prop} {Z : State → Prop} {Q : Int32 → XN → Prop} {dV : Nat} {VA : Nat → Nat → XN → (Int64 → XN → Prop) → Prop} {TA : Nat → Nat → XN → (Int32 → XN → Prop) → Prop} (hV : HVT S A dV VA TA) (h : XCx κ cX0_tells RX0 S A (dV + 11) 0 0) (hT : (cxT κ).sig.returnType = some .int) (hN : (cxT κ).name = "tells") (hR : xRet κ S A 0 0 Z cX0_tells (pI Q)) {X32 : Int32 → Int32 → Int32 → Int32 → Int32 → XN → Prop} {X47 : Int32 → Int32 → Int32 → Int32 → Int32 → Int32 → XN → Prop} (hX32 : ∀ (x2 : Int32) (x3 : Int32) (x4 : Int32) (x5 : Int32) (x6 : Int32) (ν : XN), X32 x2 x3 x4 x5 x6 ν → XG κ S A 0 0 Z 32 (ν, 0, 0) [some (.ref (S.2.1 0)), none, some (.int x2), some (.int x3), some (.int x4), some (.int x5), some (.int x6), none, none] []) (hX47 : ∀ (x2 : Int32) (x3 : Int32) (x4 : Int32) (x5 : Int32) (x6 : Int32) (x7 : Int32) (ν : XN), X47 x2 x3 x4 x5 x6 x7 ν → XG κ S A 0 0 Z 47 (ν, 0, 0) [some (.ref (S.2.1 0)), none, some (.int x2), some (.int x3), some (.int x4), some (.int x5), some (.int x6), some (.int x7), none] []) {x2 : Int32} {x3 : Int32} {x4 : Int32} {x5 : Int32} {x6 : Int32} {x7 : Int32} {ν : XN} (hw : xw_X0_tells_104 VA TA X32 X47 x2 x3 x4 x5 x6 x7 ν Q) : XG κ S A 0 0 Z 104 (ν, 0, 0) [some (.ref (S.2.1 0)), none, some (.int x2), some (.int x3), some (.int x4), some (.int x5), some (.int x6), some (.int x7), none] [] := by
  unfold xw_X0_tells_104 at hw
  refine g_iinc_7 104 (x7 + 1) (congrArg _ ic_1) h.1 rfl dX0_tells_104 ?_
  refine g_goto 107 47 h.1 dX0_tells_107 (by decide) ?_
  exact g_le (hX47 _ _ _ _ _ _ _ hw) ⟨rfl, rfl, rfl, rfl, rfl, rfl, rfl, trivial⟩
def xw_X0_tells_78 (VA : Nat → Nat → XN → (Int64 → XN → Prop) → Prop) (TA : Nat → Nat → XN → (Int32 → XN → Prop) → Prop) (X32 : Int32 → Int32 → Int32 → Int32 → Int32 → XN → Prop) (X47 : Int32 → Int32 → Int32 → Int32 → Int32 → Int32 → XN → Prop) (x2 : Int32) (x3 : Int32) (x4 : Int32) (x5 : Int32) (x6 : Int32) (x7 : Int32) (y0 : Int32) (ν : XN) (Q : Int32 → XN → Prop) : Prop :=
  ((y0 < x5 → xw_X0_tells_104 VA TA X32 X47 x2 x3 (((64 : Int32) * x6) + x7) y0 x6 x7 ν Q) ∧ (¬ y0 < x5 → xw_X0_tells_104 VA TA X32 X47 x2 x3 x4 x5 x6 x7 ν Q))
theorem xt_X0_tells_78 {κ : Cx} {S : Adr} {A : Nat → Prop} {Z : State → Prop} {Q : Int32 → XN → Prop} {dV : Nat} {VA : Nat → Nat → XN → (Int64 → XN → Prop) → Prop} {TA : Nat → Nat → XN → (Int32 → XN → Prop) → Prop} (hV : HVT S A dV VA TA) (h : XCx κ cX0_tells RX0 S A (dV + 11) 0 0) (hT : (cxT κ).sig.returnType = some .int) (hN : (cxT κ).name = "tells") (hR : xRet κ S A 0 0 Z cX0_tells (pI Q)) {X32 : Int32 → Int32 → Int32 → Int32 → Int32 → XN → Prop} {X47 : Int32 → Int32 → Int32 → Int32 → Int32 → Int32 → XN → Prop} (hX32 : ∀ (x2 : Int32) (x3 : Int32) (x4 : Int32) (x5 : Int32) (x6 : Int32) (ν : XN), X32 x2 x3 x4 x5 x6 ν → XG κ S A 0 0 Z 32 (ν, 0, 0) [some (.ref (S.2.1 0)), none, some (.int x2), some (.int x3), some (.int x4), some (.int x5), some (.int x6), none, none] []) (hX47 : ∀ (x2 : Int32) (x3 : Int32) (x4 : Int32) (x5 : Int32) (x6 : Int32) (x7 : Int32) (ν : XN), X47 x2 x3 x4 x5 x6 x7 ν → XG κ S A 0 0 Z 47 (ν, 0, 0) [some (.ref (S.2.1 0)), none, some (.int x2), some (.int x3), some (.int x4), some (.int x5), some (.int x6), some (.int x7), none] []) {x2 : Int32} {x3 : Int32} {x4 : Int32} {x5 : Int32} {x6 : Int32} {x7 : Int32} {y0 : Int32} {ν : XN} (hw : xw_X0_tells_78 VA TA X32 X47 x2 x3 x4 x5 x6 x7 y0 ν Q) : XG κ S A 0 0 Z 78 (ν, 0, 0) [some (.ref (S.2.1 0)), none, some (.int x2), some (.int x3), some (.int x4), some (.int x5), some (.int x6), some (.int x7), none] [.int y0] := by
  unfold xw_X0_tells_78 at hw
  refine g_istore_8 78 h.1 rfl dX0_tells_78 ?_
  refine g_iload_8 80 h.1 dX0_tells_80 ?_
  refine g_iload_5 82 h.1 dX0_tells_82 ?_
  refine g_icmp_lt 84 90 h.1 dX0_tells_84 (by decide) (fun c => ?_) (fun c => ?_)
  · have hw := hw.1 c
    refine g_iload_8 90 h.1 dX0_tells_90 ?_
    refine g_istore_5 92 h.1 rfl dX0_tells_92 ?_
    refine g_bipush 94 _ bp_64 h.1 dX0_tells_94 ?_
    refine g_iload_6 96 h.1 dX0_tells_96 ?_
    refine g_imul 98 h.1 dX0_tells_98 ?_
    refine g_iload_7 99 h.1 dX0_tells_99 ?_
    refine g_iadd 101 h.1 dX0_tells_101 ?_
    refine g_istore_4 102 h.1 rfl dX0_tells_102 ?_
    exact g_le (xt_X0_tells_104 hV h hT hN hR hX32 hX47 hw) ⟨rfl, rfl, rfl, rfl, rfl, rfl, rfl, trivial⟩
  · have hw := hw.2 c
    refine g_goto 87 104 h.1 dX0_tells_87 (by decide) ?_
    exact g_le (xt_X0_tells_104 hV h hT hN hR hX32 hX47 hw) ⟨rfl, rfl, rfl, rfl, rfl, rfl, rfl, trivial⟩
def xw_X0_tells_47 (VA : Nat → Nat → XN → (Int64 → XN → Prop) → Prop) (TA : Nat → Nat → XN → (Int32 → XN → Prop) → Prop) (X32 : Int32 → Int32 → Int32 → Int32 → Int32 → XN → Prop) (x2 : Int32) (x3 : Int32) (x4 : Int32) (x5 : Int32) (x6 : Int32) (x7 : Int32) (ν : XN) (Q : Int32 → XN → Prop) : Prop :=
  ∀ X47 : Int32 → Int32 → Int32 → Int32 → Int32 → Int32 → XN → Prop, (∀ (x2 : Int32) (x3 : Int32) (x4 : Int32) (x5 : Int32) (x6 : Int32) (x7 : Int32) (ν : XN), (((64 : Int32) ≤ x7 → X32 x2 x3 x4 x5 (x6 + 1) ν) ∧ (¬ (64 : Int32) ≤ x7 → (xw_X0_isCell x7 ν (fun r8 ν7 => ((r8 = 0 → xw_X0_tells_78 VA TA X32 X47 x2 x3 x4 x5 x6 x7 (100000000 : Int32) ν7 Q) ∧ (¬ r8 = 0 → (xw_X0_mostBy x3 x6 x7 ν7 (fun r10 ν9 => xw_X0_tells_78 VA TA X32 X47 x2 x3 x4 x5 x6 x7 r10 ν9 Q)))))))) → X47 x2 x3 x4 x5 x6 x7 ν) → X47 x2 x3 x4 x5 x6 x7 ν
theorem xt_X0_tells_47 {κ : Cx} {S : Adr} {A : Nat → Prop} {Z : State → Prop} {Q : Int32 → XN → Prop} {dV : Nat} {VA : Nat → Nat → XN → (Int64 → XN → Prop) → Prop} {TA : Nat → Nat → XN → (Int32 → XN → Prop) → Prop} (hV : HVT S A dV VA TA) (h : XCx κ cX0_tells RX0 S A (dV + 11) 0 0) (hT : (cxT κ).sig.returnType = some .int) (hN : (cxT κ).name = "tells") (hR : xRet κ S A 0 0 Z cX0_tells (pI Q)) {X32 : Int32 → Int32 → Int32 → Int32 → Int32 → XN → Prop} (hX32 : ∀ (x2 : Int32) (x3 : Int32) (x4 : Int32) (x5 : Int32) (x6 : Int32) (ν : XN), X32 x2 x3 x4 x5 x6 ν → XG κ S A 0 0 Z 32 (ν, 0, 0) [some (.ref (S.2.1 0)), none, some (.int x2), some (.int x3), some (.int x4), some (.int x5), some (.int x6), none, none] []) {x2 : Int32} {x3 : Int32} {x4 : Int32} {x5 : Int32} {x6 : Int32} {x7 : Int32} {ν : XN} (hw : xw_X0_tells_47 VA TA X32 x2 x3 x4 x5 x6 x7 ν Q) : XG κ S A 0 0 Z 47 (ν, 0, 0) [some (.ref (S.2.1 0)), none, some (.int x2), some (.int x3), some (.int x4), some (.int x5), some (.int x6), some (.int x7), none] [] := by
  refine hw (fun x2 x3 x4 x5 x6 x7 ν => XG κ S A 0 0 Z 47 (ν, 0, 0) [some (.ref (S.2.1 0)), none, some (.int x2), some (.int x3), some (.int x4), some (.int x5), some (.int x6), some (.int x7), none] []) ?_
  clear hw
  intro x2 x3 x4 x5 x6 x7 ν hw
  have hX47 : ∀ (x2 : Int32) (x3 : Int32) (x4 : Int32) (x5 : Int32) (x6 : Int32) (x7 : Int32) (ν : XN), XG κ S A 0 0 Z 47 (ν, 0, 0) [some (.ref (S.2.1 0)), none, some (.int x2), some (.int x3), some (.int x4), some (.int x5), some (.int x6), some (.int x7), none] [] → XG κ S A 0 0 Z 47 (ν, 0, 0) [some (.ref (S.2.1 0)), none, some (.int x2), some (.int x3), some (.int x4), some (.int x5), some (.int x6), some (.int x7), none] [] := fun _ _ _ _ _ _ _ hh => hh
  refine g_iload_7 47 h.1 dX0_tells_47 ?_
  refine g_bipush 49 _ bp_64 h.1 dX0_tells_49 ?_
  refine g_icmp_ge 51 110 h.1 dX0_tells_51 (by decide) (fun c => ?_) (fun c => ?_)
  · have hw := hw.1 c
    refine g_iinc_6 110 (x6 + 1) (congrArg _ ic_1) h.1 rfl dX0_tells_110 ?_
    refine g_goto 113 32 h.1 dX0_tells_113 (by decide) ?_
    exact g_le (hX32 _ _ _ _ _ _ hw) ⟨rfl, rfl, rfl, rfl, rfl, rfl, trivial⟩
  · have hw := hw.2 c
    refine g_aload_0 54 h.1 dX0_tells_54 ?_
    refine g_iload_7 55 h.1 dX0_tells_55 ?_
    refine xcV_I_1 57 h (xm_X0_isCell h.2.2.1 hw) (by omega) (Nat.le_of_eq (Nat.zero_add _)) (Nat.le_of_eq (Nat.zero_add _)) q1306 qs40 (fun H hI => x_recvK h rfl rfl hI) q1304 (Nat.le_of_ble_eq_true rfl) dX0_tells_57 (fun r8 ν7 hw => ?_)
    refine g_if_eq 60 75 h.1 dX0_tells_60 (by decide) (fun c => ?_) (fun c => ?_)
    · have hw := hw.1 c
      refine g_ldcw 75 h.1 q1564 dX0_tells_75 ?_
      exact g_le (xt_X0_tells_78 hV h hT hN hR hX32 hX47 hw) ⟨rfl, rfl, rfl, rfl, rfl, rfl, rfl, trivial⟩
    · have hw := hw.2 c
      refine g_aload_0 63 h.1 dX0_tells_63 ?_
      refine g_iload_3 64 h.1 dX0_tells_64 ?_
      refine g_iload_6 65 h.1 dX0_tells_65 ?_
      refine g_iload_7 67 h.1 dX0_tells_67 ?_
      refine xcV_I_3 69 h (xm_X0_mostBy h.2.2.1 hw) (by omega) (Nat.le_of_eq (Nat.zero_add _)) (Nat.le_of_eq (Nat.zero_add _)) q1624 qs61 (fun H hI => x_recvK h rfl rfl hI) q1622 (Nat.le_of_ble_eq_true rfl) dX0_tells_69 (fun r10 ν9 hw => ?_)
      refine g_goto 72 78 h.1 dX0_tells_72 (by decide) ?_
      exact g_le (xt_X0_tells_78 hV h hT hN hR hX32 hX47 hw) ⟨rfl, rfl, rfl, rfl, rfl, rfl, rfl, trivial⟩
def xw_X0_tells_32 (VA : Nat → Nat → XN → (Int64 → XN → Prop) → Prop) (TA : Nat → Nat → XN → (Int32 → XN → Prop) → Prop) (x2 : Int32) (x3 : Int32) (x4 : Int32) (x5 : Int32) (x6 : Int32) (ν : XN) (Q : Int32 → XN → Prop) : Prop :=
  ∀ X32 : Int32 → Int32 → Int32 → Int32 → Int32 → XN → Prop, (∀ (x2 : Int32) (x3 : Int32) (x4 : Int32) (x5 : Int32) (x6 : Int32) (ν : XN), (xw_X0_isAhead x6 (0 : Int32) (30 : Int32) ν (fun r6 ν5 => ((r6 = 0 → ((¬ x2 = 0 → ((¬ x2 = (1 : Int32) → Q x5 ν5) ∧ (x2 = (1 : Int32) → Q (x4 - x4 / (64 : Int32) * (64 : Int32)) ν5))) ∧ (x2 = 0 → Q (x4 / (64 : Int32)) ν5))) ∧ (¬ r6 = 0 → xw_X0_tells_47 VA TA X32 x2 x3 x4 x5 x6 (0 : Int32) ν5 Q)))) → X32 x2 x3 x4 x5 x6 ν) → X32 x2 x3 x4 x5 x6 ν
theorem xt_X0_tells_32 {κ : Cx} {S : Adr} {A : Nat → Prop} {Z : State → Prop} {Q : Int32 → XN → Prop} {dV : Nat} {VA : Nat → Nat → XN → (Int64 → XN → Prop) → Prop} {TA : Nat → Nat → XN → (Int32 → XN → Prop) → Prop} (hV : HVT S A dV VA TA) (h : XCx κ cX0_tells RX0 S A (dV + 11) 0 0) (hT : (cxT κ).sig.returnType = some .int) (hN : (cxT κ).name = "tells") (hR : xRet κ S A 0 0 Z cX0_tells (pI Q)) {x2 : Int32} {x3 : Int32} {x4 : Int32} {x5 : Int32} {x6 : Int32} {ν : XN} (hw : xw_X0_tells_32 VA TA x2 x3 x4 x5 x6 ν Q) : XG κ S A 0 0 Z 32 (ν, 0, 0) [some (.ref (S.2.1 0)), none, some (.int x2), some (.int x3), some (.int x4), some (.int x5), some (.int x6), none, none] [] := by
  refine hw (fun x2 x3 x4 x5 x6 ν => XG κ S A 0 0 Z 32 (ν, 0, 0) [some (.ref (S.2.1 0)), none, some (.int x2), some (.int x3), some (.int x4), some (.int x5), some (.int x6), none, none] []) ?_
  clear hw
  intro x2 x3 x4 x5 x6 ν hw
  have hX32 : ∀ (x2 : Int32) (x3 : Int32) (x4 : Int32) (x5 : Int32) (x6 : Int32) (ν : XN), XG κ S A 0 0 Z 32 (ν, 0, 0) [some (.ref (S.2.1 0)), none, some (.int x2), some (.int x3), some (.int x4), some (.int x5), some (.int x6), none, none] [] → XG κ S A 0 0 Z 32 (ν, 0, 0) [some (.ref (S.2.1 0)), none, some (.int x2), some (.int x3), some (.int x4), some (.int x5), some (.int x6), none, none] [] := fun _ _ _ _ _ _ hh => hh
  refine g_aload_0 32 h.1 dX0_tells_32 ?_
  refine g_iload_6 33 h.1 dX0_tells_33 ?_
  refine g_iconstv 35 _ ic_0 h.1 dX0_tells_35 ?_
  refine g_bipush 36 _ bp_30 h.1 dX0_tells_36 ?_
  refine xcV_I_3 38 h (xm_X0_isAhead h.2.2.1 hw) (by omega) (Nat.le_of_eq (Nat.zero_add _)) (Nat.le_of_eq (Nat.zero_add _)) q1508 qs51 (fun H hI => x_recvK h rfl rfl hI) q1506 (Nat.le_of_ble_eq_true rfl) dX0_tells_38 (fun r6 ν5 hw => ?_)
  refine g_if_eq 41 116 h.1 dX0_tells_41 (by decide) (fun c => ?_) (fun c => ?_)
  · have hw := hw.1 c
    refine g_iload_2 116 h.1 dX0_tells_116 ?_
    refine g_if_ne 117 128 h.1 dX0_tells_117 (by decide) (fun c => ?_) (fun c => ?_)
    · have hw := hw.1 c
      refine g_iload_2 128 h.1 dX0_tells_128 ?_
      refine g_iconstv 129 _ ic_1 h.1 dX0_tells_129 ?_
      refine g_icmp_ne 130 141 h.1 dX0_tells_130 (by decide) (fun c => ?_) (fun c => ?_)
      · have hw := hw.1 c
        refine g_iload_5 141 h.1 dX0_tells_141 ?_
        exact hR.1 143 _ _ _ _ _ _ hT rfl dX0_tells_143 ⟨_, rfl, hw⟩
      · have hw := hw.2 c
        refine g_iload_4 133 h.1 dX0_tells_133 ?_
        refine g_bipush 135 _ bp_64 h.1 dX0_tells_135 ?_
        refine g_irem 137 (by decide) h.1 dX0_tells_137 ?_
        refine g_goto 138 143 h.1 dX0_tells_138 (by decide) ?_
        exact hR.1 143 _ _ _ _ _ _ hT rfl dX0_tells_143 ⟨_, rfl, hw⟩
    · have hw := hw.2 c
      refine g_iload_4 120 h.1 dX0_tells_120 ?_
      refine g_bipush 122 _ bp_64 h.1 dX0_tells_122 ?_
      refine g_idiv 124 (by decide) h.1 dX0_tells_124 ?_
      refine g_goto 125 143 h.1 dX0_tells_125 (by decide) ?_
      exact hR.1 143 _ _ _ _ _ _ hT rfl dX0_tells_143 ⟨_, rfl, hw⟩
  · have hw := hw.2 c
    refine g_iconstv 44 _ ic_0 h.1 dX0_tells_44 ?_
    refine g_istore_7 45 h.1 rfl dX0_tells_45 ?_
    exact g_le (xt_X0_tells_47 hV h hT hN hR hX32 hw) ⟨rfl, rfl, rfl, rfl, rfl, rfl, rfl, trivial⟩
def xw_X0_tells (VA : Nat → Nat → XN → (Int64 → XN → Prop) → Prop) (TA : Nat → Nat → XN → (Int32 → XN → Prop) → Prop) (x1 : Int32) (x2 : Int32) (ν : XN) (Q : Int32 → XN → Prop) : Prop :=
  (xw_X0_who VA TA x1 ν (fun r2 ν1 => ((r2 ≤ 0 → Q (-1 : Int32) ν1) ∧ (¬ r2 ≤ 0 → (xw_X0_is x2 (0 : Int32) (2 : Int32) ν1 (fun r4 ν3 => ((¬ r4 = 0 → xw_X0_tells_32 VA TA x2 r2 (-1 : Int32) (100000000 : Int32) (0 : Int32) ν3 Q) ∧ (r4 = 0 → Q (-1 : Int32) ν3))))))))
theorem xt_X0_tells {κ : Cx} {S : Adr} {A : Nat → Prop} {Z : State → Prop} {Q : Int32 → XN → Prop} {dV : Nat} {VA : Nat → Nat → XN → (Int64 → XN → Prop) → Prop} {TA : Nat → Nat → XN → (Int32 → XN → Prop) → Prop} (hV : HVT S A dV VA TA) (h : XCx κ cX0_tells RX0 S A (dV + 11) 0 0) (hT : (cxT κ).sig.returnType = some .int) (hN : (cxT κ).name = "tells") (hR : xRet κ S A 0 0 Z cX0_tells (pI Q)) {x1 : Int32} {x2 : Int32} {ν : XN} (hw : xw_X0_tells VA TA x1 x2 ν Q) : XG κ S A 0 0 Z 0 (ν, 0, 0) [some (.ref (S.2.1 0)), some (.int x1), some (.int x2), none, none, none, none, none, none] [] := by
  unfold xw_X0_tells at hw
  refine g_aload_0 0 h.1 dX0_tells_0 ?_
  refine g_iload_1 1 h.1 dX0_tells_1 ?_
  refine xcV_I_1 2 h (xm_X0_who hV h.2.2.1 hw) (by omega) (Nat.le_of_eq (Nat.zero_add _)) (Nat.le_of_eq (Nat.zero_add _)) q1610 q1611 (fun H hI => x_recvK h rfl rfl hI) q1621 (Nat.le_of_ble_eq_true rfl) dX0_tells_2 (fun r2 ν1 hw => ?_)
  refine g_istore_3 5 h.1 rfl dX0_tells_5 ?_
  refine g_iload_3 6 h.1 dX0_tells_6 ?_
  refine g_if_le 7 19 h.1 dX0_tells_7 (by decide) (fun c => ?_) (fun c => ?_)
  · have hw := hw.1 c
    refine g_iconstv 19 _ ic_m1 h.1 dX0_tells_19 ?_
    exact hR.1 20 _ _ _ _ _ _ hT rfl dX0_tells_20 ⟨_, rfl, hw⟩
  · have hw := hw.2 c
    refine g_iload_2 10 h.1 dX0_tells_10 ?_
    refine g_iconstv 11 _ ic_0 h.1 dX0_tells_11 ?_
    refine g_iconstv 12 _ ic_2 h.1 dX0_tells_12 ?_
    refine xcS_I_3 13 h (xm_X0_is h.2.2.1 hw) (by omega) (Nat.le_of_eq (Nat.zero_add _)) (Nat.le_of_eq (Nat.zero_add _)) q705 q1312 (Nat.le_of_ble_eq_true rfl) dX0_tells_13 (fun r4 ν3 hw => ?_)
    refine g_if_ne 16 21 h.1 dX0_tells_16 (by decide) (fun c => ?_) (fun c => ?_)
    · have hw := hw.1 c
      refine g_iconstv 21 _ ic_m1 h.1 dX0_tells_21 ?_
      refine g_istore_4 22 h.1 rfl dX0_tells_22 ?_
      refine g_ldcw 24 h.1 q1564 dX0_tells_24 ?_
      refine g_istore_5 27 h.1 rfl dX0_tells_27 ?_
      refine g_iconstv 29 _ ic_0 h.1 dX0_tells_29 ?_
      refine g_istore_6 30 h.1 rfl dX0_tells_30 ?_
      exact g_le (xt_X0_tells_32 hV h hT hN hR hw) ⟨rfl, rfl, rfl, rfl, rfl, rfl, trivial⟩
    · have hw := hw.2 c
      refine g_iconstv 19 _ ic_m1 h.1 dX0_tells_19 ?_
      exact hR.1 20 _ _ _ _ _ _ hT rfl dX0_tells_20 ⟨_, rfl, hw⟩
theorem xm_X0_tells {l : Launch} {S : Adr} {A : Nat → Prop} {dV : Nat} {VA : Nat → Nat → XN → (Int64 → XN → Prop) → Prop} {TA : Nat → Nat → XN → (Int32 → XN → Prop) → Prop} (hV : HVT S A dV VA TA) (hD : FD xT S xcl A) {x1 : Int32} {x2 : Int32} {ν : XN} {Q : Int32 → XN → Prop} (hw : xw_X0_tells VA TA x1 x2 ν Q) : xMet l S A (dV + 11) 0 0 2 yX0_tells [.ref (S.2.1 0), .int x1, .int x2] ν (pI Q) :=
  x_met (plainFor_of_name (by decide)) hD ⟨⟨by decide, by decide, by show _ = some 2; decide +kernel⟩, by decide, q1620, q171⟩ (Nat.le_of_ble_eq_true rfl) (fun κ Z h hT hN hR => xt_X0_tells hV h hT hN hR hw)
def xw_X0_tired (VA : Nat → Nat → XN → (Int64 → XN → Prop) → Prop) (TA : Nat → Nat → XN → (Int32 → XN → Prop) → Prop) (x1 : Int32) (x2 : Int32) (ν : XN) (Q : Int32 → XN → Prop) : Prop :=
  (xw_X0_isPerson x1 ν (fun r2 ν1 => ((r2 = 0 → Q (-1 : Int32) ν1) ∧ (¬ r2 = 0 → (xw_X0_isAhead x2 (0 : Int32) (60 : Int32) ν1 (fun r4 ν3 => ((r4 = 0 → Q (-1 : Int32) ν3) ∧ (¬ r4 = 0 → (xw_X5_copy 11 10 ν3 (fun r6 ν5 => (xoc r6 = 5 ∧ (xw_X5_days VA TA r6 x2 ν5 (fun r8 ν7 => (xoc r8 = 5 ∧ (xok 1 (xft r8 5) ∧ (vp_in x1 (xlen (xft r8 5)) ∧ Q (fA ν7.1 (xft r8 5) (Int32.toNatClampNeg x1)) ν7))))))))))))))))
theorem xt_X0_tired {κ : Cx} {S : Adr} {A : Nat → Prop} {Z : State → Prop} {Q : Int32 → XN → Prop} {dV : Nat} {VA : Nat → Nat → XN → (Int64 → XN → Prop) → Prop} {TA : Nat → Nat → XN → (Int32 → XN → Prop) → Prop} (hV : HVT S A dV VA TA) (h : XCx κ cX0_tired RX0 S A (dV + 10) 0 0) (hT : (cxT κ).sig.returnType = some .int) (hN : (cxT κ).name = "tired") (hR : xRet κ S A 0 0 Z cX0_tired (pI Q)) {x1 : Int32} {x2 : Int32} {ν : XN} (hw : xw_X0_tired VA TA x1 x2 ν Q) : XG κ S A 0 0 Z 0 (ν, 0, 0) [some (.ref (S.2.1 0)), some (.int x1), some (.int x2)] [] := by
  unfold xw_X0_tired at hw
  refine g_aload_0 0 h.1 dX0_tired_0 ?_
  refine g_iload_1 1 h.1 dX0_tired_1 ?_
  refine xcV_I_1 2 h (xm_X0_isPerson h.2.2.1 hw) (by omega) (Nat.le_of_eq (Nat.zero_add _)) (Nat.le_of_eq (Nat.zero_add _)) q1348 qs42 (fun H hI => x_recvK h rfl rfl hI) q1346 (Nat.le_of_ble_eq_true rfl) dX0_tired_2 (fun r2 ν1 hw => ?_)
  refine g_if_eq 5 42 h.1 dX0_tired_5 (by decide) (fun c => ?_) (fun c => ?_)
  · have hw := hw.1 c
    refine g_iconstv 42 _ ic_m1 h.1 dX0_tired_42 ?_
    exact hR.1 43 _ _ _ _ _ _ hT rfl dX0_tired_43 ⟨_, rfl, hw⟩
  · have hw := hw.2 c
    refine g_aload_0 8 h.1 dX0_tired_8 ?_
    refine g_iload_2 9 h.1 dX0_tired_9 ?_
    refine g_iconstv 10 _ ic_0 h.1 dX0_tired_10 ?_
    refine g_bipush 11 _ bp_60 h.1 dX0_tired_11 ?_
    refine xcV_I_3 13 h (xm_X0_isAhead h.2.2.1 hw) (by omega) (Nat.le_of_eq (Nat.zero_add _)) (Nat.le_of_eq (Nat.zero_add _)) q1508 qs51 (fun H hI => x_recvK h rfl rfl hI) q1506 (Nat.le_of_ble_eq_true rfl) dX0_tired_13 (fun r4 ν3 hw => ?_)
    refine g_if_eq 16 42 h.1 dX0_tired_16 (by decide) (fun c => ?_) (fun c => ?_)
    · have hw := hw.1 c
      refine g_iconstv 42 _ ic_m1 h.1 dX0_tired_42 ?_
      exact hR.1 43 _ _ _ _ _ _ hT rfl dX0_tired_43 ⟨_, rfl, hw⟩
    · have hw := hw.2 c
      refine g_aload_0 19 h.1 dX0_tired_19 ?_
      refine xg_X0_73_0 20 h dX0_tired_20 ?_
      refine g_aload_0 23 h.1 dX0_tired_23 ?_
      refine xg_X0_69_0 24 h dX0_tired_24 ?_
      refine xcV_K_1 27 h (xm_X5_copy h.2.2.1 hw) (by omega) (Nat.le_of_eq (Nat.zero_add _)) (Nat.le_of_eq (Nat.zero_add _)) q1436 q1437 (fun H hI => x_recvK h rfl rfl hI) q1435 (Nat.le_of_ble_eq_true rfl) dX0_tired_27 (fun r6 ν5 hw => ?_)
      refine g_iload_2 30 h.1 dX0_tired_30 ?_
      obtain ⟨f9, hw⟩ := hw
      refine xcV_K_1 31 h (xm_X5_days hV h.2.2.1 hw) (by omega) (Nat.le_of_eq (Nat.zero_add _)) (Nat.le_of_eq (Nat.zero_add _)) q1515 q1516 (fun H hI => x_recvK h f9 rfl hI) q1514 (Nat.le_of_ble_eq_true rfl) dX0_tired_31 (fun r8 ν7 hw => ?_)
      obtain ⟨f10, hw⟩ := hw
      refine xg_X0_219_5 34 f10 h dX0_tired_34 ?_
      refine g_iload_1 37 h.1 dX0_tired_37 ?_
      obtain ⟨f11, hw⟩ := hw
      obtain ⟨f12, hw⟩ := hw
      refine xa_iald 38 f11 f12 h dX0_tired_38 ?_
      refine g_goto 39 43 h.1 dX0_tired_39 (by decide) ?_
      exact hR.1 43 _ _ _ _ _ _ hT rfl dX0_tired_43 ⟨_, rfl, hw⟩
theorem xm_X0_tired {l : Launch} {S : Adr} {A : Nat → Prop} {dV : Nat} {VA : Nat → Nat → XN → (Int64 → XN → Prop) → Prop} {TA : Nat → Nat → XN → (Int32 → XN → Prop) → Prop} (hV : HVT S A dV VA TA) (hD : FD xT S xcl A) {x1 : Int32} {x2 : Int32} {ν : XN} {Q : Int32 → XN → Prop} (hw : xw_X0_tired VA TA x1 x2 ν Q) : xMet l S A (dV + 10) 0 0 2 yX0_tired [.ref (S.2.1 0), .int x1, .int x2] ν (pI Q) :=
  x_met (plainFor_of_name (by decide)) hD ⟨⟨by decide, by decide, by show _ = some 2; decide +kernel⟩, by decide, q1541, q171⟩ (Nat.le_of_ble_eq_true rfl) (fun κ Z h hT hN hR => xt_X0_tired hV h hT hN hR hw)
def xw_X0_undo (ν : XN) (Q : Int32 → XN → Prop) : Prop :=
  ((¬ (fI ν.1 0 21) = 0 → (∀ ν1, ν1 = (sI ν.1 0 21 ((fI ν.1 0 21) - (1 : Int32)), ν.2) → (vp_in (fI ν1.1 0 21) 20 ∧ (xw_X5_copy 10 (fP ν1.1 10 (Int32.toNatClampNeg (fI ν1.1 0 21))) ν1 (fun r5 ν4 => Q (1 : Int32) ν4))))) ∧ ((fI ν.1 0 21) = 0 → (xw_X0_refuses (4 : Int32) ν (fun r7 ν6 => ((r7 < 0 → Q (0 : Int32) ν6) ∧ (¬ r7 < 0 → Q (1 : Int32) ν6))))))
theorem xt_X0_undo {κ : Cx} {S : Adr} {A : Nat → Prop} {Z : State → Prop} {Q : Int32 → XN → Prop} (h : XCx κ cX0_undo RX0 S A 2 0 0) (hT : (cxT κ).sig.returnType = some .boolean) (hN : (cxT κ).name = "undo") (hR : xRet κ S A 0 0 Z cX0_undo (pI Q)) {ν : XN} (hw : xw_X0_undo ν Q) : XG κ S A 0 0 Z 0 (ν, 0, 0) [some (.ref (S.2.1 0))] [] := by
  unfold xw_X0_undo at hw
  refine g_aload_0 0 h.1 dX0_undo_0 ?_
  refine xg_X0_148_0 1 h dX0_undo_1 ?_
  refine g_if_ne 4 21 h.1 dX0_undo_4 (by decide) (fun c => ?_) (fun c => ?_)
  · have hw := hw.1 c
    refine g_aload_0 21 h.1 dX0_undo_21 ?_
    refine g_dup 22 rfl h.1 dX0_undo_22 ?_
    refine xg_X0_148_0 23 h dX0_undo_23 ?_
    refine g_iconstv 26 _ ic_1 h.1 dX0_undo_26 ?_
    refine g_isub 27 h.1 dX0_undo_27 ?_
    refine xp_X0_148_0 28 h dX0_undo_28 (fun ν1 e2 => ?_)
    have hw := hw ν1 e2
    refine g_aload_0 31 h.1 dX0_undo_31 ?_
    refine xg_X0_69_0 32 h dX0_undo_32 ?_
    refine g_aload_0 35 h.1 dX0_undo_35 ?_
    refine xg_X0_105_0 36 h dX0_undo_36 ?_
    refine g_aload_0 39 h.1 dX0_undo_39 ?_
    refine xg_X0_148_0 40 h dX0_undo_40 ?_
    obtain ⟨f3, hw⟩ := hw
    refine xa_aald6 43 rfl f3 h dX0_undo_43 ?_
    refine xcV_K_1 44 h (xm_X5_copy h.2.2.1 hw) (by decide) (Nat.le_of_eq (Nat.zero_add _)) (Nat.le_of_eq (Nat.zero_add _)) q1436 q1437 (fun H hI => x_recvK h rfl rfl hI) q1435 (Nat.le_of_ble_eq_true rfl) dX0_undo_44 (fun r5 ν4 hw => ?_)
    refine g_pop 47 rfl h.1 dX0_undo_47 ?_
    refine g_iconstv 48 _ ic_1 h.1 dX0_undo_48 ?_
    exact hR.1 49 _ _ _ _ _ _ hT rfl dX0_undo_49 ⟨_, rfl, hw⟩
  · have hw := hw.2 c
    refine g_aload_0 7 h.1 dX0_undo_7 ?_
    refine g_iconstv 8 _ ic_4 h.1 dX0_undo_8 ?_
    refine xcV_I_1 9 h (xm_X0_refuses h.2.2.1 hw) (by decide) (Nat.le_of_eq (Nat.zero_add _)) (Nat.le_of_eq (Nat.zero_add _)) q559 qs1 (fun H hI => x_recvK h rfl rfl hI) q557 (Nat.le_of_ble_eq_true rfl) dX0_undo_9 (fun r7 ν6 hw => ?_)
    refine g_if_lt 12 19 h.1 dX0_undo_12 (by decide) (fun c => ?_) (fun c => ?_)
    · have hw := hw.1 c
      refine g_iconstv 19 _ ic_0 h.1 dX0_undo_19 ?_
      exact hR.1 20 _ _ _ _ _ _ hT rfl dX0_undo_20 ⟨_, rfl, hw⟩
    · have hw := hw.2 c
      refine g_iconstv 15 _ ic_1 h.1 dX0_undo_15 ?_
      refine g_goto 16 20 h.1 dX0_undo_16 (by decide) ?_
      exact hR.1 20 _ _ _ _ _ _ hT rfl dX0_undo_20 ⟨_, rfl, hw⟩
theorem xm_X0_undo {l : Launch} {S : Adr} {A : Nat → Prop} (hD : FD xT S xcl A) {ν : XN} {Q : Int32 → XN → Prop} (hw : xw_X0_undo ν Q) : xMet l S A 2 0 0 0 yX0_undo [.ref (S.2.1 0)] ν (pI Q) :=
  x_met (plainFor_of_name (by decide)) hD ⟨⟨by decide, by decide, by show _ = some 0; decide +kernel⟩, by decide, q1630, q171⟩ (Nat.le_of_ble_eq_true rfl) (fun κ Z h hT hN hR => xt_X0_undo h hT hN hR hw)
def xw_X0_way (x1 : Int32) (x2 : Int32) (ν : XN) (Q : Int32 → XN → Prop) : Prop :=
  (xw_X0_isCell x1 ν (fun r2 ν1 => ((r2 = 0 → Q (-1 : Int32) ν1) ∧ (¬ r2 = 0 → (xw_X0_isCell x2 ν1 (fun r4 ν3 => ((r4 = 0 → Q (-1 : Int32) ν3) ∧ (¬ r4 = 0 → (xw_X0_wayOver 10 x1 x2 ν3 (fun r6 ν5 => Q r6 ν5))))))))))
theorem xt_X0_way {κ : Cx} {S : Adr} {A : Nat → Prop} {Z : State → Prop} {Q : Int32 → XN → Prop} (h : XCx κ cX0_way RX0 S A 5 0 0) (hT : (cxT κ).sig.returnType = some .int) (hN : (cxT κ).name = "way") (hR : xRet κ S A 0 0 Z cX0_way (pI Q)) {x1 : Int32} {x2 : Int32} {ν : XN} (hw : xw_X0_way x1 x2 ν Q) : XG κ S A 0 0 Z 0 (ν, 0, 0) [some (.ref (S.2.1 0)), some (.int x1), some (.int x2)] [] := by
  unfold xw_X0_way at hw
  refine g_aload_0 0 h.1 dX0_way_0 ?_
  refine g_iload_1 1 h.1 dX0_way_1 ?_
  refine xcV_I_1 2 h (xm_X0_isCell h.2.2.1 hw) (by decide) (Nat.le_of_eq (Nat.zero_add _)) (Nat.le_of_eq (Nat.zero_add _)) q1306 qs40 (fun H hI => x_recvK h rfl rfl hI) q1304 (Nat.le_of_ble_eq_true rfl) dX0_way_2 (fun r2 ν1 hw => ?_)
  refine g_if_eq 5 29 h.1 dX0_way_5 (by decide) (fun c => ?_) (fun c => ?_)
  · have hw := hw.1 c
    refine g_iconstv 29 _ ic_m1 h.1 dX0_way_29 ?_
    exact hR.1 30 _ _ _ _ _ _ hT rfl dX0_way_30 ⟨_, rfl, hw⟩
  · have hw := hw.2 c
    refine g_aload_0 8 h.1 dX0_way_8 ?_
    refine g_iload_2 9 h.1 dX0_way_9 ?_
    refine xcV_I_1 10 h (xm_X0_isCell h.2.2.1 hw) (by decide) (Nat.le_of_eq (Nat.zero_add _)) (Nat.le_of_eq (Nat.zero_add _)) q1306 qs40 (fun H hI => x_recvK h rfl rfl hI) q1304 (Nat.le_of_ble_eq_true rfl) dX0_way_10 (fun r4 ν3 hw => ?_)
    refine g_if_eq 13 29 h.1 dX0_way_13 (by decide) (fun c => ?_) (fun c => ?_)
    · have hw := hw.1 c
      refine g_iconstv 29 _ ic_m1 h.1 dX0_way_29 ?_
      exact hR.1 30 _ _ _ _ _ _ hT rfl dX0_way_30 ⟨_, rfl, hw⟩
    · have hw := hw.2 c
      refine g_aload_0 16 h.1 dX0_way_16 ?_
      refine g_aload_0 17 h.1 dX0_way_17 ?_
      refine xg_X0_69_0 18 h dX0_way_18 ?_
      refine g_iload_1 21 h.1 dX0_way_21 ?_
      refine g_iload_2 22 h.1 dX0_way_22 ?_
      refine xcV_I_3 23 h (xm_X0_wayOver h.2.2.1 hw) (by decide) (Nat.le_of_eq (Nat.zero_add _)) (Nat.le_of_eq (Nat.zero_add _)) q1562 qs54 (fun H hI => x_recvK h rfl rfl hI) q1560 (Nat.le_of_ble_eq_true rfl) dX0_way_23 (fun r6 ν5 hw => ?_)
      refine g_goto 26 30 h.1 dX0_way_26 (by decide) ?_
      exact hR.1 30 _ _ _ _ _ _ hT rfl dX0_way_30 ⟨_, rfl, hw⟩
theorem xm_X0_way {l : Launch} {S : Adr} {A : Nat → Prop} (hD : FD xT S xcl A) {x1 : Int32} {x2 : Int32} {ν : XN} {Q : Int32 → XN → Prop} (hw : xw_X0_way x1 x2 ν Q) : xMet l S A 5 0 0 2 yX0_way [.ref (S.2.1 0), .int x1, .int x2] ν (pI Q) :=
  x_met (plainFor_of_name (by decide)) hD ⟨⟨by decide, by decide, by show _ = some 2; decide +kernel⟩, by decide, q1559, q171⟩ (Nat.le_of_ble_eq_true rfl) (fun κ Z h hT hN hR => xt_X0_way h hT hN hR hw)
def xw_X0_would (VA : Nat → Nat → XN → (Int64 → XN → Prop) → Prop) (TA : Nat → Nat → XN → (Int32 → XN → Prop) → Prop) (x1 : Int32) (x2 : Int32) (ν : XN) (Q : Int32 → XN → Prop) : Prop :=
  (xw_X0_isPerson x1 ν (fun r2 ν1 => ((r2 = 0 → Q (-1 : Int32) ν1) ∧ (¬ r2 = 0 → (xw_X0_isTopic x2 ν1 (fun r4 ν3 => ((r4 = 0 → Q (-1 : Int32) ν3) ∧ (¬ r4 = 0 → (xw_X5_would VA TA 10 x1 x2 ν3 (fun r6 ν5 => Q r6 ν5))))))))))
theorem xt_X0_would {κ : Cx} {S : Adr} {A : Nat → Prop} {Z : State → Prop} {Q : Int32 → XN → Prop} {dV : Nat} {VA : Nat → Nat → XN → (Int64 → XN → Prop) → Prop} {TA : Nat → Nat → XN → (Int32 → XN → Prop) → Prop} (hV : HVT S A dV VA TA) (h : XCx κ cX0_would RX0 S A (dV + 4) 0 0) (hT : (cxT κ).sig.returnType = some .int) (hN : (cxT κ).name = "would") (hR : xRet κ S A 0 0 Z cX0_would (pI Q)) {x1 : Int32} {x2 : Int32} {ν : XN} (hw : xw_X0_would VA TA x1 x2 ν Q) : XG κ S A 0 0 Z 0 (ν, 0, 0) [some (.ref (S.2.1 0)), some (.int x1), some (.int x2)] [] := by
  unfold xw_X0_would at hw
  refine g_aload_0 0 h.1 dX0_would_0 ?_
  refine g_iload_1 1 h.1 dX0_would_1 ?_
  refine xcV_I_1 2 h (xm_X0_isPerson h.2.2.1 hw) (by omega) (Nat.le_of_eq (Nat.zero_add _)) (Nat.le_of_eq (Nat.zero_add _)) q1348 qs42 (fun H hI => x_recvK h rfl rfl hI) q1346 (Nat.le_of_ble_eq_true rfl) dX0_would_2 (fun r2 ν1 hw => ?_)
  refine g_if_eq 5 28 h.1 dX0_would_5 (by decide) (fun c => ?_) (fun c => ?_)
  · have hw := hw.1 c
    refine g_iconstv 28 _ ic_m1 h.1 dX0_would_28 ?_
    exact hR.1 29 _ _ _ _ _ _ hT rfl dX0_would_29 ⟨_, rfl, hw⟩
  · have hw := hw.2 c
    refine g_aload_0 8 h.1 dX0_would_8 ?_
    refine g_iload_2 9 h.1 dX0_would_9 ?_
    refine xcV_I_1 10 h (xm_X0_isTopic h.2.2.1 hw) (by omega) (Nat.le_of_eq (Nat.zero_add _)) (Nat.le_of_eq (Nat.zero_add _)) q1361 qs43 (fun H hI => x_recvK h rfl rfl hI) q1359 (Nat.le_of_ble_eq_true rfl) dX0_would_10 (fun r4 ν3 hw => ?_)
    refine g_if_eq 13 28 h.1 dX0_would_13 (by decide) (fun c => ?_) (fun c => ?_)
    · have hw := hw.1 c
      refine g_iconstv 28 _ ic_m1 h.1 dX0_would_28 ?_
      exact hR.1 29 _ _ _ _ _ _ hT rfl dX0_would_29 ⟨_, rfl, hw⟩
    · have hw := hw.2 c
      refine g_aload_0 16 h.1 dX0_would_16 ?_
      refine xg_X0_69_0 17 h dX0_would_17 ?_
      refine g_iload_1 20 h.1 dX0_would_20 ?_
      refine g_iload_2 21 h.1 dX0_would_21 ?_
      refine xcV_I_2 22 h (xm_X5_would hV h.2.2.1 hw) (by omega) (Nat.le_of_eq (Nat.zero_add _)) (Nat.le_of_eq (Nat.zero_add _)) q1364 q1365 (fun H hI => x_recvK h rfl rfl hI) q1363 (Nat.le_of_ble_eq_true rfl) dX0_would_22 (fun r6 ν5 hw => ?_)
      refine g_goto 25 29 h.1 dX0_would_25 (by decide) ?_
      exact hR.1 29 _ _ _ _ _ _ hT rfl dX0_would_29 ⟨_, rfl, hw⟩
theorem xm_X0_would {l : Launch} {S : Adr} {A : Nat → Prop} {dV : Nat} {VA : Nat → Nat → XN → (Int64 → XN → Prop) → Prop} {TA : Nat → Nat → XN → (Int32 → XN → Prop) → Prop} (hV : HVT S A dV VA TA) (hD : FD xT S xcl A) {x1 : Int32} {x2 : Int32} {ν : XN} {Q : Int32 → XN → Prop} (hw : xw_X0_would VA TA x1 x2 ν Q) : xMet l S A (dV + 4) 0 0 2 yX0_would [.ref (S.2.1 0), .int x1, .int x2] ν (pI Q) :=
  x_met (plainFor_of_name (by decide)) hD ⟨⟨by decide, by decide, by show _ = some 2; decide +kernel⟩, by decide, q1358, q171⟩ (Nat.le_of_ble_eq_true rfl) (fun κ Z h hT hN hR => xt_X0_would hV h hT hN hR hw)
def xw_X7_find_2 (x0 : Nat) (x1 : Nat) (x2 : Int32) (ν : XN) (Q : Int32 → XN → Prop) : Prop :=
  ∀ X2 : Nat → Nat → Int32 → XN → Prop, (∀ (x0 : Nat) (x1 : Nat) (x2 : Int32) (ν : XN), (rc ν.2 x0 = 7 ∧ (xw_J2_size x0 ν (fun r2 ν1 => ((r2 ≤ x2 → Q (-1 : Int32) ν1) ∧ (¬ r2 ≤ x2 → (rc ν1.2 x0 = 7 ∧ (xw_J2_get x0 x2 ν1 (fun r5 ν4 => (∃ b7, r5 = some b7 ∧ ((rc ν4.2 b7 = 8 ∨ rc ν4.2 b7 = 9) ∧ ((rc ν4.2 b7 = 8 ∨ rc ν4.2 b7 = 9) ∧ (∃ b12, (rO ν4.2 b7 0) = some b12 ∧ (rc ν4.2 b12 = 11 ∧ (xw_J6_equals b12 x1 ν4 (fun r15 ν14 => ((r15 = 0 → X2 x0 x1 (x2 + 1) ν14) ∧ (¬ r15 = 0 → Q x2 ν14))))))))))))))))) → X2 x0 x1 x2 ν) → X2 x0 x1 x2 ν
theorem xt_X7_find_2 {κ : Cx} {S : Adr} {A : Nat → Prop} {Z : State → Prop} {Q : Int32 → XN → Prop} (h : XCx κ cX7_find RX7 S A 4 0 0) (hT : (cxT κ).sig.returnType = some .int) (hN : (cxT κ).name = "find") (hR : xRet κ S A 0 0 Z cX7_find (pI Q)) {x0 : Nat} {x1 : Nat} {x2 : Int32} {ν : XN} (hw : xw_X7_find_2 x0 x1 x2 ν Q) : XG κ S A 0 0 Z 2 (ν, 0, 0) [some (.ref x0), some (.ref x1), some (.int x2)] [] := by
  refine hw (fun x0 x1 x2 ν => XG κ S A 0 0 Z 2 (ν, 0, 0) [some (.ref x0), some (.ref x1), some (.int x2)] []) ?_
  clear hw
  intro x0 x1 x2 ν hw
  have hX2 : ∀ (x0 : Nat) (x1 : Nat) (x2 : Int32) (ν : XN), XG κ S A 0 0 Z 2 (ν, 0, 0) [some (.ref x0), some (.ref x1), some (.int x2)] [] → XG κ S A 0 0 Z 2 (ν, 0, 0) [some (.ref x0), some (.ref x1), some (.int x2)] [] := fun _ _ _ _ hh => hh
  refine g_iload_2 2 h.1 dX7_find_2 ?_
  refine g_aload_0 3 h.1 dX7_find_3 ?_
  obtain ⟨f3, hw⟩ := hw
  refine xcF_I_0 4 h h.2.1.2.2.1.1 (xm_J2_size h.2.2.1 hw) (by decide) (Nat.le_of_eq (Nat.zero_add _)) (Nat.le_of_eq (Nat.zero_add _)) ⟨by decide, by decide, by show _ = some 0; decide +kernel⟩ q793 q791 f3 q828 (Nat.le_of_ble_eq_true rfl) dX7_find_4 (fun r2 ν1 hw => ?_)
  refine g_icmp_ge 9 40 h.1 dX7_find_9 (by decide) (fun c => ?_) (fun c => ?_)
  · have hw := hw.1 c
    refine g_iconstv 40 _ ic_m1 h.1 dX7_find_40 ?_
    exact hR.1 41 _ _ _ _ _ _ hT rfl dX7_find_41 ⟨_, rfl, hw⟩
  · have hw := hw.2 c
    refine g_aload_0 12 h.1 dX7_find_12 ?_
    refine g_iload_2 13 h.1 dX7_find_13 ?_
    obtain ⟨f6, hw⟩ := hw
    refine xcF_O_1 14 h h.2.1.2.2.1.2.1 (xm_J2_get h.2.2.1 hw) (by decide) (Nat.le_of_eq (Nat.zero_add _)) (Nat.le_of_eq (Nat.zero_add _)) ⟨by decide, by decide, by show _ = some 1; decide +kernel⟩ q835 q833 f6 q830 (Nat.le_of_ble_eq_true rfl) dX7_find_14 (fun r5 ν4 hw => ?_)
    obtain ⟨b7, e8, hw⟩ := hw
    rw [e8]
    obtain ⟨f9, hw⟩ := hw
    refine xcs_X7_10 19 f9 h dX7_find_19 ?_
    obtain ⟨f10, hw⟩ := hw
    refine xgm_X7_9 22 f10 h dX7_find_22 ?_
    refine g_aload_1 25 h.1 dX7_find_25 ?_
    obtain ⟨b12, e13, hw⟩ := hw
    rw [e13]
    obtain ⟨f16, hw⟩ := hw
    refine xcV_I_1 26 h (xm_J6_equals h.2.2.1 hw) (by decide) (Nat.le_of_eq (Nat.zero_add _)) (Nat.le_of_eq (Nat.zero_add _)) q694 q695 (fun H hI => x_recvR h f16 rfl hI) q849 (Nat.le_of_ble_eq_true rfl) dX7_find_26 (fun r15 ν14 hw => ?_)
    refine g_if_eq 29 34 h.1 dX7_find_29 (by decide) (fun c => ?_) (fun c => ?_)
    · have hw := hw.1 c
      refine g_iinc_2 34 (x2 + 1) (congrArg _ ic_1) h.1 rfl dX7_find_34 ?_
      refine g_goto 37 2 h.1 dX7_find_37 (by decide) ?_
      exact g_le (hX2 _ _ _ _ hw) ⟨rfl, rfl, rfl, trivial⟩
    · have hw := hw.2 c
      refine g_iload_2 32 h.1 dX7_find_32 ?_
      exact hR.1 33 _ _ _ _ _ _ hT rfl dX7_find_33 ⟨_, rfl, hw⟩
def xw_X7_find (x0 : Nat) (x1 : Nat) (ν : XN) (Q : Int32 → XN → Prop) : Prop :=
  xw_X7_find_2 x0 x1 (0 : Int32) ν Q
theorem xt_X7_find {κ : Cx} {S : Adr} {A : Nat → Prop} {Z : State → Prop} {Q : Int32 → XN → Prop} (h : XCx κ cX7_find RX7 S A 4 0 0) (hT : (cxT κ).sig.returnType = some .int) (hN : (cxT κ).name = "find") (hR : xRet κ S A 0 0 Z cX7_find (pI Q)) {x0 : Nat} {x1 : Nat} {ν : XN} (hw : xw_X7_find x0 x1 ν Q) : XG κ S A 0 0 Z 0 (ν, 0, 0) [some (.ref x0), some (.ref x1), none] [] := by
  unfold xw_X7_find at hw
  refine g_iconstv 0 _ ic_0 h.1 dX7_find_0 ?_
  refine g_istore_2 1 h.1 rfl dX7_find_1 ?_
  exact g_le (xt_X7_find_2 h hT hN hR hw) ⟨rfl, rfl, rfl, trivial⟩
theorem xm_X7_find {l : Launch} {S : Adr} {A : Nat → Prop} (hD : FD xT S xcl A) {x0 : Nat} {x1 : Nat} {ν : XN} {Q : Int32 → XN → Prop} (hw : xw_X7_find x0 x1 ν Q) : xMet l S A 4 0 0 2 yX7_find [.ref x0, .ref x1] ν (pI Q) :=
  x_met (plainFor_of_name (by decide)) hD ⟨⟨by decide, by decide, by show _ = some 2; decide +kernel⟩, by decide, q826, q189⟩ (Nat.le_of_ble_eq_true rfl) (fun κ Z h hT hN hR => xt_X7_find h hT hN hR hw)
def xw_X7_init (x0 : Nat) (x1 : Nat) (ν : XN) (Q : XN → Prop) : Prop :=
  ((rk ν.2 x0 = 8 ∨ rk ν.2 x0 = 9) ∧ (∀ ν1, ν1 = (ν.1, tO ν.2 x0 0 (some x1)) → Q ν1))
theorem xt_X7_init {κ : Cx} {S : Adr} {A : Nat → Prop} {Z : State → Prop} {Q : XN → Prop} (h : XCx κ cX7_init RX7 S A 1 0 0) (hT : (cxT κ).sig.returnType = none) (hN : (cxT κ).name = "<init>") (hR : xRet κ S A 0 0 Z cX7_init (pV Q)) {x0 : Nat} {x1 : Nat} {ν : XN} (hw : xw_X7_init x0 x1 ν Q) : XG κ S A 0 0 Z 0 (ν, 0, 0) [some (.ref x0), some (.ref x1)] [] := by
  unfold xw_X7_init at hw
  refine g_aload_0 0 h.1 dX7_init_0 ?_
  refine x_objInit 1 h (by decide) q853 (Nat.le_of_ble_eq_true rfl) dX7_init_1 ?_
  refine g_aload_0 4 h.1 dX7_init_4 ?_
  refine g_aload_1 5 h.1 dX7_init_5 ?_
  obtain ⟨f3, hw⟩ := hw
  refine xpm_X7_9 6 (some x1) hN f3 h dX7_init_6 (fun ν1 e2 => ?_)
  have hw := hw ν1 e2
  exact hR.2.2.1 9 _ _ _ _ hT dX7_init_9 ⟨rfl, hw⟩
theorem xm_X7_init {l : Launch} {S : Adr} {A : Nat → Prop} (hD : FD xT S xcl A) {x0 : Nat} {x1 : Nat} {ν : XN} {Q : XN → Prop} (hw : xw_X7_init x0 x1 ν Q) : ∃ (bb : ByteArray) (L : Nat), xWd yX7_init bb L none 1 ∧ Met l yX7_init (ws_ yX7_init bb L none) (rmX 1 0 0) (va_Pc [.ref x0, .ref x1] (xPre S A ν)) (xQ S A (pV Q)) 0 0 A :=
  ⟨cX7_init, 2, ⟨⟨by decide, by decide, by show _ = some 1; decide +kernel⟩, by decide, q852, q189⟩, x_start (plainFor_of_name (by decide)) hD ⟨⟨by decide, by decide, by show _ = some 1; decide +kernel⟩, by decide, q852, q189⟩ (Nat.le_of_ble_eq_true rfl) (fun κ Z h hT hN hR => xt_X7_init h hT hN hR hw)⟩
def xw_X1_isNamed (x0 : Nat) (x1 : Nat) (ν : XN) (Q : Int32 → XN → Prop) : Prop :=
  (rc ν.2 x0 = 2 ∧ (∃ b2, (rO ν.2 x0 5) = some b2 ∧ (xw_X7_find b2 x1 ν (fun r5 ν4 => ((¬ r5 = (-1 : Int32) → Q (1 : Int32) ν4) ∧ (r5 = (-1 : Int32) → (rc ν4.2 x0 = 2 ∧ (∃ b7, (rO ν4.2 x0 6) = some b7 ∧ (xw_X7_find b7 x1 ν4 (fun r10 ν9 => ((r10 = (-1 : Int32) → Q (0 : Int32) ν9) ∧ (¬ r10 = (-1 : Int32) → Q (1 : Int32) ν9))))))))))))
theorem xt_X1_isNamed {κ : Cx} {S : Adr} {A : Nat → Prop} {Z : State → Prop} {Q : Int32 → XN → Prop} (h : XCx κ cX1_isNamed RX1 S A 5 0 0) (hT : (cxT κ).sig.returnType = some .boolean) (hN : (cxT κ).name = "isNamed") (hR : xRet κ S A 0 0 Z cX1_isNamed (pI Q)) {x0 : Nat} {x1 : Nat} {ν : XN} (hw : xw_X1_isNamed x0 x1 ν Q) : XG κ S A 0 0 Z 0 (ν, 0, 0) [some (.ref x0), some (.ref x1)] [] := by
  unfold xw_X1_isNamed at hw
  refine g_aload_0 0 h.1 dX1_isNamed_0 ?_
  obtain ⟨f1, hw⟩ := hw
  refine xg_X1_20_1 1 f1 h dX1_isNamed_1 ?_
  refine g_aload_1 4 h.1 dX1_isNamed_4 ?_
  obtain ⟨b2, e3, hw⟩ := hw
  rw [e3]
  refine xcS_I_2 5 h (xm_X7_find h.2.2.1 hw) (by decide) (Nat.le_of_eq (Nat.zero_add _)) (Nat.le_of_eq (Nat.zero_add _)) q825 q824 (Nat.le_of_ble_eq_true rfl) dX1_isNamed_5 (fun r5 ν4 hw => ?_)
  refine g_iconstv 8 _ ic_m1 h.1 dX1_isNamed_8 ?_
  refine g_icmp_ne 9 24 h.1 dX1_isNamed_9 (by decide) (fun c => ?_) (fun c => ?_)
  · have hw := hw.1 c
    refine g_iconstv 24 _ ic_1 h.1 dX1_isNamed_24 ?_
    refine g_goto 25 29 h.1 dX1_isNamed_25 (by decide) ?_
    exact hR.1 29 _ _ _ _ _ _ hT rfl dX1_isNamed_29 ⟨_, rfl, hw⟩
  · have hw := hw.2 c
    refine g_aload_0 12 h.1 dX1_isNamed_12 ?_
    obtain ⟨f6, hw⟩ := hw
    refine xg_X1_24_1 13 f6 h dX1_isNamed_13 ?_
    refine g_aload_1 16 h.1 dX1_isNamed_16 ?_
    obtain ⟨b7, e8, hw⟩ := hw
    rw [e8]
    refine xcS_I_2 17 h (xm_X7_find h.2.2.1 hw) (by decide) (Nat.le_of_eq (Nat.zero_add _)) (Nat.le_of_eq (Nat.zero_add _)) q825 q824 (Nat.le_of_ble_eq_true rfl) dX1_isNamed_17 (fun r10 ν9 hw => ?_)
    refine g_iconstv 20 _ ic_m1 h.1 dX1_isNamed_20 ?_
    refine g_icmp_eq 21 28 h.1 dX1_isNamed_21 (by decide) (fun c => ?_) (fun c => ?_)
    · have hw := hw.1 c
      refine g_iconstv 28 _ ic_0 h.1 dX1_isNamed_28 ?_
      exact hR.1 29 _ _ _ _ _ _ hT rfl dX1_isNamed_29 ⟨_, rfl, hw⟩
    · have hw := hw.2 c
      refine g_iconstv 24 _ ic_1 h.1 dX1_isNamed_24 ?_
      refine g_goto 25 29 h.1 dX1_isNamed_25 (by decide) ?_
      exact hR.1 29 _ _ _ _ _ _ hT rfl dX1_isNamed_29 ⟨_, rfl, hw⟩
theorem xm_X1_isNamed {l : Launch} {S : Adr} {A : Nat → Prop} (hD : FD xT S xcl A) {x0 : Nat} {x1 : Nat} {ν : XN} {Q : Int32 → XN → Prop} (hw : xw_X1_isNamed x0 x1 ν Q) : xMet l S A 5 0 0 1 yX1_isNamed [.ref x0, .ref x1] ν (pI Q) :=
  x_met (plainFor_of_name (by decide)) hD ⟨⟨by decide, by decide, by show _ = some 1; decide +kernel⟩, by decide, q823, q172⟩ (Nat.le_of_ble_eq_true rfl) (fun κ Z h hT hN hR => xt_X1_isNamed h hT hN hR hw)
def xw_X1_isTaken_2 (x0 : Nat) (x1 : Int32) (x2 : Int32) (ν : XN) (Q : Int32 → XN → Prop) : Prop :=
  ∀ X2 : Nat → Int32 → Int32 → XN → Prop, (∀ (x0 : Nat) (x1 : Int32) (x2 : Int32) (ν : XN), (rc ν.2 x0 = 2 ∧ (∃ b2, (rO ν.2 x0 6) = some b2 ∧ (rc ν.2 b2 = 7 ∧ (xw_J2_size b2 ν (fun r5 ν4 => ((r5 ≤ x2 → Q (0 : Int32) ν4) ∧ (¬ r5 ≤ x2 → (rc ν4.2 x0 = 2 ∧ (∃ b8, (rO ν4.2 x0 6) = some b8 ∧ (rc ν4.2 b8 = 7 ∧ (xw_J2_get b8 x2 ν4 (fun r11 ν10 => (∃ b13, r11 = some b13 ∧ ((rc ν10.2 b13 = 9) ∧ (rc ν10.2 b13 = 9 ∧ ((¬ (rI ν10.2 b13 1) = x1 → X2 x0 x1 (x2 + 1) ν10) ∧ ((rI ν10.2 b13 1) = x1 → Q (1 : Int32) ν10))))))))))))))))) → X2 x0 x1 x2 ν) → X2 x0 x1 x2 ν
theorem xt_X1_isTaken_2 {κ : Cx} {S : Adr} {A : Nat → Prop} {Z : State → Prop} {Q : Int32 → XN → Prop} (h : XCx κ cX1_isTaken RX1 S A 4 0 0) (hT : (cxT κ).sig.returnType = some .boolean) (hN : (cxT κ).name = "isTaken") (hR : xRet κ S A 0 0 Z cX1_isTaken (pI Q)) {x0 : Nat} {x1 : Int32} {x2 : Int32} {ν : XN} (hw : xw_X1_isTaken_2 x0 x1 x2 ν Q) : XG κ S A 0 0 Z 2 (ν, 0, 0) [some (.ref x0), some (.int x1), some (.int x2)] [] := by
  refine hw (fun x0 x1 x2 ν => XG κ S A 0 0 Z 2 (ν, 0, 0) [some (.ref x0), some (.int x1), some (.int x2)] []) ?_
  clear hw
  intro x0 x1 x2 ν hw
  have hX2 : ∀ (x0 : Nat) (x1 : Int32) (x2 : Int32) (ν : XN), XG κ S A 0 0 Z 2 (ν, 0, 0) [some (.ref x0), some (.int x1), some (.int x2)] [] → XG κ S A 0 0 Z 2 (ν, 0, 0) [some (.ref x0), some (.int x1), some (.int x2)] [] := fun _ _ _ _ hh => hh
  refine g_iload_2 2 h.1 dX1_isTaken_2 ?_
  refine g_aload_0 3 h.1 dX1_isTaken_3 ?_
  obtain ⟨f1, hw⟩ := hw
  refine xg_X1_24_1 4 f1 h dX1_isTaken_4 ?_
  obtain ⟨b2, e3, hw⟩ := hw
  rw [e3]
  obtain ⟨f6, hw⟩ := hw
  refine xcF_I_0 7 h h.2.1.2.2.1.1 (xm_J2_size h.2.2.1 hw) (by decide) (Nat.le_of_eq (Nat.zero_add _)) (Nat.le_of_eq (Nat.zero_add _)) ⟨by decide, by decide, by show _ = some 0; decide +kernel⟩ q793 q791 f6 q944 (Nat.le_of_ble_eq_true rfl) dX1_isTaken_7 (fun r5 ν4 hw => ?_)
  refine g_icmp_ge 12 43 h.1 dX1_isTaken_12 (by decide) (fun c => ?_) (fun c => ?_)
  · have hw := hw.1 c
    refine g_iconstv 43 _ ic_0 h.1 dX1_isTaken_43 ?_
    exact hR.1 44 _ _ _ _ _ _ hT rfl dX1_isTaken_44 ⟨_, rfl, hw⟩
  · have hw := hw.2 c
    refine g_aload_0 15 h.1 dX1_isTaken_15 ?_
    obtain ⟨f7, hw⟩ := hw
    refine xg_X1_24_1 16 f7 h dX1_isTaken_16 ?_
    refine g_iload_2 19 h.1 dX1_isTaken_19 ?_
    obtain ⟨b8, e9, hw⟩ := hw
    rw [e9]
    obtain ⟨f12, hw⟩ := hw
    refine xcF_O_1 20 h h.2.1.2.2.1.2.1 (xm_J2_get h.2.2.1 hw) (by decide) (Nat.le_of_eq (Nat.zero_add _)) (Nat.le_of_eq (Nat.zero_add _)) ⟨by decide, by decide, by show _ = some 1; decide +kernel⟩ q835 q833 f12 q946 (Nat.le_of_ble_eq_true rfl) dX1_isTaken_20 (fun r11 ν10 hw => ?_)
    obtain ⟨b13, e14, hw⟩ := hw
    rw [e14]
    obtain ⟨f15, hw⟩ := hw
    refine xcs_X1_46 25 f15 h dX1_isTaken_25 ?_
    obtain ⟨f16, hw⟩ := hw
    refine xg_X1_48_8 28 f16 h dX1_isTaken_28 ?_
    refine g_iload_1 31 h.1 dX1_isTaken_31 ?_
    refine g_icmp_ne 32 37 h.1 dX1_isTaken_32 (by decide) (fun c => ?_) (fun c => ?_)
    · have hw := hw.1 c
      refine g_iinc_2 37 (x2 + 1) (congrArg _ ic_1) h.1 rfl dX1_isTaken_37 ?_
      refine g_goto 40 2 h.1 dX1_isTaken_40 (by decide) ?_
      exact g_le (hX2 _ _ _ _ hw) ⟨rfl, rfl, rfl, trivial⟩
    · have hw := hw.2 c
      refine g_iconstv 35 _ ic_1 h.1 dX1_isTaken_35 ?_
      exact hR.1 36 _ _ _ _ _ _ hT rfl dX1_isTaken_36 ⟨_, rfl, hw⟩
def xw_X1_isTaken (x0 : Nat) (x1 : Int32) (ν : XN) (Q : Int32 → XN → Prop) : Prop :=
  xw_X1_isTaken_2 x0 x1 (0 : Int32) ν Q
theorem xt_X1_isTaken {κ : Cx} {S : Adr} {A : Nat → Prop} {Z : State → Prop} {Q : Int32 → XN → Prop} (h : XCx κ cX1_isTaken RX1 S A 4 0 0) (hT : (cxT κ).sig.returnType = some .boolean) (hN : (cxT κ).name = "isTaken") (hR : xRet κ S A 0 0 Z cX1_isTaken (pI Q)) {x0 : Nat} {x1 : Int32} {ν : XN} (hw : xw_X1_isTaken x0 x1 ν Q) : XG κ S A 0 0 Z 0 (ν, 0, 0) [some (.ref x0), some (.int x1), none] [] := by
  unfold xw_X1_isTaken at hw
  refine g_iconstv 0 _ ic_0 h.1 dX1_isTaken_0 ?_
  refine g_istore_2 1 h.1 rfl dX1_isTaken_1 ?_
  exact g_le (xt_X1_isTaken_2 h hT hN hR hw) ⟨rfl, rfl, rfl, trivial⟩
theorem xm_X1_isTaken {l : Launch} {S : Adr} {A : Nat → Prop} (hD : FD xT S xcl A) {x0 : Nat} {x1 : Int32} {ν : XN} {Q : Int32 → XN → Prop} (hw : xw_X1_isTaken x0 x1 ν Q) : xMet l S A 4 0 0 1 yX1_isTaken [.ref x0, .int x1] ν (pI Q) :=
  x_met (plainFor_of_name (by decide)) hD ⟨⟨by decide, by decide, by show _ = some 1; decide +kernel⟩, by decide, q942, q172⟩ (Nat.le_of_ble_eq_true rfl) (fun κ Z h hT hN hR => xt_X1_isTaken h hT hN hR hw)
def xw_X9_init (x0 : Nat) (x1 : Int32) (x2 : Int32) (ν : XN) (Q : XN → Prop) : Prop :=
  (rk ν.2 x0 = 10 ∧ (∀ ν1, ν1 = (ν.1, tI ν.2 x0 0 x1) → (rk ν1.2 x0 = 10 ∧ (∀ ν4, ν4 = (ν1.1, tI ν1.2 x0 1 x2) → Q ν4))))
theorem xt_X9_init {κ : Cx} {S : Adr} {A : Nat → Prop} {Z : State → Prop} {Q : XN → Prop} (h : XCx κ cX9_init RX9 S A 1 0 0) (hT : (cxT κ).sig.returnType = none) (hN : (cxT κ).name = "<init>") (hR : xRet κ S A 0 0 Z cX9_init (pV Q)) {x0 : Nat} {x1 : Int32} {x2 : Int32} {ν : XN} (hw : xw_X9_init x0 x1 x2 ν Q) : XG κ S A 0 0 Z 0 (ν, 0, 0) [some (.ref x0), some (.int x1), some (.int x2)] [] := by
  unfold xw_X9_init at hw
  refine g_aload_0 0 h.1 dX9_init_0 ?_
  refine x_objInit 1 h (by decide) q994 (Nat.le_of_ble_eq_true rfl) dX9_init_1 ?_
  refine g_aload_0 4 h.1 dX9_init_4 ?_
  refine g_iload_1 5 h.1 dX9_init_5 ?_
  obtain ⟨f3, hw⟩ := hw
  refine xp_X9_7_9 6 hN f3 h dX9_init_6 (fun ν1 e2 => ?_)
  have hw := hw ν1 e2
  refine g_aload_0 9 h.1 dX9_init_9 ?_
  refine g_iload_2 10 h.1 dX9_init_10 ?_
  obtain ⟨f6, hw⟩ := hw
  refine xp_X9_13_9 11 hN f6 h dX9_init_11 (fun ν4 e5 => ?_)
  have hw := hw ν4 e5
  exact hR.2.2.1 14 _ _ _ _ hT dX9_init_14 ⟨rfl, hw⟩
theorem xm_X9_init {l : Launch} {S : Adr} {A : Nat → Prop} (hD : FD xT S xcl A) {x0 : Nat} {x1 : Int32} {x2 : Int32} {ν : XN} {Q : XN → Prop} (hw : xw_X9_init x0 x1 x2 ν Q) : ∃ (bb : ByteArray) (L : Nat), xWd yX9_init bb L none 2 ∧ Met l yX9_init (ws_ yX9_init bb L none) (rmX 1 0 0) (va_Pc [.ref x0, .int x1, .int x2] (xPre S A ν)) (xQ S A (pV Q)) 0 0 A :=
  ⟨cX9_init, 3, ⟨⟨by decide, by decide, by show _ = some 2; decide +kernel⟩, by decide, q993, q195⟩, x_start (plainFor_of_name (by decide)) hD ⟨⟨by decide, by decide, by show _ = some 2; decide +kernel⟩, by decide, q993, q195⟩ (Nat.le_of_ble_eq_true rfl) (fun κ Z h hT hN hR => xt_X9_init h hT hN hR hw)⟩
def xw_X13_at (x0 : Nat) (x1 : Nat) (ν : XN) (Q : Int64 → XN → Prop) : Prop :=
  (rc ν.2 x0 = 14 ∧ Q (rL ν.2 x0 0) ν)
theorem xt_X13_at {κ : Cx} {S : Adr} {A : Nat → Prop} {Z : State → Prop} {Q : Int64 → XN → Prop} (h : XCx κ cX13_at RX13 S A 1 0 0) (hT : (cxT κ).sig.returnType = some .long) (hN : (cxT κ).name = "at") (hR : xRet κ S A 0 0 Z cX13_at (pJ Q)) {x0 : Nat} {x1 : Nat} {ν : XN} (hw : xw_X13_at x0 x1 ν Q) : XG κ S A 0 0 Z 0 (ν, 0, 0) [some (.ref x0), some (.ref (S.2.1 x1))] [] := by
  unfold xw_X13_at at hw
  refine g_aload_0 0 h.1 dX13_at_0 ?_
  obtain ⟨f1, hw⟩ := hw
  refine xg_X13_7_13 1 f1 h dX13_at_1 ?_
  exact hR.2.1 4 _ _ _ _ _ hT dX13_at_4 ⟨_, rfl, hw⟩
theorem xm_X13_at {l : Launch} {S : Adr} {A : Nat → Prop} (hD : FD xT S xcl A) {x0 : Nat} {x1 : Nat} {ν : XN} {Q : Int64 → XN → Prop} (hw : xw_X13_at x0 x1 ν Q) : xMet l S A 1 0 0 1 yX13_at [.ref x0, .ref (S.2.1 x1)] ν (pJ Q) :=
  x_met (plainFor_of_name (by decide)) hD ⟨⟨by decide, by decide, by show _ = some 1; decide +kernel⟩, by decide, q1423, q201⟩ (Nat.le_of_ble_eq_true rfl) (fun κ Z h hT hN hR => xt_X13_at h hT hN hR hw)
def xw_X10_init (x0 : Nat) (ν : XN) (Q : XN → Prop) : Prop :=
  Q ν
theorem xt_X10_init {κ : Cx} {S : Adr} {A : Nat → Prop} {Z : State → Prop} {Q : XN → Prop} (h : XCx κ cX10_init RX10 S A 1 0 0) (hT : (cxT κ).sig.returnType = none) (hN : (cxT κ).name = "<init>") (hR : xRet κ S A 0 0 Z cX10_init (pV Q)) {x0 : Nat} {ν : XN} (hw : xw_X10_init x0 ν Q) : XG κ S A 0 0 Z 0 (ν, 0, 0) [some (.ref x0)] [] := by
  unfold xw_X10_init at hw
  refine g_aload_0 0 h.1 dX10_init_0 ?_
  refine x_objInit 1 h (by decide) q1030 (Nat.le_of_ble_eq_true rfl) dX10_init_1 ?_
  exact hR.2.2.1 4 _ _ _ _ hT dX10_init_4 ⟨rfl, hw⟩
theorem xm_X10_init {l : Launch} {S : Adr} {A : Nat → Prop} (hD : FD xT S xcl A) {x0 : Nat} {ν : XN} {Q : XN → Prop} (hw : xw_X10_init x0 ν Q) : ∃ (bb : ByteArray) (L : Nat), xWd yX10_init bb L none 0 ∧ Met l yX10_init (ws_ yX10_init bb L none) (rmX 1 0 0) (va_Pc [.ref x0] (xPre S A ν)) (xQ S A (pV Q)) 0 0 A :=
  ⟨cX10_init, 1, ⟨⟨by decide, by decide, by show _ = some 0; decide +kernel⟩, by decide, q1029, q196⟩, x_start (plainFor_of_name (by decide)) hD ⟨⟨by decide, by decide, by show _ = some 0; decide +kernel⟩, by decide, q1029, q196⟩ (Nat.le_of_ble_eq_true rfl) (fun κ Z h hT hN hR => xt_X10_init h hT hN hR hw)⟩
def xw_X13_init (x0 : Nat) (x1 : Int64) (ν : XN) (Q : XN → Prop) : Prop :=
  (xw_X10_init x0 ν (fun ν1 => (rk ν1.2 x0 = 14 ∧ (∀ ν2, ν2 = (ν1.1, tL ν1.2 x0 0 x1) → Q ν2))))
theorem xt_X13_init {κ : Cx} {S : Adr} {A : Nat → Prop} {Z : State → Prop} {Q : XN → Prop} (h : XCx κ cX13_init RX13 S A 2 0 0) (hT : (cxT κ).sig.returnType = none) (hN : (cxT κ).name = "<init>") (hR : xRet κ S A 0 0 Z cX13_init (pV Q)) {x0 : Nat} {x1 : Int64} {ν : XN} (hw : xw_X13_init x0 x1 ν Q) : XG κ S A 0 0 Z 0 (ν, 0, 0) [some (.ref x0), some (.long x1), none] [] := by
  unfold xw_X13_init at hw
  refine g_aload_0 0 h.1 dX13_init_0 ?_
  refine xcIN_V_0 1 h (xm_X10_init h.2.2.1 hw) (by decide) (Nat.le_of_eq (Nat.zero_add _)) (Nat.le_of_eq (Nat.zero_add _)) rfl q1028 q1100 (Nat.le_of_ble_eq_true rfl) dX13_init_1 (fun ν1 hw => ?_)
  refine g_aload_0 4 h.1 dX13_init_4 ?_
  refine g_lload_1 5 h.1 dX13_init_5 ?_
  obtain ⟨f4, hw⟩ := hw
  refine xp_X13_7_13 6 hN f4 h dX13_init_6 (fun ν2 e3 => ?_)
  have hw := hw ν2 e3
  exact hR.2.2.1 9 _ _ _ _ hT dX13_init_9 ⟨rfl, hw⟩
theorem xm_X13_init {l : Launch} {S : Adr} {A : Nat → Prop} (hD : FD xT S xcl A) {x0 : Nat} {x1 : Int64} {ν : XN} {Q : XN → Prop} (hw : xw_X13_init x0 x1 ν Q) : ∃ (bb : ByteArray) (L : Nat), xWd yX13_init bb L none 1 ∧ Met l yX13_init (ws_ yX13_init bb L none) (rmX 2 0 0) (va_Pc [.ref x0, .long x1] (xPre S A ν)) (xQ S A (pV Q)) 0 0 A :=
  ⟨cX13_init, 3, ⟨⟨by decide, by decide, by show _ = some 1; decide +kernel⟩, by decide, q1099, q201⟩, x_start (plainFor_of_name (by decide)) hD ⟨⟨by decide, by decide, by show _ = some 1; decide +kernel⟩, by decide, q1099, q201⟩ (Nat.le_of_ble_eq_true rfl) (fun κ Z h hT hN hR => xt_X13_init h hT hN hR hw)⟩
def xw_X14_at (x0 : Nat) (x1 : Nat) (ν : XN) (Q : Int64 → XN → Prop) : Prop :=
  (xoc x1 = 4 ∧ (rc ν.2 x0 = 15 ∧ (xok 4 (xft x1 0) ∧ (vp_in (rI ν.2 x0 0) (xlen (xft x1 0)) ∧ (xw_X0_held (fB ν.1 (xft x1 0) (Int32.toNatClampNeg (rI ν.2 x0 0))) ν (fun r6 ν5 => Q r6 ν5))))))
theorem xt_X14_at {κ : Cx} {S : Adr} {A : Nat → Prop} {Z : State → Prop} {Q : Int64 → XN → Prop} (h : XCx κ cX14_at RX14 S A 3 0 0) (hT : (cxT κ).sig.returnType = some .long) (hN : (cxT κ).name = "at") (hR : xRet κ S A 0 0 Z cX14_at (pJ Q)) {x0 : Nat} {x1 : Nat} {ν : XN} (hw : xw_X14_at x0 x1 ν Q) : XG κ S A 0 0 Z 0 (ν, 0, 0) [some (.ref x0), some (.ref (S.2.1 x1))] [] := by
  unfold xw_X14_at at hw
  refine g_aload_1 0 h.1 dX14_at_0 ?_
  obtain ⟨f1, hw⟩ := hw
  refine xg_X14_13_4 1 f1 h dX14_at_1 ?_
  refine g_aload_0 4 h.1 dX14_at_4 ?_
  obtain ⟨f2, hw⟩ := hw
  refine xg_X14_7_14 5 f2 h dX14_at_5 ?_
  obtain ⟨f3, hw⟩ := hw
  obtain ⟨f4, hw⟩ := hw
  refine xa_lald 8 f3 f4 h dX14_at_8 ?_
  refine xcSN_J_1 9 h (xm_X0_held h.2.2.1 hw) (by decide) (Nat.le_of_eq (Nat.zero_add _)) (Nat.le_of_eq (Nat.zero_add _)) q1405 q1404 (Nat.le_of_ble_eq_true rfl) dX14_at_9 (fun r6 ν5 hw => ?_)
  exact hR.2.1 12 _ _ _ _ _ hT dX14_at_12 ⟨_, rfl, hw⟩
theorem xm_X14_at {l : Launch} {S : Adr} {A : Nat → Prop} (hD : FD xT S xcl A) {x0 : Nat} {x1 : Nat} {ν : XN} {Q : Int64 → XN → Prop} (hw : xw_X14_at x0 x1 ν Q) : xMet l S A 3 0 0 1 yX14_at [.ref x0, .ref (S.2.1 x1)] ν (pJ Q) :=
  x_met (plainFor_of_name (by decide)) hD ⟨⟨by decide, by decide, by show _ = some 1; decide +kernel⟩, by decide, q1403, q202⟩ (Nat.le_of_ble_eq_true rfl) (fun κ Z h hT hN hR => xt_X14_at h hT hN hR hw)
def xw_X14_init (x0 : Nat) (x1 : Int32) (ν : XN) (Q : XN → Prop) : Prop :=
  (xw_X10_init x0 ν (fun ν1 => (rk ν1.2 x0 = 15 ∧ (∀ ν2, ν2 = (ν1.1, tI ν1.2 x0 0 x1) → Q ν2))))
theorem xt_X14_init {κ : Cx} {S : Adr} {A : Nat → Prop} {Z : State → Prop} {Q : XN → Prop} (h : XCx κ cX14_init RX14 S A 2 0 0) (hT : (cxT κ).sig.returnType = none) (hN : (cxT κ).name = "<init>") (hR : xRet κ S A 0 0 Z cX14_init (pV Q)) {x0 : Nat} {x1 : Int32} {ν : XN} (hw : xw_X14_init x0 x1 ν Q) : XG κ S A 0 0 Z 0 (ν, 0, 0) [some (.ref x0), some (.int x1)] [] := by
  unfold xw_X14_init at hw
  refine g_aload_0 0 h.1 dX14_init_0 ?_
  refine xcIN_V_0 1 h (xm_X10_init h.2.2.1 hw) (by decide) (Nat.le_of_eq (Nat.zero_add _)) (Nat.le_of_eq (Nat.zero_add _)) rfl q1028 q1112 (Nat.le_of_ble_eq_true rfl) dX14_init_1 (fun ν1 hw => ?_)
  refine g_aload_0 4 h.1 dX14_init_4 ?_
  refine g_iload_1 5 h.1 dX14_init_5 ?_
  obtain ⟨f4, hw⟩ := hw
  refine xp_X14_7_14 6 hN f4 h dX14_init_6 (fun ν2 e3 => ?_)
  have hw := hw ν2 e3
  exact hR.2.2.1 9 _ _ _ _ hT dX14_init_9 ⟨rfl, hw⟩
theorem xm_X14_init {l : Launch} {S : Adr} {A : Nat → Prop} (hD : FD xT S xcl A) {x0 : Nat} {x1 : Int32} {ν : XN} {Q : XN → Prop} (hw : xw_X14_init x0 x1 ν Q) : ∃ (bb : ByteArray) (L : Nat), xWd yX14_init bb L none 1 ∧ Met l yX14_init (ws_ yX14_init bb L none) (rmX 2 0 0) (va_Pc [.ref x0, .int x1] (xPre S A ν)) (xQ S A (pV Q)) 0 0 A :=
  ⟨cX14_init, 2, ⟨⟨by decide, by decide, by show _ = some 1; decide +kernel⟩, by decide, q1111, q202⟩, x_start (plainFor_of_name (by decide)) hD ⟨⟨by decide, by decide, by show _ = some 1; decide +kernel⟩, by decide, q1111, q202⟩ (Nat.le_of_ble_eq_true rfl) (fun κ Z h hT hN hR => xt_X14_init h hT hN hR hw)⟩
def xw_X8_init (x0 : Nat) (x1 : Nat) (x2 : Int32) (x3 : Int32) (ν : XN) (Q : XN → Prop) : Prop :=
  (xw_X7_init x0 x1 ν (fun ν1 => (rk ν1.2 x0 = 9 ∧ (∀ ν2, ν2 = (ν1.1, tI ν1.2 x0 1 x2) → (rk ν2.2 x0 = 9 ∧ (∀ ν5, ν5 = (ν2.1, tI ν2.2 x0 2 x3) → Q ν5))))))
theorem xt_X8_init {κ : Cx} {S : Adr} {A : Nat → Prop} {Z : State → Prop} {Q : XN → Prop} (h : XCx κ cX8_init RX8 S A 2 0 0) (hT : (cxT κ).sig.returnType = none) (hN : (cxT κ).name = "<init>") (hR : xRet κ S A 0 0 Z cX8_init (pV Q)) {x0 : Nat} {x1 : Nat} {x2 : Int32} {x3 : Int32} {ν : XN} (hw : xw_X8_init x0 x1 x2 x3 ν Q) : XG κ S A 0 0 Z 0 (ν, 0, 0) [some (.ref x0), some (.ref x1), some (.int x2), some (.int x3)] [] := by
  unfold xw_X8_init at hw
  refine g_aload_0 0 h.1 dX8_init_0 ?_
  refine g_aload_1 1 h.1 dX8_init_1 ?_
  refine xcI_V_1 2 h (xm_X7_init h.2.2.1 hw) (by decide) (Nat.le_of_eq (Nat.zero_add _)) (Nat.le_of_eq (Nat.zero_add _)) rfl q851 q954 (Nat.le_of_ble_eq_true rfl) dX8_init_2 (fun ν1 hw => ?_)
  refine g_aload_0 5 h.1 dX8_init_5 ?_
  refine g_iload_2 6 h.1 dX8_init_6 ?_
  obtain ⟨f4, hw⟩ := hw
  refine xp_X8_7_8 7 hN f4 h dX8_init_7 (fun ν2 e3 => ?_)
  have hw := hw ν2 e3
  refine g_aload_0 10 h.1 dX8_init_10 ?_
  refine g_iload_3 11 h.1 dX8_init_11 ?_
  obtain ⟨f7, hw⟩ := hw
  refine xp_X8_13_8 12 hN f7 h dX8_init_12 (fun ν5 e6 => ?_)
  have hw := hw ν5 e6
  exact hR.2.2.1 15 _ _ _ _ hT dX8_init_15 ⟨rfl, hw⟩
theorem xm_X8_init {l : Launch} {S : Adr} {A : Nat → Prop} (hD : FD xT S xcl A) {x0 : Nat} {x1 : Nat} {x2 : Int32} {x3 : Int32} {ν : XN} {Q : XN → Prop} (hw : xw_X8_init x0 x1 x2 x3 ν Q) : ∃ (bb : ByteArray) (L : Nat), xWd yX8_init bb L none 3 ∧ Met l yX8_init (ws_ yX8_init bb L none) (rmX 2 0 0) (va_Pc [.ref x0, .ref x1, .int x2, .int x3] (xPre S A ν)) (xQ S A (pV Q)) 0 0 A :=
  ⟨cX8_init, 4, ⟨⟨by decide, by decide, by show _ = some 3; decide +kernel⟩, by decide, q953, q194⟩, x_start (plainFor_of_name (by decide)) hD ⟨⟨by decide, by decide, by show _ = some 3; decide +kernel⟩, by decide, q953, q194⟩ (Nat.le_of_ble_eq_true rfl) (fun κ Z h hT hN hR => xt_X8_init h hT hN hR hw)⟩
def xw_J14_charAt (x0 : Nat) (x1 : Int32) (ν : XN) (Q : Int32 → XN → Prop) : Prop :=
  (rc ν.2 x0 = 17 ∧ (rc ν.2 x0 = 17 ∧ (∃ b3, (rO ν.2 x0 0) = some b3 ∧ (rc ν.2 x0 = 17 ∧ (rc ν.2 b3 = 102 ∧ (xw_J12_min (rI ν.2 x0 3) ((Int32.ofNat (rn ν.2 b3)) >>> ((rI ν.2 x0 1) &&& 31)) ν (fun r8 ν7 => (xw_J6_checkIndex x1 r8 ν7 (fun ν9 => ((¬ (rI ν.2 x0 1) = 0 → False) ∧ ((rI ν.2 x0 1) = 0 → (rc ν9.2 b3 = 102 ∧ (vp_in x1 (rn ν9.2 b3) ∧ (narrow .char (.int (UInt32.toInt32 (Int32.toUInt32 ((rI ν9.2 b3 (Int32.toNatClampNeg x1)) &&& (255 : Int32)) % 65536))) = .int (UInt32.toInt32 (Int32.toUInt32 ((rI ν9.2 b3 (Int32.toNatClampNeg x1)) &&& (255 : Int32)) % 65536)) ∧ Q (UInt32.toInt32 (Int32.toUInt32 ((rI ν9.2 b3 (Int32.toNatClampNeg x1)) &&& (255 : Int32)) % 65536)) ν9))))))))))))))
theorem xt_J14_charAt {κ : Cx} {S : Adr} {A : Nat → Prop} {Z : State → Prop} {Q : Int32 → XN → Prop} (h : XCx κ cJ14_charAt RJ14 S A 3 0 0) (hT : (cxT κ).sig.returnType = some .char) (hN : (cxT κ).name = "charAt") (hR : xRet κ S A 0 0 Z cJ14_charAt (pI Q)) {x0 : Nat} {x1 : Int32} {ν : XN} (hw : xw_J14_charAt x0 x1 ν Q) : XG κ S A 0 0 Z 0 (ν, 0, 0) [some (.ref x0), some (.int x1), none, none, none] [] := by
  unfold xw_J14_charAt at hw
  refine g_aload_0 0 h.1 dJ14_charAt_0 ?_
  obtain ⟨f1, hw⟩ := hw
  refine xg_J14_22_16 1 f1 h dJ14_charAt_1 ?_
  refine g_istore_2 4 h.1 rfl dJ14_charAt_4 ?_
  refine g_aload_0 5 h.1 dJ14_charAt_5 ?_
  obtain ⟨f2, hw⟩ := hw
  refine xg_J14_15_16 6 f2 h dJ14_charAt_6 ?_
  obtain ⟨b3, e4, hw⟩ := hw
  rw [e4]
  refine g_astore_3 9 h.1 rfl dJ14_charAt_9 ?_
  refine g_aload_0 10 h.1 dJ14_charAt_10 ?_
  obtain ⟨f5, hw⟩ := hw
  refine xg_J14_79_16 11 f5 h dJ14_charAt_11 ?_
  refine g_aload_3 14 h.1 dJ14_charAt_14 ?_
  obtain ⟨f6, hw⟩ := hw
  refine ra_alen2 15 f6 h dJ14_charAt_15 ?_
  refine g_iload_2 16 h.1 dJ14_charAt_16 ?_
  refine g_ishr 17 h.1 dJ14_charAt_17 ?_
  refine xcS_I_2 18 h (xm_J12_min h.2.2.1 hw) (by decide) (Nat.le_of_eq (Nat.zero_add _)) (Nat.le_of_eq (Nat.zero_add _)) q928 q1483 (Nat.le_of_ble_eq_true rfl) dJ14_charAt_18 (fun r8 ν7 hw => ?_)
  refine g_istore_4 21 h.1 rfl dJ14_charAt_21 ?_
  refine g_iload_1 23 h.1 dJ14_charAt_23 ?_
  refine g_iload_4 24 h.1 dJ14_charAt_24 ?_
  refine xcS_V_2 26 h (xm_J6_checkIndex h.2.2.1 hw) (by decide) (Nat.le_of_eq (Nat.zero_add _)) (Nat.le_of_eq (Nat.zero_add _)) q1197 q1484 (Nat.le_of_ble_eq_true rfl) dJ14_charAt_26 (fun ν9 hw => ?_)
  refine g_iload_2 29 h.1 dJ14_charAt_29 ?_
  refine g_if_ne 30 42 h.1 dJ14_charAt_30 (by decide) (fun c => ?_) (fun c => ?_)
  · have hw := hw.1 c
    exact hw.elim
  · have hw := hw.2 c
    refine g_aload_3 33 h.1 dJ14_charAt_33 ?_
    refine g_iload_1 34 h.1 dJ14_charAt_34 ?_
    obtain ⟨f10, hw⟩ := hw
    obtain ⟨f11, hw⟩ := hw
    refine ra_bald 35 f10 f11 h dJ14_charAt_35 ?_
    refine g_sipush 36 _ sp_255 h.1 dJ14_charAt_36 ?_
    refine g_iand 39 h.1 dJ14_charAt_39 ?_
    refine g_i2c 40 h.1 dJ14_charAt_40 ?_
    obtain ⟨f12, hw⟩ := hw
    exact hR.1 41 _ _ _ _ _ _ hT f12 dJ14_charAt_41 ⟨_, rfl, hw⟩
theorem xm_J14_charAt {l : Launch} {S : Adr} {A : Nat → Prop} (hD : FD xT S xcl A) {x0 : Nat} {x1 : Int32} {ν : XN} {Q : Int32 → XN → Prop} (hw : xw_J14_charAt x0 x1 ν Q) : xMet l S A 3 0 0 1 yJ14_charAt [.ref x0, .int x1] ν (pI Q) :=
  x_met (by decide +kernel) hD ⟨⟨by decide, by decide, by show _ = some 1; decide +kernel⟩, by decide, q1482, q198⟩ (Nat.le_of_ble_eq_true rfl) (fun κ Z h hT hN hR => xt_J14_charAt h hT hN hR hw)
def xw_J15_charAt (x0 : Nat) (x1 : Int32) (ν : XN) (Q : Int32 → XN → Prop) : Prop :=
  (rc ν.2 x0 = 17 ∧ (xw_J14_charAt x0 x1 ν (fun r2 ν1 => (narrow .char (.int r2) = .int r2 ∧ Q r2 ν1))))
theorem xt_J15_charAt {κ : Cx} {S : Adr} {A : Nat → Prop} {Z : State → Prop} {Q : Int32 → XN → Prop} (h : XCx κ cJ15_charAt RJ15 S A 4 0 0) (hT : (cxT κ).sig.returnType = some .char) (hN : (cxT κ).name = "charAt") (hR : xRet κ S A 0 0 Z cJ15_charAt (pI Q)) {x0 : Nat} {x1 : Int32} {ν : XN} (hw : xw_J15_charAt x0 x1 ν Q) : XG κ S A 0 0 Z 0 (ν, 0, 0) [some (.ref x0), some (.int x1)] [] := by
  unfold xw_J15_charAt at hw
  refine g_aload_0 0 h.1 dJ15_charAt_0 ?_
  refine g_iload_1 1 h.1 dJ15_charAt_1 ?_
  obtain ⟨f3, hw⟩ := hw
  refine xcSU_I_1 2 16 rfl f3 h (xm_J14_charAt h.2.2.1 hw) (by decide) (Nat.le_of_eq (Nat.zero_add _)) (Nat.le_of_eq (Nat.zero_add _)) (by decide) q2703 q1055 q1481 q1480 (Nat.le_of_ble_eq_true rfl) dJ15_charAt_2 (fun r2 ν1 hw => ?_)
  obtain ⟨f4, hw⟩ := hw
  exact hR.1 5 _ _ _ _ _ _ hT f4 dJ15_charAt_5 ⟨_, rfl, hw⟩
theorem xm_J15_charAt {l : Launch} {S : Adr} {A : Nat → Prop} (hD : FD xT S xcl A) {x0 : Nat} {x1 : Int32} {ν : XN} {Q : Int32 → XN → Prop} (hw : xw_J15_charAt x0 x1 ν Q) : xMet l S A 4 0 0 1 yJ15_charAt [.ref x0, .int x1] ν (pI Q) :=
  x_met (by decide +kernel) hD ⟨⟨by decide, by decide, by show _ = some 1; decide +kernel⟩, by decide, q1479, q199⟩ (Nat.le_of_ble_eq_true rfl) (fun κ Z h hT hN hR => xt_J15_charAt h hT hN hR hw)
def xw_X11_two_44 (x1 : Int64) (x3 : Int64) (ν : XN) (Q : Int64 → XN → Prop) : Prop :=
  ((¬ (lg_cmp x3 (0 : Int64)) = 0 → (xw_J12_floorDiv x1 x3 ν (fun r2 ν1 => Q r2 ν1))) ∧ ((lg_cmp x3 (0 : Int64)) = 0 → Q (0 : Int64) ν))
theorem xt_X11_two_44 {κ : Cx} {S : Adr} {A : Nat → Prop} {Z : State → Prop} {Q : Int64 → XN → Prop} (h : XCx κ cX11_two RX11 S A 2 0 0) (hT : (cxT κ).sig.returnType = some .long) (hN : (cxT κ).name = "two") (hR : xRet κ S A 0 0 Z cX11_two (pJ Q)) {x1 : Int64} {x3 : Int64} {ν : XN} (hw : xw_X11_two_44 x1 x3 ν Q) : XG κ S A 0 0 Z 44 (ν, 0, 0) [none, some (.long x1), none, some (.long x3), none] [] := by
  unfold xw_X11_two_44 at hw
  refine g_lload_3 44 h.1 dX11_two_44 ?_
  refine g_lconst 45 _ lc_0 h.1 dX11_two_45 ?_
  refine g_lcmp 46 h.1 dX11_two_46 ?_
  refine g_if_ne 47 54 h.1 dX11_two_47 (by decide) (fun c => ?_) (fun c => ?_)
  · have hw := hw.1 c
    refine g_lload_1 54 h.1 dX11_two_54 ?_
    refine g_lload_3 55 h.1 dX11_two_55 ?_
    refine xcS_J_2 56 h (xm_J12_floorDiv h.2.2.1 hw) (by decide) (Nat.le_of_eq (Nat.zero_add _)) (Nat.le_of_eq (Nat.zero_add _)) q1490 q1489 (Nat.le_of_ble_eq_true rfl) dX11_two_56 (fun r2 ν1 hw => ?_)
    exact hR.2.1 59 _ _ _ _ _ hT dX11_two_59 ⟨_, rfl, hw⟩
  · have hw := hw.2 c
    refine g_lconst 50 _ lc_0 h.1 dX11_two_50 ?_
    refine g_goto 51 59 h.1 dX11_two_51 (by decide) ?_
    exact hR.2.1 59 _ _ _ _ _ hT dX11_two_59 ⟨_, rfl, hw⟩
def xw_X11_two (x0 : Int32) (x1 : Int64) (x3 : Int64) (ν : XN) (Q : Int64 → XN → Prop) : Prop :=
  ((x0 = 42 → Q (x1 * x3) ν) ∧ (¬ x0 = 42 → ((x0 = 43 → Q (x1 + x3) ν) ∧ (¬ x0 = 43 → ((x0 = 44 → xw_X11_two_44 x1 x3 ν Q) ∧ (¬ x0 = 44 → ((x0 = 45 → Q (x1 - x3) ν) ∧ (¬ x0 = 45 → xw_X11_two_44 x1 x3 ν Q))))))))
theorem xt_X11_two {κ : Cx} {S : Adr} {A : Nat → Prop} {Z : State → Prop} {Q : Int64 → XN → Prop} (h : XCx κ cX11_two RX11 S A 2 0 0) (hT : (cxT κ).sig.returnType = some .long) (hN : (cxT κ).name = "two") (hR : xRet κ S A 0 0 Z cX11_two (pJ Q)) {x0 : Int32} {x1 : Int64} {x3 : Int64} {ν : XN} (hw : xw_X11_two x0 x1 x3 ν Q) : XG κ S A 0 0 Z 0 (ν, 0, 0) [some (.int x0), some (.long x1), none, some (.long x3), none] [] := by
  unfold xw_X11_two at hw
  refine g_iload_0 0 h.1 dX11_two_0 ?_
  rcases Classical.em (x0 = 42) with c0 | c0
  · have hw := hw.1 c0
    refine g_tabIn 1 40 39 h.1 dX11_two_1 (by rw [c0]; decide) (by rw [c0]; decide) (by rw [c0]; decide) (by decide) ?_
    refine g_lload_1 40 h.1 dX11_two_40 ?_
    refine g_lload_3 41 h.1 dX11_two_41 ?_
    refine g_lmul 42 h.1 dX11_two_42 ?_
    exact hR.2.1 43 _ _ _ _ _ hT dX11_two_43 ⟨_, rfl, hw⟩
  · have hw := hw.2 c0
    rcases Classical.em (x0 = 43) with c1 | c1
    · have hw := hw.1 c1
      refine g_tabIn 1 32 31 h.1 dX11_two_1 (by rw [c1]; decide) (by rw [c1]; decide) (by rw [c1]; decide) (by decide) ?_
      refine g_lload_1 32 h.1 dX11_two_32 ?_
      refine g_lload_3 33 h.1 dX11_two_33 ?_
      refine g_ladd 34 h.1 dX11_two_34 ?_
      exact hR.2.1 35 _ _ _ _ _ hT dX11_two_35 ⟨_, rfl, hw⟩
    · have hw := hw.2 c1
      rcases Classical.em (x0 = 44) with c2 | c2
      · have hw := hw.1 c2
        refine g_tabIn 1 44 43 h.1 dX11_two_1 (by rw [c2]; decide) (by rw [c2]; decide) (by rw [c2]; decide) (by decide) ?_
        exact g_le (xt_X11_two_44 h hT hN hR hw) ⟨rfl, rfl, trivial⟩
      · have hw := hw.2 c2
        rcases Classical.em (x0 = 45) with c3 | c3
        · have hw := hw.1 c3
          refine g_tabIn 1 36 35 h.1 dX11_two_1 (by rw [c3]; decide) (by rw [c3]; decide) (by rw [c3]; decide) (by decide) ?_
          refine g_lload_1 36 h.1 dX11_two_36 ?_
          refine g_lload_3 37 h.1 dX11_two_37 ?_
          refine g_lsub 38 h.1 dX11_two_38 ?_
          exact hR.2.1 39 _ _ _ _ _ hT dX11_two_39 ⟨_, rfl, hw⟩
        · have hw := hw.2 c3
          refine g_tabOut 1 44 h.1 dX11_two_1 (tabOut_42_45 c0 c1 c2 c3) (by decide) ?_
          exact g_le (xt_X11_two_44 h hT hN hR hw) ⟨rfl, rfl, trivial⟩
theorem xm_X11_two {l : Launch} {S : Adr} {A : Nat → Prop} (hD : FD xT S xcl A) {x0 : Int32} {x1 : Int64} {x3 : Int64} {ν : XN} {Q : Int64 → XN → Prop} (hw : xw_X11_two x0 x1 x3 ν Q) : xMet l S A 2 0 0 3 yX11_two [.int x0, .long x1, .long x3] ν (pJ Q) :=
  x_met (plainFor_of_name (by decide)) hD ⟨⟨by decide, by decide, by show _ = some 3; decide +kernel⟩, by decide, q1488, q197⟩ (Nat.le_of_ble_eq_true rfl) (fun κ Z h hT hN hR => xt_X11_two h hT hN hR hw)
def xw_X11_at_21 (VA : Nat → Nat → XN → (Int64 → XN → Prop) → Prop) (TA : Nat → Nat → XN → (Int32 → XN → Prop) → Prop) (x0 : Nat) (x1 : Nat) (x2 : Int64) (x4 : Int32) (ν : XN) (Q : Int64 → XN → Prop) : Prop :=
  ∀ X21 : Nat → Nat → Int64 → Int32 → XN → Prop, (∀ (x0 : Nat) (x1 : Nat) (x2 : Int64) (x4 : Int32) (ν : XN), (rc ν.2 x0 = 12 ∧ (∃ b13, (rO ν.2 x0 0) = some b13 ∧ (rc ν.2 b13 = 7 ∧ (xw_J2_size b13 ν (fun r16 ν15 => ((r16 ≤ x4 → Q x2 ν15) ∧ (¬ r16 ≤ x4 → (rc ν15.2 x0 = 12 ∧ (∃ b19, (rO ν15.2 x0 1) = some b19 ∧ (rc ν15.2 b19 = 17 ∧ (xw_J15_charAt b19 x4 ν15 (fun r22 ν21 => (rc ν21.2 x0 = 12 ∧ (∃ b25, (rO ν21.2 x0 0) = some b25 ∧ (rc ν21.2 b25 = 7 ∧ (xw_J2_get b25 x4 ν21 (fun r28 ν27 => (∃ b30, r28 = some b30 ∧ ((rc ν27.2 b30 = 12 ∨ rc ν27.2 b30 = 13 ∨ rc ν27.2 b30 = 14 ∨ rc ν27.2 b30 = 15 ∨ rc ν27.2 b30 = 16) ∧ (VA b30 x1 ν27 (fun r34 ν33 => (xw_X11_two r22 x2 r34 ν33 (fun r36 ν35 => (xw_X0_held r36 ν35 (fun r38 ν37 => X21 x0 x1 r38 (x4 + 1) ν37))))))))))))))))))))))))) → X21 x0 x1 x2 x4 ν) → X21 x0 x1 x2 x4 ν
theorem xt_X11_at_21 {κ : Cx} {S : Adr} {A : Nat → Prop} {Z : State → Prop} {Q : Int64 → XN → Prop} {dV : Nat} {VA : Nat → Nat → XN → (Int64 → XN → Prop) → Prop} {TA : Nat → Nat → XN → (Int32 → XN → Prop) → Prop} (hV : HVT S A dV VA TA) (h : XCx κ cX11_at RX11 S A (dV + 5) 0 0) (hT : (cxT κ).sig.returnType = some .long) (hN : (cxT κ).name = "at") (hR : xRet κ S A 0 0 Z cX11_at (pJ Q)) {x0 : Nat} {x1 : Nat} {x2 : Int64} {x4 : Int32} {ν : XN} (hw : xw_X11_at_21 VA TA x0 x1 x2 x4 ν Q) : XG κ S A 0 0 Z 21 (ν, 0, 0) [some (.ref x0), some (.ref (S.2.1 x1)), some (.long x2), none, some (.int x4)] [] := by
  refine hw (fun x0 x1 x2 x4 ν => XG κ S A 0 0 Z 21 (ν, 0, 0) [some (.ref x0), some (.ref (S.2.1 x1)), some (.long x2), none, some (.int x4)] []) ?_
  clear hw
  intro x0 x1 x2 x4 ν hw
  have hX21 : ∀ (x0 : Nat) (x1 : Nat) (x2 : Int64) (x4 : Int32) (ν : XN), XG κ S A 0 0 Z 21 (ν, 0, 0) [some (.ref x0), some (.ref (S.2.1 x1)), some (.long x2), none, some (.int x4)] [] → XG κ S A 0 0 Z 21 (ν, 0, 0) [some (.ref x0), some (.ref (S.2.1 x1)), some (.long x2), none, some (.int x4)] [] := fun _ _ _ _ _ hh => hh
  refine g_iload_4 21 h.1 dX11_at_21 ?_
  refine g_aload_0 23 h.1 dX11_at_23 ?_
  obtain ⟨f12, hw⟩ := hw
  refine xg_X11_12_11 24 f12 h dX11_at_24 ?_
  obtain ⟨b13, e14, hw⟩ := hw
  rw [e14]
  obtain ⟨f17, hw⟩ := hw
  refine xcF_I_0 27 h h.2.1.2.2.1.1 (xm_J2_size h.2.2.1 hw) (by omega) (Nat.le_of_eq (Nat.zero_add _)) (Nat.le_of_eq (Nat.zero_add _)) ⟨by decide, by decide, by show _ = some 0; decide +kernel⟩ q793 q791 f17 q1475 (Nat.le_of_ble_eq_true rfl) dX11_at_27 (fun r16 ν15 hw => ?_)
  refine g_icmp_ge 32 76 h.1 dX11_at_32 (by decide) (fun c => ?_) (fun c => ?_)
  · have hw := hw.1 c
    refine g_lload_2 76 h.1 dX11_at_76 ?_
    exact hR.2.1 77 _ _ _ _ _ hT dX11_at_77 ⟨_, rfl, hw⟩
  · have hw := hw.2 c
    refine g_aload_0 35 h.1 dX11_at_35 ?_
    obtain ⟨f18, hw⟩ := hw
    refine xg_X11_21_11 36 f18 h dX11_at_36 ?_
    refine g_iload_4 39 h.1 dX11_at_39 ?_
    obtain ⟨b19, e20, hw⟩ := hw
    rw [e20]
    obtain ⟨f23, hw⟩ := hw
    refine xcV_I_1 41 h (xm_J15_charAt h.2.2.1 hw) (by omega) (Nat.le_of_eq (Nat.zero_add _)) (Nat.le_of_eq (Nat.zero_add _)) q1477 q1478 (fun H hI => x_recvR h f23 rfl hI) q1476 (Nat.le_of_ble_eq_true rfl) dX11_at_41 (fun r22 ν21 hw => ?_)
    refine g_lload_2 44 h.1 dX11_at_44 ?_
    refine g_aload_0 45 h.1 dX11_at_45 ?_
    obtain ⟨f24, hw⟩ := hw
    refine xg_X11_12_11 46 f24 h dX11_at_46 ?_
    refine g_iload_4 49 h.1 dX11_at_49 ?_
    obtain ⟨b25, e26, hw⟩ := hw
    rw [e26]
    obtain ⟨f29, hw⟩ := hw
    refine xcF_O_1 51 h h.2.1.2.2.1.2.1 (xm_J2_get h.2.2.1 hw) (by omega) (Nat.le_of_eq (Nat.zero_add _)) (Nat.le_of_eq (Nat.zero_add _)) ⟨by decide, by decide, by show _ = some 1; decide +kernel⟩ q835 q833 f29 q1419 (Nat.le_of_ble_eq_true rfl) dX11_at_51 (fun r28 ν27 hw => ?_)
    obtain ⟨b30, e31, hw⟩ := hw
    rw [e31]
    obtain ⟨f32, hw⟩ := hw
    refine xcs_X11_2 56 f32 h dX11_at_56 ?_
    refine g_aload_1 59 h.1 dX11_at_59 ?_
    refine x_callVC 60 h (hV.1 _ _ _ _ _ hw) (by omega) q1421 (Nat.le_of_ble_eq_true rfl) dX11_at_60 (fun r34 ν33 hw => ?_)
    refine xcS_J_3 63 h (xm_X11_two h.2.2.1 hw) (by omega) (Nat.le_of_eq (Nat.zero_add _)) (Nat.le_of_eq (Nat.zero_add _)) q1487 q1486 (Nat.le_of_ble_eq_true rfl) dX11_at_63 (fun r36 ν35 hw => ?_)
    refine xcSN_J_1 66 h (xm_X0_held h.2.2.1 hw) (by omega) (Nat.le_of_eq (Nat.zero_add _)) (Nat.le_of_eq (Nat.zero_add _)) q1405 q1492 (Nat.le_of_ble_eq_true rfl) dX11_at_66 (fun r38 ν37 hw => ?_)
    refine g_lstore_2 69 h.1 rfl dX11_at_69 ?_
    refine g_iinc_4 70 (x4 + 1) (congrArg _ ic_1) h.1 rfl dX11_at_70 ?_
    refine g_goto 73 21 h.1 dX11_at_73 (by decide) ?_
    exact g_le (hX21 _ _ _ _ _ hw) ⟨rfl, rfl, rfl, rfl, trivial⟩
def xw_X11_at (VA : Nat → Nat → XN → (Int64 → XN → Prop) → Prop) (TA : Nat → Nat → XN → (Int32 → XN → Prop) → Prop) (x0 : Nat) (x1 : Nat) (ν : XN) (Q : Int64 → XN → Prop) : Prop :=
  (rc ν.2 x0 = 12 ∧ (∃ b2, (rO ν.2 x0 0) = some b2 ∧ (rc ν.2 b2 = 7 ∧ (xw_J2_get b2 (0 : Int32) ν (fun r5 ν4 => (∃ b7, r5 = some b7 ∧ ((rc ν4.2 b7 = 12 ∨ rc ν4.2 b7 = 13 ∨ rc ν4.2 b7 = 14 ∨ rc ν4.2 b7 = 15 ∨ rc ν4.2 b7 = 16) ∧ (VA b7 x1 ν4 (fun r11 ν10 => xw_X11_at_21 VA TA x0 x1 r11 (1 : Int32) ν10 Q)))))))))
theorem xt_X11_at {κ : Cx} {S : Adr} {A : Nat → Prop} {Z : State → Prop} {Q : Int64 → XN → Prop} {dV : Nat} {VA : Nat → Nat → XN → (Int64 → XN → Prop) → Prop} {TA : Nat → Nat → XN → (Int32 → XN → Prop) → Prop} (hV : HVT S A dV VA TA) (h : XCx κ cX11_at RX11 S A (dV + 5) 0 0) (hT : (cxT κ).sig.returnType = some .long) (hN : (cxT κ).name = "at") (hR : xRet κ S A 0 0 Z cX11_at (pJ Q)) {x0 : Nat} {x1 : Nat} {ν : XN} (hw : xw_X11_at VA TA x0 x1 ν Q) : XG κ S A 0 0 Z 0 (ν, 0, 0) [some (.ref x0), some (.ref (S.2.1 x1)), none, none, none] [] := by
  unfold xw_X11_at at hw
  refine g_aload_0 0 h.1 dX11_at_0 ?_
  obtain ⟨f1, hw⟩ := hw
  refine xg_X11_12_11 1 f1 h dX11_at_1 ?_
  refine g_iconstv 4 _ ic_0 h.1 dX11_at_4 ?_
  obtain ⟨b2, e3, hw⟩ := hw
  rw [e3]
  obtain ⟨f6, hw⟩ := hw
  refine xcF_O_1 5 h h.2.1.2.2.1.2.1 (xm_J2_get h.2.2.1 hw) (by omega) (Nat.le_of_eq (Nat.zero_add _)) (Nat.le_of_eq (Nat.zero_add _)) ⟨by decide, by decide, by show _ = some 1; decide +kernel⟩ q835 q833 f6 q1419 (Nat.le_of_ble_eq_true rfl) dX11_at_5 (fun r5 ν4 hw => ?_)
  obtain ⟨b7, e8, hw⟩ := hw
  rw [e8]
  obtain ⟨f9, hw⟩ := hw
  refine xcs_X11_2 10 f9 h dX11_at_10 ?_
  refine g_aload_1 13 h.1 dX11_at_13 ?_
  refine x_callVC 14 h (hV.1 _ _ _ _ _ hw) (by omega) q1421 (Nat.le_of_ble_eq_true rfl) dX11_at_14 (fun r11 ν10 hw => ?_)
  refine g_lstore_2 17 h.1 rfl dX11_at_17 ?_
  refine g_iconstv 18 _ ic_1 h.1 dX11_at_18 ?_
  refine g_istore_4 19 h.1 rfl dX11_at_19 ?_
  exact g_le (xt_X11_at_21 hV h hT hN hR hw) ⟨rfl, rfl, rfl, rfl, trivial⟩
theorem xm_X11_at {l : Launch} {S : Adr} {A : Nat → Prop} {dV : Nat} {VA : Nat → Nat → XN → (Int64 → XN → Prop) → Prop} {TA : Nat → Nat → XN → (Int32 → XN → Prop) → Prop} (hV : HVT S A dV VA TA) (hD : FD xT S xcl A) {x0 : Nat} {x1 : Nat} {ν : XN} {Q : Int64 → XN → Prop} (hw : xw_X11_at VA TA x0 x1 ν Q) : xMet l S A (dV + 5) 0 0 1 yX11_at [.ref x0, .ref (S.2.1 x1)] ν (pJ Q) :=
  x_met (plainFor_of_name (by decide)) hD ⟨⟨by decide, by decide, by show _ = some 1; decide +kernel⟩, by decide, q1417, q197⟩ (Nat.le_of_ble_eq_true rfl) (fun κ Z h hT hN hR => xt_X11_at hV h hT hN hR hw)
def xw_X12_at_35 (VA : Nat → Nat → XN → (Int64 → XN → Prop) → Prop) (TA : Nat → Nat → XN → (Int32 → XN → Prop) → Prop) (x2 : Int64) (x4 : Int64) (y0 : Int32) (y1 : Int32) (ν : XN) (Q : Int64 → XN → Prop) : Prop :=
  ((¬ y1 = y0 → Q x4 ν) ∧ (y1 = y0 → Q x2 ν))
theorem xt_X12_at_35 {κ : Cx} {S : Adr} {A : Nat → Prop} {Z : State → Prop} {Q : Int64 → XN → Prop} {dV : Nat} {VA : Nat → Nat → XN → (Int64 → XN → Prop) → Prop} {TA : Nat → Nat → XN → (Int32 → XN → Prop) → Prop} (hV : HVT S A dV VA TA) (h : XCx κ cX12_at RX12 S A (dV + 1) 0 0) (hT : (cxT κ).sig.returnType = some .long) (hN : (cxT κ).name = "at") (hR : xRet κ S A 0 0 Z cX12_at (pJ Q)) {x2 : Int64} {x4 : Int64} {y0 : Int32} {y1 : Int32} {ν : XN} (hw : xw_X12_at_35 VA TA x2 x4 y0 y1 ν Q) : XG κ S A 0 0 Z 35 (ν, 0, 0) [none, none, some (.long x2), none, some (.long x4), none] [.int y0, .int y1] := by
  unfold xw_X12_at_35 at hw
  refine g_icmp_ne 35 42 h.1 dX12_at_35 (by decide) (fun c => ?_) (fun c => ?_)
  · have hw := hw.1 c
    refine g_lload_4 42 h.1 dX12_at_42 ?_
    exact hR.2.1 44 _ _ _ _ _ hT dX12_at_44 ⟨_, rfl, hw⟩
  · have hw := hw.2 c
    refine g_lload_2 38 h.1 dX12_at_38 ?_
    refine g_goto 39 44 h.1 dX12_at_39 (by decide) ?_
    exact hR.2.1 44 _ _ _ _ _ hT dX12_at_44 ⟨_, rfl, hw⟩
def xw_X12_at (VA : Nat → Nat → XN → (Int64 → XN → Prop) → Prop) (TA : Nat → Nat → XN → (Int32 → XN → Prop) → Prop) (x0 : Nat) (x1 : Nat) (ν : XN) (Q : Int64 → XN → Prop) : Prop :=
  (rc ν.2 x0 = 13 ∧ (∃ b2, (rO ν.2 x0 1) = some b2 ∧ (VA b2 x1 ν (fun r5 ν4 => (rc ν4.2 x0 = 13 ∧ (∃ b7, (rO ν4.2 x0 2) = some b7 ∧ (VA b7 x1 ν4 (fun r10 ν9 => (rc ν9.2 x0 = 13 ∧ (((lg_cmp r5 r10) ≤ 0 → xw_X12_at_35 VA TA r5 r10 (0 : Int32) (rI ν9.2 x0 0) ν9 Q) ∧ (¬ (lg_cmp r5 r10) ≤ 0 → xw_X12_at_35 VA TA r5 r10 (1 : Int32) (rI ν9.2 x0 0) ν9 Q)))))))))))
theorem xt_X12_at {κ : Cx} {S : Adr} {A : Nat → Prop} {Z : State → Prop} {Q : Int64 → XN → Prop} {dV : Nat} {VA : Nat → Nat → XN → (Int64 → XN → Prop) → Prop} {TA : Nat → Nat → XN → (Int32 → XN → Prop) → Prop} (hV : HVT S A dV VA TA) (h : XCx κ cX12_at RX12 S A (dV + 1) 0 0) (hT : (cxT κ).sig.returnType = some .long) (hN : (cxT κ).name = "at") (hR : xRet κ S A 0 0 Z cX12_at (pJ Q)) {x0 : Nat} {x1 : Nat} {ν : XN} (hw : xw_X12_at VA TA x0 x1 ν Q) : XG κ S A 0 0 Z 0 (ν, 0, 0) [some (.ref x0), some (.ref (S.2.1 x1)), none, none, none, none] [] := by
  unfold xw_X12_at at hw
  refine g_aload_0 0 h.1 dX12_at_0 ?_
  obtain ⟨f1, hw⟩ := hw
  refine xg_X12_13_12 1 f1 h dX12_at_1 ?_
  refine g_aload_1 4 h.1 dX12_at_4 ?_
  obtain ⟨b2, e3, hw⟩ := hw
  rw [e3]
  refine x_callVC 5 h (hV.1 _ _ _ _ _ hw) (by omega) q1429 (Nat.le_of_ble_eq_true rfl) dX12_at_5 (fun r5 ν4 hw => ?_)
  refine g_lstore_2 8 h.1 rfl dX12_at_8 ?_
  refine g_aload_0 9 h.1 dX12_at_9 ?_
  obtain ⟨f6, hw⟩ := hw
  refine xg_X12_17_12 10 f6 h dX12_at_10 ?_
  refine g_aload_1 13 h.1 dX12_at_13 ?_
  obtain ⟨b7, e8, hw⟩ := hw
  rw [e8]
  refine x_callVC 14 h (hV.1 _ _ _ _ _ hw) (by omega) q1429 (Nat.le_of_ble_eq_true rfl) dX12_at_14 (fun r10 ν9 hw => ?_)
  refine g_lstore_4 17 h.1 rfl dX12_at_17 ?_
  refine g_aload_0 19 h.1 dX12_at_19 ?_
  obtain ⟨f11, hw⟩ := hw
  refine xg_X12_7_12 20 f11 h dX12_at_20 ?_
  refine g_lload_2 23 h.1 dX12_at_23 ?_
  refine g_lload_4 24 h.1 dX12_at_24 ?_
  refine g_lcmp 26 h.1 dX12_at_26 ?_
  refine g_if_le 27 34 h.1 dX12_at_27 (by decide) (fun c => ?_) (fun c => ?_)
  · have hw := hw.1 c
    refine g_iconstv 34 _ ic_0 h.1 dX12_at_34 ?_
    exact g_le (xt_X12_at_35 hV h hT hN hR hw) ⟨rfl, rfl, trivial⟩
  · have hw := hw.2 c
    refine g_iconstv 30 _ ic_1 h.1 dX12_at_30 ?_
    refine g_goto 31 35 h.1 dX12_at_31 (by decide) ?_
    exact g_le (xt_X12_at_35 hV h hT hN hR hw) ⟨rfl, rfl, trivial⟩
theorem xm_X12_at {l : Launch} {S : Adr} {A : Nat → Prop} {dV : Nat} {VA : Nat → Nat → XN → (Int64 → XN → Prop) → Prop} {TA : Nat → Nat → XN → (Int32 → XN → Prop) → Prop} (hV : HVT S A dV VA TA) (hD : FD xT S xcl A) {x0 : Nat} {x1 : Nat} {ν : XN} {Q : Int64 → XN → Prop} (hw : xw_X12_at VA TA x0 x1 ν Q) : xMet l S A (dV + 1) 0 0 1 yX12_at [.ref x0, .ref (S.2.1 x1)] ν (pJ Q) :=
  x_met (plainFor_of_name (by decide)) hD ⟨⟨by decide, by decide, by show _ = some 1; decide +kernel⟩, by decide, q1428, q200⟩ (Nat.le_of_ble_eq_true rfl) (fun κ Z h hT hN hR => xt_X12_at hV h hT hN hR hw)
def xw_X12_init (x0 : Nat) (x1 : Int32) (x2 : Nat) (x3 : Nat) (ν : XN) (Q : XN → Prop) : Prop :=
  (xw_X10_init x0 ν (fun ν1 => (rk ν1.2 x0 = 13 ∧ (narrow .boolean (.int x1) = .int x1 ∧ (fits .boolean (.int x1) = true ∧ (∀ ν2, ν2 = (ν1.1, tI ν1.2 x0 0 x1) → (rk ν2.2 x0 = 13 ∧ (∀ ν7, ν7 = (ν2.1, tO ν2.2 x0 1 (some x2)) → (rk ν7.2 x0 = 13 ∧ (∀ ν10, ν10 = (ν7.1, tO ν7.2 x0 2 (some x3)) → Q ν10))))))))))
theorem xt_X12_init {κ : Cx} {S : Adr} {A : Nat → Prop} {Z : State → Prop} {Q : XN → Prop} (h : XCx κ cX12_init RX12 S A 2 0 0) (hT : (cxT κ).sig.returnType = none) (hN : (cxT κ).name = "<init>") (hR : xRet κ S A 0 0 Z cX12_init (pV Q)) {x0 : Nat} {x1 : Int32} {x2 : Nat} {x3 : Nat} {ν : XN} (hw : xw_X12_init x0 x1 x2 x3 ν Q) : XG κ S A 0 0 Z 0 (ν, 0, 0) [some (.ref x0), some (.int x1), some (.ref x2), some (.ref x3)] [] := by
  unfold xw_X12_init at hw
  refine g_aload_0 0 h.1 dX12_init_0 ?_
  refine xcIN_V_0 1 h (xm_X10_init h.2.2.1 hw) (by decide) (Nat.le_of_eq (Nat.zero_add _)) (Nat.le_of_eq (Nat.zero_add _)) rfl q1028 q1084 (Nat.le_of_ble_eq_true rfl) dX12_init_1 (fun ν1 hw => ?_)
  refine g_aload_0 4 h.1 dX12_init_4 ?_
  refine g_iload_1 5 h.1 dX12_init_5 ?_
  obtain ⟨f4, hw⟩ := hw
  obtain ⟨f5, hw⟩ := hw
  obtain ⟨f6, hw⟩ := hw
  refine xp_X12_7_12 6 f5 f6 hN f4 h dX12_init_6 (fun ν2 e3 => ?_)
  have hw := hw ν2 e3
  refine g_aload_0 9 h.1 dX12_init_9 ?_
  refine g_aload_2 10 h.1 dX12_init_10 ?_
  obtain ⟨f9, hw⟩ := hw
  refine xp_X12_13_12 11 (some x2) hN f9 h dX12_init_11 (fun ν7 e8 => ?_)
  have hw := hw ν7 e8
  refine g_aload_0 14 h.1 dX12_init_14 ?_
  refine g_aload_3 15 h.1 dX12_init_15 ?_
  obtain ⟨f12, hw⟩ := hw
  refine xp_X12_17_12 16 (some x3) hN f12 h dX12_init_16 (fun ν10 e11 => ?_)
  have hw := hw ν10 e11
  exact hR.2.2.1 19 _ _ _ _ hT dX12_init_19 ⟨rfl, hw⟩
theorem xm_X12_init {l : Launch} {S : Adr} {A : Nat → Prop} (hD : FD xT S xcl A) {x0 : Nat} {x1 : Int32} {x2 : Nat} {x3 : Nat} {ν : XN} {Q : XN → Prop} (hw : xw_X12_init x0 x1 x2 x3 ν Q) : ∃ (bb : ByteArray) (L : Nat), xWd yX12_init bb L none 3 ∧ Met l yX12_init (ws_ yX12_init bb L none) (rmX 2 0 0) (va_Pc [.ref x0, .int x1, .ref x2, .ref x3] (xPre S A ν)) (xQ S A (pV Q)) 0 0 A :=
  ⟨cX12_init, 4, ⟨⟨by decide, by decide, by show _ = some 3; decide +kernel⟩, by decide, q1083, q200⟩, x_start (plainFor_of_name (by decide)) hD ⟨⟨by decide, by decide, by show _ = some 3; decide +kernel⟩, by decide, q1083, q200⟩ (Nat.le_of_ble_eq_true rfl) (fun κ Z h hT hN hR => xt_X12_init h hT hN hR hw)⟩
def xw_X15_at (VA : Nat → Nat → XN → (Int64 → XN → Prop) → Prop) (TA : Nat → Nat → XN → (Int32 → XN → Prop) → Prop) (x0 : Nat) (x1 : Nat) (ν : XN) (Q : Int64 → XN → Prop) : Prop :=
  (rc ν.2 x0 = 16 ∧ ((∃ b, fR ν.1 901 5 = .ref b ∧ rO ν.2 x0 2 = some b) ∧ (rc ν.2 x0 = 16 ∧ (rc ν.2 x0 = 16 ∧ (∃ b5, (rO ν.2 x0 1) = some b5 ∧ (VA b5 x1 ν (fun r8 ν7 => (xw_X0_looked VA TA (rI ν.2 x0 0) r8 ν7 (fun r10 ν9 => (xw_X0_held r10 ν9 (fun r12 ν11 => Q r12 ν11)))))))))))
theorem xt_X15_at {κ : Cx} {S : Adr} {A : Nat → Prop} {Z : State → Prop} {Q : Int64 → XN → Prop} {dV : Nat} {VA : Nat → Nat → XN → (Int64 → XN → Prop) → Prop} {TA : Nat → Nat → XN → (Int32 → XN → Prop) → Prop} (hV : HVT S A dV VA TA) (h : XCx κ cX15_at RX15 S A (dV + 9) 0 0) (hT : (cxT κ).sig.returnType = some .long) (hN : (cxT κ).name = "at") (hR : xRet κ S A 0 0 Z cX15_at (pJ Q)) {x0 : Nat} {x1 : Nat} {ν : XN} (hw : xw_X15_at VA TA x0 x1 ν Q) : XG κ S A 0 0 Z 0 (ν, 0, 0) [some (.ref x0), some (.ref (S.2.1 x1))] [] := by
  unfold xw_X15_at at hw
  refine g_aload_0 0 h.1 dX15_at_0 ?_
  obtain ⟨f1, hw⟩ := hw
  obtain ⟨f2, hw⟩ := hw
  refine xg_X15_1_15 1 f1 f2 h dX15_at_1 ?_
  refine g_aload_0 4 h.1 dX15_at_4 ?_
  obtain ⟨f3, hw⟩ := hw
  refine xg_X15_13_15 5 f3 h dX15_at_5 ?_
  refine g_aload_0 8 h.1 dX15_at_8 ?_
  obtain ⟨f4, hw⟩ := hw
  refine xg_X15_17_15 9 f4 h dX15_at_9 ?_
  refine g_aload_1 12 h.1 dX15_at_12 ?_
  obtain ⟨b5, e6, hw⟩ := hw
  rw [e6]
  refine x_callVC 13 h (hV.1 _ _ _ _ _ hw) (by omega) q1426 (Nat.le_of_ble_eq_true rfl) dX15_at_13 (fun r8 ν7 hw => ?_)
  refine xcVN_J_2 16 h (xm_X0_looked hV h.2.2.1 hw) (by omega) (Nat.le_of_eq (Nat.zero_add _)) (Nat.le_of_eq (Nat.zero_add _)) q1432 qs45 (fun H hI => x_recvK h rfl rfl hI) q1430 (Nat.le_of_ble_eq_true rfl) dX15_at_16 (fun r10 ν9 hw => ?_)
  refine xcSN_J_1 19 h (xm_X0_held h.2.2.1 hw) (by omega) (Nat.le_of_eq (Nat.zero_add _)) (Nat.le_of_eq (Nat.zero_add _)) q1405 q1473 (Nat.le_of_ble_eq_true rfl) dX15_at_19 (fun r12 ν11 hw => ?_)
  exact hR.2.1 22 _ _ _ _ _ hT dX15_at_22 ⟨_, rfl, hw⟩
theorem xm_X15_at {l : Launch} {S : Adr} {A : Nat → Prop} {dV : Nat} {VA : Nat → Nat → XN → (Int64 → XN → Prop) → Prop} {TA : Nat → Nat → XN → (Int32 → XN → Prop) → Prop} (hV : HVT S A dV VA TA) (hD : FD xT S xcl A) {x0 : Nat} {x1 : Nat} {ν : XN} {Q : Int64 → XN → Prop} (hw : xw_X15_at VA TA x0 x1 ν Q) : xMet l S A (dV + 9) 0 0 1 yX15_at [.ref x0, .ref (S.2.1 x1)] ν (pJ Q) :=
  x_met (plainFor_of_name (by decide)) hD ⟨⟨by decide, by decide, by show _ = some 1; decide +kernel⟩, by decide, q1425, q203⟩ (Nat.le_of_ble_eq_true rfl) (fun κ Z h hT hN hR => xt_X15_at hV h hT hN hR hw)
def xw_X15_init (x0 : Nat) (x2 : Int32) (x3 : Nat) (ν : XN) (Q : XN → Prop) : Prop :=
  (rk ν.2 x0 = 16 ∧ (∀ b4, fR ν.1 901 5 = .ref b4 → ∀ ν1, ν1 = (ν.1, tO ν.2 x0 2 (some b4)) → (xw_X10_init x0 ν1 (fun ν6 => (rk ν6.2 x0 = 16 ∧ (∀ ν7, ν7 = (ν6.1, tI ν6.2 x0 0 x2) → (rk ν7.2 x0 = 16 ∧ (∀ ν10, ν10 = (ν7.1, tO ν7.2 x0 1 (some x3)) → Q ν10))))))))
theorem xt_X15_init {κ : Cx} {S : Adr} {A : Nat → Prop} {Z : State → Prop} {Q : XN → Prop} (h : XCx κ cX15_init RX15 S A 2 0 0) (hT : (cxT κ).sig.returnType = none) (hN : (cxT κ).name = "<init>") (hR : xRet κ S A 0 0 Z cX15_init (pV Q)) {x0 : Nat} {x2 : Int32} {x3 : Nat} {ν : XN} (hw : xw_X15_init x0 x2 x3 ν Q) : XG κ S A 0 0 Z 0 (ν, 0, 0) [some (.ref x0), some (.ref (S.2.1 0)), some (.int x2), some (.ref x3)] [] := by
  unfold xw_X15_init at hw
  refine g_aload_0 0 h.1 dX15_init_0 ?_
  refine g_aload_1 1 h.1 dX15_init_1 ?_
  obtain ⟨f3, hw⟩ := hw
  refine xp_X15_1_15 2 hN f3 h dX15_init_2 (fun b4 e5 ν1 e2 => ?_)
  have hw := hw b4 e5 ν1 e2
  refine g_aload_0 5 h.1 dX15_init_5 ?_
  refine xcIN_V_0 6 h (xm_X10_init h.2.2.1 hw) (by decide) (Nat.le_of_eq (Nat.zero_add _)) (Nat.le_of_eq (Nat.zero_add _)) rfl q1028 q1128 (Nat.le_of_ble_eq_true rfl) dX15_init_6 (fun ν6 hw => ?_)
  refine g_aload_0 9 h.1 dX15_init_9 ?_
  refine g_iload_2 10 h.1 dX15_init_10 ?_
  obtain ⟨f9, hw⟩ := hw
  refine xp_X15_13_15 11 hN f9 h dX15_init_11 (fun ν7 e8 => ?_)
  have hw := hw ν7 e8
  refine g_aload_0 14 h.1 dX15_init_14 ?_
  refine g_aload_3 15 h.1 dX15_init_15 ?_
  obtain ⟨f12, hw⟩ := hw
  refine xp_X15_17_15 16 (some x3) hN f12 h dX15_init_16 (fun ν10 e11 => ?_)
  have hw := hw ν10 e11
  exact hR.2.2.1 19 _ _ _ _ hT dX15_init_19 ⟨rfl, hw⟩
theorem xm_X15_init {l : Launch} {S : Adr} {A : Nat → Prop} (hD : FD xT S xcl A) {x0 : Nat} {x2 : Int32} {x3 : Nat} {ν : XN} {Q : XN → Prop} (hw : xw_X15_init x0 x2 x3 ν Q) : ∃ (bb : ByteArray) (L : Nat), xWd yX15_init bb L none 3 ∧ Met l yX15_init (ws_ yX15_init bb L none) (rmX 2 0 0) (va_Pc [.ref x0, .ref (S.2.1 0), .int x2, .ref x3] (xPre S A ν)) (xQ S A (pV Q)) 0 0 A :=
  ⟨cX15_init, 4, ⟨⟨by decide, by decide, by show _ = some 3; decide +kernel⟩, by decide, q1127, q203⟩, x_start (plainFor_of_name (by decide)) hD ⟨⟨by decide, by decide, by show _ = some 3; decide +kernel⟩, by decide, q1127, q203⟩ (Nat.le_of_ble_eq_true rfl) (fun κ Z h hT hN hR => xt_X15_init h hT hN hR hw)⟩
def xw_X17_holds_2 (VA : Nat → Nat → XN → (Int64 → XN → Prop) → Prop) (TA : Nat → Nat → XN → (Int32 → XN → Prop) → Prop) (x0 : Nat) (x1 : Nat) (x2 : Int32) (ν : XN) (Q : Int32 → XN → Prop) : Prop :=
  ∀ X2 : Nat → Nat → Int32 → XN → Prop, (∀ (x0 : Nat) (x1 : Nat) (x2 : Int32) (ν : XN), (rc ν.2 x0 = 18 ∧ (∃ b2, (rO ν.2 x0 0) = some b2 ∧ (rc ν.2 b2 = 7 ∧ (xw_J2_size b2 ν (fun r5 ν4 => ((r5 ≤ x2 → (rc ν4.2 x0 = 18 ∧ (narrow .boolean (.int (rI ν4.2 x0 1)) = .int (rI ν4.2 x0 1) ∧ Q (rI ν4.2 x0 1) ν4))) ∧ (¬ r5 ≤ x2 → (rc ν4.2 x0 = 18 ∧ (∃ b10, (rO ν4.2 x0 0) = some b10 ∧ (rc ν4.2 b10 = 7 ∧ (xw_J2_get b10 x2 ν4 (fun r13 ν12 => (∃ b15, r13 = some b15 ∧ ((rc ν12.2 b15 = 18 ∨ rc ν12.2 b15 = 19 ∨ rc ν12.2 b15 = 20 ∨ rc ν12.2 b15 = 21) ∧ (TA b15 x1 ν12 (fun r19 ν18 => (rc ν18.2 x0 = 18 ∧ ((r19 = (rI ν18.2 x0 1) → X2 x0 x1 (x2 + 1) ν18) ∧ (¬ r19 = (rI ν18.2 x0 1) → (rc ν18.2 x0 = 18 ∧ ((¬ (rI ν18.2 x0 1) = 0 → Q (0 : Int32) ν18) ∧ ((rI ν18.2 x0 1) = 0 → Q (1 : Int32) ν18)))))))))))))))))))))) → X2 x0 x1 x2 ν) → X2 x0 x1 x2 ν
theorem xt_X17_holds_2 {κ : Cx} {S : Adr} {A : Nat → Prop} {Z : State → Prop} {Q : Int32 → XN → Prop} {dV : Nat} {VA : Nat → Nat → XN → (Int64 → XN → Prop) → Prop} {TA : Nat → Nat → XN → (Int32 → XN → Prop) → Prop} (hV : HVT S A dV VA TA) (h : XCx κ cX17_holds RX17 S A (dV + 4) 0 0) (hT : (cxT κ).sig.returnType = some .boolean) (hN : (cxT κ).name = "holds") (hR : xRet κ S A 0 0 Z cX17_holds (pI Q)) {x0 : Nat} {x1 : Nat} {x2 : Int32} {ν : XN} (hw : xw_X17_holds_2 VA TA x0 x1 x2 ν Q) : XG κ S A 0 0 Z 2 (ν, 0, 0) [some (.ref x0), some (.ref (S.2.1 x1)), some (.int x2)] [] := by
  refine hw (fun x0 x1 x2 ν => XG κ S A 0 0 Z 2 (ν, 0, 0) [some (.ref x0), some (.ref (S.2.1 x1)), some (.int x2)] []) ?_
  clear hw
  intro x0 x1 x2 ν hw
  have hX2 : ∀ (x0 : Nat) (x1 : Nat) (x2 : Int32) (ν : XN), XG κ S A 0 0 Z 2 (ν, 0, 0) [some (.ref x0), some (.ref (S.2.1 x1)), some (.int x2)] [] → XG κ S A 0 0 Z 2 (ν, 0, 0) [some (.ref x0), some (.ref (S.2.1 x1)), some (.int x2)] [] := fun _ _ _ _ hh => hh
  refine g_iload_2 2 h.1 dX17_holds_2 ?_
  refine g_aload_0 3 h.1 dX17_holds_3 ?_
  obtain ⟨f1, hw⟩ := hw
  refine xg_X17_12_17 4 f1 h dX17_holds_4 ?_
  obtain ⟨b2, e3, hw⟩ := hw
  rw [e3]
  obtain ⟨f6, hw⟩ := hw
  refine xcF_I_0 7 h h.2.1.2.2.1.1 (xm_J2_size h.2.2.1 hw) (by omega) (Nat.le_of_eq (Nat.zero_add _)) (Nat.le_of_eq (Nat.zero_add _)) ⟨by decide, by decide, by show _ = some 0; decide +kernel⟩ q793 q791 f6 q1388 (Nat.le_of_ble_eq_true rfl) dX17_holds_7 (fun r5 ν4 hw => ?_)
  refine g_icmp_ge 12 58 h.1 dX17_holds_12 (by decide) (fun c => ?_) (fun c => ?_)
  · have hw := hw.1 c
    refine g_aload_0 58 h.1 dX17_holds_58 ?_
    obtain ⟨f7, hw⟩ := hw
    refine xg_X17_18_17 59 f7 h dX17_holds_59 ?_
    obtain ⟨f8, hw⟩ := hw
    exact hR.1 62 _ _ _ _ _ _ hT f8 dX17_holds_62 ⟨_, rfl, hw⟩
  · have hw := hw.2 c
    refine g_aload_0 15 h.1 dX17_holds_15 ?_
    obtain ⟨f9, hw⟩ := hw
    refine xg_X17_12_17 16 f9 h dX17_holds_16 ?_
    refine g_iload_2 19 h.1 dX17_holds_19 ?_
    obtain ⟨b10, e11, hw⟩ := hw
    rw [e11]
    obtain ⟨f14, hw⟩ := hw
    refine xcF_O_1 20 h h.2.1.2.2.1.2.1 (xm_J2_get h.2.2.1 hw) (by omega) (Nat.le_of_eq (Nat.zero_add _)) (Nat.le_of_eq (Nat.zero_add _)) ⟨by decide, by decide, by show _ = some 1; decide +kernel⟩ q835 q833 f14 q1390 (Nat.le_of_ble_eq_true rfl) dX17_holds_20 (fun r13 ν12 hw => ?_)
    obtain ⟨b15, e16, hw⟩ := hw
    rw [e16]
    obtain ⟨f17, hw⟩ := hw
    refine xcs_X17_2 25 f17 h dX17_holds_25 ?_
    refine g_aload_1 28 h.1 dX17_holds_28 ?_
    refine x_callTC 29 h (hV.2 _ _ _ _ _ hw) (by omega) q1392 (Nat.le_of_ble_eq_true rfl) dX17_holds_29 (fun r19 ν18 hw => ?_)
    refine g_aload_0 32 h.1 dX17_holds_32 ?_
    obtain ⟨f20, hw⟩ := hw
    refine xg_X17_18_17 33 f20 h dX17_holds_33 ?_
    refine g_icmp_eq 36 52 h.1 dX17_holds_36 (by decide) (fun c => ?_) (fun c => ?_)
    · have hw := hw.1 c
      refine g_iinc_2 52 (x2 + 1) (congrArg _ ic_1) h.1 rfl dX17_holds_52 ?_
      refine g_goto 55 2 h.1 dX17_holds_55 (by decide) ?_
      exact g_le (hX2 _ _ _ _ hw) ⟨rfl, rfl, rfl, trivial⟩
    · have hw := hw.2 c
      refine g_aload_0 39 h.1 dX17_holds_39 ?_
      obtain ⟨f21, hw⟩ := hw
      refine xg_X17_18_17 40 f21 h dX17_holds_40 ?_
      refine g_if_ne 43 50 h.1 dX17_holds_43 (by decide) (fun c => ?_) (fun c => ?_)
      · have hw := hw.1 c
        refine g_iconstv 50 _ ic_0 h.1 dX17_holds_50 ?_
        exact hR.1 51 _ _ _ _ _ _ hT rfl dX17_holds_51 ⟨_, rfl, hw⟩
      · have hw := hw.2 c
        refine g_iconstv 46 _ ic_1 h.1 dX17_holds_46 ?_
        refine g_goto 47 51 h.1 dX17_holds_47 (by decide) ?_
        exact hR.1 51 _ _ _ _ _ _ hT rfl dX17_holds_51 ⟨_, rfl, hw⟩
def xw_X17_holds (VA : Nat → Nat → XN → (Int64 → XN → Prop) → Prop) (TA : Nat → Nat → XN → (Int32 → XN → Prop) → Prop) (x0 : Nat) (x1 : Nat) (ν : XN) (Q : Int32 → XN → Prop) : Prop :=
  xw_X17_holds_2 VA TA x0 x1 (0 : Int32) ν Q
theorem xt_X17_holds {κ : Cx} {S : Adr} {A : Nat → Prop} {Z : State → Prop} {Q : Int32 → XN → Prop} {dV : Nat} {VA : Nat → Nat → XN → (Int64 → XN → Prop) → Prop} {TA : Nat → Nat → XN → (Int32 → XN → Prop) → Prop} (hV : HVT S A dV VA TA) (h : XCx κ cX17_holds RX17 S A (dV + 4) 0 0) (hT : (cxT κ).sig.returnType = some .boolean) (hN : (cxT κ).name = "holds") (hR : xRet κ S A 0 0 Z cX17_holds (pI Q)) {x0 : Nat} {x1 : Nat} {ν : XN} (hw : xw_X17_holds VA TA x0 x1 ν Q) : XG κ S A 0 0 Z 0 (ν, 0, 0) [some (.ref x0), some (.ref (S.2.1 x1)), none] [] := by
  unfold xw_X17_holds at hw
  refine g_iconstv 0 _ ic_0 h.1 dX17_holds_0 ?_
  refine g_istore_2 1 h.1 rfl dX17_holds_1 ?_
  exact g_le (xt_X17_holds_2 hV h hT hN hR hw) ⟨rfl, rfl, rfl, trivial⟩
theorem xm_X17_holds {l : Launch} {S : Adr} {A : Nat → Prop} {dV : Nat} {VA : Nat → Nat → XN → (Int64 → XN → Prop) → Prop} {TA : Nat → Nat → XN → (Int32 → XN → Prop) → Prop} (hV : HVT S A dV VA TA) (hD : FD xT S xcl A) {x0 : Nat} {x1 : Nat} {ν : XN} {Q : Int32 → XN → Prop} (hw : xw_X17_holds VA TA x0 x1 ν Q) : xMet l S A (dV + 4) 0 0 1 yX17_holds [.ref x0, .ref (S.2.1 x1)] ν (pI Q) :=
  x_met (plainFor_of_name (by decide)) hD ⟨⟨by decide, by decide, by show _ = some 1; decide +kernel⟩, by decide, q1386, q205⟩ (Nat.le_of_ble_eq_true rfl) (fun κ Z h hT hN hR => xt_X17_holds hV h hT hN hR hw)
def xw_X16_init (x0 : Nat) (ν : XN) (Q : XN → Prop) : Prop :=
  Q ν
theorem xt_X16_init {κ : Cx} {S : Adr} {A : Nat → Prop} {Z : State → Prop} {Q : XN → Prop} (h : XCx κ cX16_init RX16 S A 1 0 0) (hT : (cxT κ).sig.returnType = none) (hN : (cxT κ).name = "<init>") (hR : xRet κ S A 0 0 Z cX16_init (pV Q)) {x0 : Nat} {ν : XN} (hw : xw_X16_init x0 ν Q) : XG κ S A 0 0 Z 0 (ν, 0, 0) [some (.ref x0)] [] := by
  unfold xw_X16_init at hw
  refine g_aload_0 0 h.1 dX16_init_0 ?_
  refine x_objInit 1 h (by decide) q1218 (Nat.le_of_ble_eq_true rfl) dX16_init_1 ?_
  exact hR.2.2.1 4 _ _ _ _ hT dX16_init_4 ⟨rfl, hw⟩
theorem xm_X16_init {l : Launch} {S : Adr} {A : Nat → Prop} (hD : FD xT S xcl A) {x0 : Nat} {ν : XN} {Q : XN → Prop} (hw : xw_X16_init x0 ν Q) : ∃ (bb : ByteArray) (L : Nat), xWd yX16_init bb L none 0 ∧ Met l yX16_init (ws_ yX16_init bb L none) (rmX 1 0 0) (va_Pc [.ref x0] (xPre S A ν)) (xQ S A (pV Q)) 0 0 A :=
  ⟨cX16_init, 1, ⟨⟨by decide, by decide, by show _ = some 0; decide +kernel⟩, by decide, q1217, q204⟩, x_start (plainFor_of_name (by decide)) hD ⟨⟨by decide, by decide, by show _ = some 0; decide +kernel⟩, by decide, q1217, q204⟩ (Nat.le_of_ble_eq_true rfl) (fun κ Z h hT hN hR => xt_X16_init h hT hN hR hw)⟩
def xw_X18_holds (VA : Nat → Nat → XN → (Int64 → XN → Prop) → Prop) (TA : Nat → Nat → XN → (Int32 → XN → Prop) → Prop) (x0 : Nat) (x1 : Nat) (ν : XN) (Q : Int32 → XN → Prop) : Prop :=
  (rc ν.2 x0 = 19 ∧ (∃ b2, (rO ν.2 x0 0) = some b2 ∧ (TA b2 x1 ν (fun r5 ν4 => ((¬ r5 = 0 → Q (0 : Int32) ν4) ∧ (r5 = 0 → Q (1 : Int32) ν4))))))
theorem xt_X18_holds {κ : Cx} {S : Adr} {A : Nat → Prop} {Z : State → Prop} {Q : Int32 → XN → Prop} {dV : Nat} {VA : Nat → Nat → XN → (Int64 → XN → Prop) → Prop} {TA : Nat → Nat → XN → (Int32 → XN → Prop) → Prop} (hV : HVT S A dV VA TA) (h : XCx κ cX18_holds RX18 S A (dV + 1) 0 0) (hT : (cxT κ).sig.returnType = some .boolean) (hN : (cxT κ).name = "holds") (hR : xRet κ S A 0 0 Z cX18_holds (pI Q)) {x0 : Nat} {x1 : Nat} {ν : XN} (hw : xw_X18_holds VA TA x0 x1 ν Q) : XG κ S A 0 0 Z 0 (ν, 0, 0) [some (.ref x0), some (.ref (S.2.1 x1))] [] := by
  unfold xw_X18_holds at hw
  refine g_aload_0 0 h.1 dX18_holds_0 ?_
  obtain ⟨f1, hw⟩ := hw
  refine xg_X18_7_18 1 f1 h dX18_holds_1 ?_
  refine g_aload_1 4 h.1 dX18_holds_4 ?_
  obtain ⟨b2, e3, hw⟩ := hw
  rw [e3]
  refine x_callTC 5 h (hV.2 _ _ _ _ _ hw) (by omega) q1395 (Nat.le_of_ble_eq_true rfl) dX18_holds_5 (fun r5 ν4 hw => ?_)
  refine g_if_ne 8 15 h.1 dX18_holds_8 (by decide) (fun c => ?_) (fun c => ?_)
  · have hw := hw.1 c
    refine g_iconstv 15 _ ic_0 h.1 dX18_holds_15 ?_
    exact hR.1 16 _ _ _ _ _ _ hT rfl dX18_holds_16 ⟨_, rfl, hw⟩
  · have hw := hw.2 c
    refine g_iconstv 11 _ ic_1 h.1 dX18_holds_11 ?_
    refine g_goto 12 16 h.1 dX18_holds_12 (by decide) ?_
    exact hR.1 16 _ _ _ _ _ _ hT rfl dX18_holds_16 ⟨_, rfl, hw⟩
theorem xm_X18_holds {l : Launch} {S : Adr} {A : Nat → Prop} {dV : Nat} {VA : Nat → Nat → XN → (Int64 → XN → Prop) → Prop} {TA : Nat → Nat → XN → (Int32 → XN → Prop) → Prop} (hV : HVT S A dV VA TA) (hD : FD xT S xcl A) {x0 : Nat} {x1 : Nat} {ν : XN} {Q : Int32 → XN → Prop} (hw : xw_X18_holds VA TA x0 x1 ν Q) : xMet l S A (dV + 1) 0 0 1 yX18_holds [.ref x0, .ref (S.2.1 x1)] ν (pI Q) :=
  x_met (plainFor_of_name (by decide)) hD ⟨⟨by decide, by decide, by show _ = some 1; decide +kernel⟩, by decide, q1394, q206⟩ (Nat.le_of_ble_eq_true rfl) (fun κ Z h hT hN hR => xt_X18_holds hV h hT hN hR hw)
def xw_X18_init (x0 : Nat) (x1 : Nat) (ν : XN) (Q : XN → Prop) : Prop :=
  (xw_X16_init x0 ν (fun ν1 => (rk ν1.2 x0 = 19 ∧ (∀ ν2, ν2 = (ν1.1, tO ν1.2 x0 0 (some x1)) → Q ν2))))
theorem xt_X18_init {κ : Cx} {S : Adr} {A : Nat → Prop} {Z : State → Prop} {Q : XN → Prop} (h : XCx κ cX18_init RX18 S A 2 0 0) (hT : (cxT κ).sig.returnType = none) (hN : (cxT κ).name = "<init>") (hR : xRet κ S A 0 0 Z cX18_init (pV Q)) {x0 : Nat} {x1 : Nat} {ν : XN} (hw : xw_X18_init x0 x1 ν Q) : XG κ S A 0 0 Z 0 (ν, 0, 0) [some (.ref x0), some (.ref x1)] [] := by
  unfold xw_X18_init at hw
  refine g_aload_0 0 h.1 dX18_init_0 ?_
  refine xcIN_V_0 1 h (xm_X16_init h.2.2.1 hw) (by decide) (Nat.le_of_eq (Nat.zero_add _)) (Nat.le_of_eq (Nat.zero_add _)) rfl q1216 q1247 (Nat.le_of_ble_eq_true rfl) dX18_init_1 (fun ν1 hw => ?_)
  refine g_aload_0 4 h.1 dX18_init_4 ?_
  refine g_aload_1 5 h.1 dX18_init_5 ?_
  obtain ⟨f4, hw⟩ := hw
  refine xp_X18_7_18 6 (some x1) hN f4 h dX18_init_6 (fun ν2 e3 => ?_)
  have hw := hw ν2 e3
  exact hR.2.2.1 9 _ _ _ _ hT dX18_init_9 ⟨rfl, hw⟩
theorem xm_X18_init {l : Launch} {S : Adr} {A : Nat → Prop} (hD : FD xT S xcl A) {x0 : Nat} {x1 : Nat} {ν : XN} {Q : XN → Prop} (hw : xw_X18_init x0 x1 ν Q) : ∃ (bb : ByteArray) (L : Nat), xWd yX18_init bb L none 1 ∧ Met l yX18_init (ws_ yX18_init bb L none) (rmX 2 0 0) (va_Pc [.ref x0, .ref x1] (xPre S A ν)) (xQ S A (pV Q)) 0 0 A :=
  ⟨cX18_init, 2, ⟨⟨by decide, by decide, by show _ = some 1; decide +kernel⟩, by decide, q1246, q206⟩, x_start (plainFor_of_name (by decide)) hD ⟨⟨by decide, by decide, by show _ = some 1; decide +kernel⟩, by decide, q1246, q206⟩ (Nat.le_of_ble_eq_true rfl) (fun κ Z h hT hN hR => xt_X18_init h hT hN hR hw)⟩
def xw_X19_holds (x0 : Nat) (x1 : Nat) (ν : XN) (Q : Int32 → XN → Prop) : Prop :=
  Q (1 : Int32) ν
theorem xt_X19_holds {κ : Cx} {S : Adr} {A : Nat → Prop} {Z : State → Prop} {Q : Int32 → XN → Prop} (h : XCx κ cX19_holds RX19 S A 1 0 0) (hT : (cxT κ).sig.returnType = some .boolean) (hN : (cxT κ).name = "holds") (hR : xRet κ S A 0 0 Z cX19_holds (pI Q)) {x0 : Nat} {x1 : Nat} {ν : XN} (hw : xw_X19_holds x0 x1 ν Q) : XG κ S A 0 0 Z 0 (ν, 0, 0) [some (.ref x0), some (.ref (S.2.1 x1))] [] := by
  unfold xw_X19_holds at hw
  refine g_iconstv 0 _ ic_1 h.1 dX19_holds_0 ?_
  exact hR.1 1 _ _ _ _ _ _ hT rfl dX19_holds_1 ⟨_, rfl, hw⟩
theorem xm_X19_holds {l : Launch} {S : Adr} {A : Nat → Prop} (hD : FD xT S xcl A) {x0 : Nat} {x1 : Nat} {ν : XN} {Q : Int32 → XN → Prop} (hw : xw_X19_holds x0 x1 ν Q) : xMet l S A 1 0 0 1 yX19_holds [.ref x0, .ref (S.2.1 x1)] ν (pI Q) :=
  x_met (plainFor_of_name (by decide)) hD ⟨⟨by decide, by decide, by show _ = some 1; decide +kernel⟩, by decide, q1383, q207⟩ (Nat.le_of_ble_eq_true rfl) (fun κ Z h hT hN hR => xt_X19_holds h hT hN hR hw)
def xw_X19_init (x0 : Nat) (ν : XN) (Q : XN → Prop) : Prop :=
  (xw_X16_init x0 ν (fun ν1 => Q ν1))
theorem xt_X19_init {κ : Cx} {S : Adr} {A : Nat → Prop} {Z : State → Prop} {Q : XN → Prop} (h : XCx κ cX19_init RX19 S A 2 0 0) (hT : (cxT κ).sig.returnType = none) (hN : (cxT κ).name = "<init>") (hR : xRet κ S A 0 0 Z cX19_init (pV Q)) {x0 : Nat} {ν : XN} (hw : xw_X19_init x0 ν Q) : XG κ S A 0 0 Z 0 (ν, 0, 0) [some (.ref x0)] [] := by
  unfold xw_X19_init at hw
  refine g_aload_0 0 h.1 dX19_init_0 ?_
  refine xcIN_V_0 1 h (xm_X16_init h.2.2.1 hw) (by decide) (Nat.le_of_eq (Nat.zero_add _)) (Nat.le_of_eq (Nat.zero_add _)) rfl q1216 q1258 (Nat.le_of_ble_eq_true rfl) dX19_init_1 (fun ν1 hw => ?_)
  exact hR.2.2.1 4 _ _ _ _ hT dX19_init_4 ⟨rfl, hw⟩
theorem xm_X19_init {l : Launch} {S : Adr} {A : Nat → Prop} (hD : FD xT S xcl A) {x0 : Nat} {ν : XN} {Q : XN → Prop} (hw : xw_X19_init x0 ν Q) : ∃ (bb : ByteArray) (L : Nat), xWd yX19_init bb L none 0 ∧ Met l yX19_init (ws_ yX19_init bb L none) (rmX 2 0 0) (va_Pc [.ref x0] (xPre S A ν)) (xQ S A (pV Q)) 0 0 A :=
  ⟨cX19_init, 1, ⟨⟨by decide, by decide, by show _ = some 0; decide +kernel⟩, by decide, q1257, q207⟩, x_start (plainFor_of_name (by decide)) hD ⟨⟨by decide, by decide, by show _ = some 0; decide +kernel⟩, by decide, q1257, q207⟩ (Nat.le_of_ble_eq_true rfl) (fun κ Z h hT hN hR => xt_X19_init h hT hN hR hw)⟩
def xw_X20_holds (VA : Nat → Nat → XN → (Int64 → XN → Prop) → Prop) (TA : Nat → Nat → XN → (Int32 → XN → Prop) → Prop) (x0 : Nat) (x1 : Nat) (ν : XN) (Q : Int32 → XN → Prop) : Prop :=
  (rc ν.2 x0 = 21 ∧ (∃ b2, (rO ν.2 x0 0) = some b2 ∧ (VA b2 x1 ν (fun r5 ν4 => (rc ν4.2 x0 = 21 ∧ (∃ b7, (rO ν4.2 x0 1) = some b7 ∧ (VA b7 x1 ν4 (fun r10 ν9 => (rc ν9.2 x0 = 21 ∧ ((¬ (rI ν9.2 x0 2) = (60 : Int32) → (rc ν9.2 x0 = 21 ∧ ((¬ (rI ν9.2 x0 2) = (62 : Int32) → ((¬ (lg_cmp r5 r10) = 0 → Q (0 : Int32) ν9) ∧ ((lg_cmp r5 r10) = 0 → Q (1 : Int32) ν9))) ∧ ((rI ν9.2 x0 2) = (62 : Int32) → (((lg_cmp r5 r10) ≤ 0 → Q (0 : Int32) ν9) ∧ (¬ (lg_cmp r5 r10) ≤ 0 → Q (1 : Int32) ν9)))))) ∧ ((rI ν9.2 x0 2) = (60 : Int32) → ((0 ≤ (lg_cmp r5 r10) → Q (0 : Int32) ν9) ∧ (¬ 0 ≤ (lg_cmp r5 r10) → Q (1 : Int32) ν9)))))))))))))
theorem xt_X20_holds {κ : Cx} {S : Adr} {A : Nat → Prop} {Z : State → Prop} {Q : Int32 → XN → Prop} {dV : Nat} {VA : Nat → Nat → XN → (Int64 → XN → Prop) → Prop} {TA : Nat → Nat → XN → (Int32 → XN → Prop) → Prop} (hV : HVT S A dV VA TA) (h : XCx κ cX20_holds RX20 S A (dV + 1) 0 0) (hT : (cxT κ).sig.returnType = some .boolean) (hN : (cxT κ).name = "holds") (hR : xRet κ S A 0 0 Z cX20_holds (pI Q)) {x0 : Nat} {x1 : Nat} {ν : XN} (hw : xw_X20_holds VA TA x0 x1 ν Q) : XG κ S A 0 0 Z 0 (ν, 0, 0) [some (.ref x0), some (.ref (S.2.1 x1)), none, none, none, none] [] := by
  unfold xw_X20_holds at hw
  refine g_aload_0 0 h.1 dX20_holds_0 ?_
  obtain ⟨f1, hw⟩ := hw
  refine xg_X20_7_20 1 f1 h dX20_holds_1 ?_
  refine g_aload_1 4 h.1 dX20_holds_4 ?_
  obtain ⟨b2, e3, hw⟩ := hw
  rw [e3]
  refine x_callVC 5 h (hV.1 _ _ _ _ _ hw) (by omega) q1398 (Nat.le_of_ble_eq_true rfl) dX20_holds_5 (fun r5 ν4 hw => ?_)
  refine g_lstore_2 8 h.1 rfl dX20_holds_8 ?_
  refine g_aload_0 9 h.1 dX20_holds_9 ?_
  obtain ⟨f6, hw⟩ := hw
  refine xg_X20_17_20 10 f6 h dX20_holds_10 ?_
  refine g_aload_1 13 h.1 dX20_holds_13 ?_
  obtain ⟨b7, e8, hw⟩ := hw
  rw [e8]
  refine x_callVC 14 h (hV.1 _ _ _ _ _ hw) (by omega) q1398 (Nat.le_of_ble_eq_true rfl) dX20_holds_14 (fun r10 ν9 hw => ?_)
  refine g_lstore_4 17 h.1 rfl dX20_holds_17 ?_
  refine g_aload_0 19 h.1 dX20_holds_19 ?_
  obtain ⟨f11, hw⟩ := hw
  refine xg_X20_13_20 20 f11 h dX20_holds_20 ?_
  refine g_bipush 23 _ bp_60 h.1 dX20_holds_23 ?_
  refine g_icmp_ne 25 43 h.1 dX20_holds_25 (by decide) (fun c => ?_) (fun c => ?_)
  · have hw := hw.1 c
    refine g_aload_0 43 h.1 dX20_holds_43 ?_
    obtain ⟨f12, hw⟩ := hw
    refine xg_X20_13_20 44 f12 h dX20_holds_44 ?_
    refine g_bipush 47 _ bp_62 h.1 dX20_holds_47 ?_
    refine g_icmp_ne 49 67 h.1 dX20_holds_49 (by decide) (fun c => ?_) (fun c => ?_)
    · have hw := hw.1 c
      refine g_lload_2 67 h.1 dX20_holds_67 ?_
      refine g_lload_4 68 h.1 dX20_holds_68 ?_
      refine g_lcmp 70 h.1 dX20_holds_70 ?_
      refine g_if_ne 71 78 h.1 dX20_holds_71 (by decide) (fun c => ?_) (fun c => ?_)
      · have hw := hw.1 c
        refine g_iconstv 78 _ ic_0 h.1 dX20_holds_78 ?_
        exact hR.1 79 _ _ _ _ _ _ hT rfl dX20_holds_79 ⟨_, rfl, hw⟩
      · have hw := hw.2 c
        refine g_iconstv 74 _ ic_1 h.1 dX20_holds_74 ?_
        refine g_goto 75 79 h.1 dX20_holds_75 (by decide) ?_
        exact hR.1 79 _ _ _ _ _ _ hT rfl dX20_holds_79 ⟨_, rfl, hw⟩
    · have hw := hw.2 c
      refine g_lload_2 52 h.1 dX20_holds_52 ?_
      refine g_lload_4 53 h.1 dX20_holds_53 ?_
      refine g_lcmp 55 h.1 dX20_holds_55 ?_
      refine g_if_le 56 63 h.1 dX20_holds_56 (by decide) (fun c => ?_) (fun c => ?_)
      · have hw := hw.1 c
        refine g_iconstv 63 _ ic_0 h.1 dX20_holds_63 ?_
        refine g_goto 64 79 h.1 dX20_holds_64 (by decide) ?_
        exact hR.1 79 _ _ _ _ _ _ hT rfl dX20_holds_79 ⟨_, rfl, hw⟩
      · have hw := hw.2 c
        refine g_iconstv 59 _ ic_1 h.1 dX20_holds_59 ?_
        refine g_goto 60 79 h.1 dX20_holds_60 (by decide) ?_
        exact hR.1 79 _ _ _ _ _ _ hT rfl dX20_holds_79 ⟨_, rfl, hw⟩
  · have hw := hw.2 c
    refine g_lload_2 28 h.1 dX20_holds_28 ?_
    refine g_lload_4 29 h.1 dX20_holds_29 ?_
    refine g_lcmp 31 h.1 dX20_holds_31 ?_
    refine g_if_ge 32 39 h.1 dX20_holds_32 (by decide) (fun c => ?_) (fun c => ?_)
    · have hw := hw.1 c
      refine g_iconstv 39 _ ic_0 h.1 dX20_holds_39 ?_
      refine g_goto 40 79 h.1 dX20_holds_40 (by decide) ?_
      exact hR.1 79 _ _ _ _ _ _ hT rfl dX20_holds_79 ⟨_, rfl, hw⟩
    · have hw := hw.2 c
      refine g_iconstv 35 _ ic_1 h.1 dX20_holds_35 ?_
      refine g_goto 36 79 h.1 dX20_holds_36 (by decide) ?_
      exact hR.1 79 _ _ _ _ _ _ hT rfl dX20_holds_79 ⟨_, rfl, hw⟩
theorem xm_X20_holds {l : Launch} {S : Adr} {A : Nat → Prop} {dV : Nat} {VA : Nat → Nat → XN → (Int64 → XN → Prop) → Prop} {TA : Nat → Nat → XN → (Int32 → XN → Prop) → Prop} (hV : HVT S A dV VA TA) (hD : FD xT S xcl A) {x0 : Nat} {x1 : Nat} {ν : XN} {Q : Int32 → XN → Prop} (hw : xw_X20_holds VA TA x0 x1 ν Q) : xMet l S A (dV + 1) 0 0 1 yX20_holds [.ref x0, .ref (S.2.1 x1)] ν (pI Q) :=
  x_met (plainFor_of_name (by decide)) hD ⟨⟨by decide, by decide, by show _ = some 1; decide +kernel⟩, by decide, q1397, q208⟩ (Nat.le_of_ble_eq_true rfl) (fun κ Z h hT hN hR => xt_X20_holds hV h hT hN hR hw)
def xw_X20_init (x0 : Nat) (x1 : Nat) (x2 : Int32) (x3 : Nat) (ν : XN) (Q : XN → Prop) : Prop :=
  (xw_X16_init x0 ν (fun ν1 => (rk ν1.2 x0 = 21 ∧ (∀ ν2, ν2 = (ν1.1, tO ν1.2 x0 0 (some x1)) → (rk ν2.2 x0 = 21 ∧ (∀ ν5, ν5 = (ν2.1, tI ν2.2 x0 2 x2) → (rk ν5.2 x0 = 21 ∧ (∀ ν8, ν8 = (ν5.1, tO ν5.2 x0 1 (some x3)) → Q ν8))))))))
theorem xt_X20_init {κ : Cx} {S : Adr} {A : Nat → Prop} {Z : State → Prop} {Q : XN → Prop} (h : XCx κ cX20_init RX20 S A 2 0 0) (hT : (cxT κ).sig.returnType = none) (hN : (cxT κ).name = "<init>") (hR : xRet κ S A 0 0 Z cX20_init (pV Q)) {x0 : Nat} {x1 : Nat} {x2 : Int32} {x3 : Nat} {ν : XN} (hw : xw_X20_init x0 x1 x2 x3 ν Q) : XG κ S A 0 0 Z 0 (ν, 0, 0) [some (.ref x0), some (.ref x1), some (.int x2), some (.ref x3)] [] := by
  unfold xw_X20_init at hw
  refine g_aload_0 0 h.1 dX20_init_0 ?_
  refine xcIN_V_0 1 h (xm_X16_init h.2.2.1 hw) (by decide) (Nat.le_of_eq (Nat.zero_add _)) (Nat.le_of_eq (Nat.zero_add _)) rfl q1216 q1265 (Nat.le_of_ble_eq_true rfl) dX20_init_1 (fun ν1 hw => ?_)
  refine g_aload_0 4 h.1 dX20_init_4 ?_
  refine g_aload_1 5 h.1 dX20_init_5 ?_
  obtain ⟨f4, hw⟩ := hw
  refine xp_X20_7_20 6 (some x1) hN f4 h dX20_init_6 (fun ν2 e3 => ?_)
  have hw := hw ν2 e3
  refine g_aload_0 9 h.1 dX20_init_9 ?_
  refine g_iload_2 10 h.1 dX20_init_10 ?_
  obtain ⟨f7, hw⟩ := hw
  refine xp_X20_13_20 11 hN f7 h dX20_init_11 (fun ν5 e6 => ?_)
  have hw := hw ν5 e6
  refine g_aload_0 14 h.1 dX20_init_14 ?_
  refine g_aload_3 15 h.1 dX20_init_15 ?_
  obtain ⟨f10, hw⟩ := hw
  refine xp_X20_17_20 16 (some x3) hN f10 h dX20_init_16 (fun ν8 e9 => ?_)
  have hw := hw ν8 e9
  exact hR.2.2.1 19 _ _ _ _ hT dX20_init_19 ⟨rfl, hw⟩
theorem xm_X20_init {l : Launch} {S : Adr} {A : Nat → Prop} (hD : FD xT S xcl A) {x0 : Nat} {x1 : Nat} {x2 : Int32} {x3 : Nat} {ν : XN} {Q : XN → Prop} (hw : xw_X20_init x0 x1 x2 x3 ν Q) : ∃ (bb : ByteArray) (L : Nat), xWd yX20_init bb L none 3 ∧ Met l yX20_init (ws_ yX20_init bb L none) (rmX 2 0 0) (va_Pc [.ref x0, .ref x1, .int x2, .ref x3] (xPre S A ν)) (xQ S A (pV Q)) 0 0 A :=
  ⟨cX20_init, 4, ⟨⟨by decide, by decide, by show _ = some 3; decide +kernel⟩, by decide, q1264, q208⟩, x_start (plainFor_of_name (by decide)) hD ⟨⟨by decide, by decide, by show _ = some 3; decide +kernel⟩, by decide, q1264, q208⟩ (Nat.le_of_ble_eq_true rfl) (fun κ Z h hT hN hR => xt_X20_init h hT hN hR hw)⟩
def xw_X21_answer_15 (x0 : Nat) (ν : XN) (Q : Int64 → XN → Prop) : Prop :=
  (rc ν.2 x0 = 22 ∧ Q (rL ν.2 x0 3) ν)
theorem xt_X21_answer_15 {κ : Cx} {S : Adr} {A : Nat → Prop} {Z : State → Prop} {Q : Int64 → XN → Prop} (h : XCx κ cX21_answer RX21 S A 1 0 0) (hT : (cxT κ).sig.returnType = some .long) (hN : (cxT κ).name = "answer") (hR : xRet κ S A 0 0 Z cX21_answer (pJ Q)) {x0 : Nat} {ν : XN} (hw : xw_X21_answer_15 x0 ν Q) : XG κ S A 0 0 Z 15 (ν, 0, 0) [some (.ref x0)] [] := by
  unfold xw_X21_answer_15 at hw
  refine g_aload_0 15 h.1 dX21_answer_15 ?_
  obtain ⟨f3, hw⟩ := hw
  refine xg_X21_11_21 16 f3 h dX21_answer_16 ?_
  refine g_goto 19 23 h.1 dX21_answer_19 (by decide) ?_
  exact hR.2.1 23 _ _ _ _ _ hT dX21_answer_23 ⟨_, rfl, hw⟩
def xw_X21_answer (x0 : Nat) (ν : XN) (Q : Int64 → XN → Prop) : Prop :=
  (rc ν.2 x0 = 22 ∧ ((¬ (rI ν.2 x0 4) = 0 → xw_X21_answer_15 x0 ν Q) ∧ ((rI ν.2 x0 4) = 0 → (rc ν.2 x0 = 22 ∧ (((2 : Int32) ≤ (rI ν.2 x0 0) → Q (0 : Int64) ν) ∧ (¬ (2 : Int32) ≤ (rI ν.2 x0 0) → xw_X21_answer_15 x0 ν Q))))))
theorem xt_X21_answer {κ : Cx} {S : Adr} {A : Nat → Prop} {Z : State → Prop} {Q : Int64 → XN → Prop} (h : XCx κ cX21_answer RX21 S A 1 0 0) (hT : (cxT κ).sig.returnType = some .long) (hN : (cxT κ).name = "answer") (hR : xRet κ S A 0 0 Z cX21_answer (pJ Q)) {x0 : Nat} {ν : XN} (hw : xw_X21_answer x0 ν Q) : XG κ S A 0 0 Z 0 (ν, 0, 0) [some (.ref x0)] [] := by
  unfold xw_X21_answer at hw
  refine g_aload_0 0 h.1 dX21_answer_0 ?_
  obtain ⟨f1, hw⟩ := hw
  refine xg_X21_41_21 1 f1 h dX21_answer_1 ?_
  refine g_if_ne 4 15 h.1 dX21_answer_4 (by decide) (fun c => ?_) (fun c => ?_)
  · have hw := hw.1 c
    exact g_le (xt_X21_answer_15 h hT hN hR hw) ⟨rfl, trivial⟩
  · have hw := hw.2 c
    refine g_aload_0 7 h.1 dX21_answer_7 ?_
    obtain ⟨f2, hw⟩ := hw
    refine xg_X21_17_21 8 f2 h dX21_answer_8 ?_
    refine g_iconstv 11 _ ic_2 h.1 dX21_answer_11 ?_
    refine g_icmp_ge 12 22 h.1 dX21_answer_12 (by decide) (fun c => ?_) (fun c => ?_)
    · have hw := hw.1 c
      refine g_lconst 22 _ lc_0 h.1 dX21_answer_22 ?_
      exact hR.2.1 23 _ _ _ _ _ hT dX21_answer_23 ⟨_, rfl, hw⟩
    · have hw := hw.2 c
      exact g_le (xt_X21_answer_15 h hT hN hR hw) ⟨rfl, trivial⟩
theorem xm_X21_answer {l : Launch} {S : Adr} {A : Nat → Prop} (hD : FD xT S xcl A) {x0 : Nat} {ν : XN} {Q : Int64 → XN → Prop} (hw : xw_X21_answer x0 ν Q) : xMet l S A 1 0 0 0 yX21_answer [.ref x0] ν (pJ Q) :=
  x_met (plainFor_of_name (by decide)) hD ⟨⟨by decide, by decide, by show _ = some 0; decide +kernel⟩, by decide, q1720, q210⟩ (Nat.le_of_ble_eq_true rfl) (fun κ Z h hT hN hR => xt_X21_answer h hT hN hR hw)
def xw_X21_init (x0 : Nat) (x1 : Int32) (x2 : (Option Nat)) (x3 : (Option Nat)) (ν : XN) (Q : XN → Prop) : Prop :=
  (rk ν.2 x0 = 22 ∧ (∀ ν1, ν1 = (ν.1, tL ν.2 x0 3 (-1 : Int64)) → (rk ν1.2 x0 = 22 ∧ (∀ ν4, ν4 = (ν1.1, tI ν1.2 x0 0 x1) → (rk ν4.2 x0 = 22 ∧ (∀ ν7, ν7 = (ν4.1, tO ν4.2 x0 1 x2) → (rk ν7.2 x0 = 22 ∧ (∀ ν10, ν10 = (ν7.1, tO ν7.2 x0 2 x3) → Q ν10))))))))
theorem xt_X21_init {κ : Cx} {S : Adr} {A : Nat → Prop} {Z : State → Prop} {Q : XN → Prop} (h : XCx κ cX21_init RX21 S A 1 0 0) (hT : (cxT κ).sig.returnType = none) (hN : (cxT κ).name = "<init>") (hR : xRet κ S A 0 0 Z cX21_init (pV Q)) {x0 : Nat} {x1 : Int32} {x2 : (Option Nat)} {x3 : (Option Nat)} {ν : XN} (hw : xw_X21_init x0 x1 x2 x3 ν Q) : XG κ S A 0 0 Z 0 (ν, 0, 0) [some (.ref x0), some (.int x1), some (va_rf x2), some (va_rf x3)] [] := by
  unfold xw_X21_init at hw
  refine g_aload_0 0 h.1 dX21_init_0 ?_
  refine x_objInit 1 h (by decide) q1691 (Nat.le_of_ble_eq_true rfl) dX21_init_1 ?_
  refine g_aload_0 4 h.1 dX21_init_4 ?_
  refine g_ldc2 5 h.1 q1692 dX21_init_5 ?_
  obtain ⟨f3, hw⟩ := hw
  refine xp_X21_11_21 8 f3 h dX21_init_8 (fun ν1 e2 => ?_)
  have hw := hw ν1 e2
  refine g_aload_0 11 h.1 dX21_init_11 ?_
  refine g_iload_1 12 h.1 dX21_init_12 ?_
  obtain ⟨f6, hw⟩ := hw
  refine xp_X21_17_21 13 hN f6 h dX21_init_13 (fun ν4 e5 => ?_)
  have hw := hw ν4 e5
  refine g_aload_0 16 h.1 dX21_init_16 ?_
  refine g_oload_2 17 h.1 dX21_init_17 ?_
  obtain ⟨f9, hw⟩ := hw
  refine xp_X21_21_21 18 x2 hN f9 h dX21_init_18 (fun ν7 e8 => ?_)
  have hw := hw ν7 e8
  refine g_aload_0 21 h.1 dX21_init_21 ?_
  refine g_oload_3 22 h.1 dX21_init_22 ?_
  obtain ⟨f12, hw⟩ := hw
  refine xp_X21_25_21 23 x3 hN f12 h dX21_init_23 (fun ν10 e11 => ?_)
  have hw := hw ν10 e11
  exact hR.2.2.1 26 _ _ _ _ hT dX21_init_26 ⟨rfl, hw⟩
theorem xm_X21_init {l : Launch} {S : Adr} {A : Nat → Prop} (hD : FD xT S xcl A) {x0 : Nat} {x1 : Int32} {x2 : (Option Nat)} {x3 : (Option Nat)} {ν : XN} {Q : XN → Prop} (hw : xw_X21_init x0 x1 x2 x3 ν Q) : ∃ (bb : ByteArray) (L : Nat), xWd yX21_init bb L none 3 ∧ Met l yX21_init (ws_ yX21_init bb L none) (rmX 1 0 0) (va_Pc [.ref x0, .int x1, va_rf x2, va_rf x3] (xPre S A ν)) (xQ S A (pV Q)) 0 0 A :=
  by cases x2 <;> cases x3 <;> exact ⟨cX21_init, 4, ⟨⟨by decide, by decide, by show _ = some 3; decide +kernel⟩, by decide, q1690, q210⟩, x_start (plainFor_of_name (by decide)) hD ⟨⟨by decide, by decide, by show _ = some 3; decide +kernel⟩, by decide, q1690, q210⟩ (Nat.le_of_ble_eq_true rfl) (fun κ Z h hT hN hR => xt_X21_init h hT hN hR hw)⟩
def xw_X21_meets_65 (VA : Nat → Nat → XN → (Int64 → XN → Prop) → Prop) (TA : Nat → Nat → XN → (Int32 → XN → Prop) → Prop) (x0 : Nat) (y0 : Int64) (y1 : Nat) (ν : XN) (Q : XN → Prop) : Prop :=
  (rk ν.2 y1 = 22 ∧ (∀ ν35, ν35 = (ν.1, tL ν.2 y1 3 y0) → (rk ν35.2 x0 = 22 ∧ (∀ ν38, ν38 = (ν35.1, tI ν35.2 x0 4 (1 : Int32)) → Q ν38))))
theorem xt_X21_meets_65 {κ : Cx} {S : Adr} {A : Nat → Prop} {Z : State → Prop} {Q : XN → Prop} {dV : Nat} {VA : Nat → Nat → XN → (Int64 → XN → Prop) → Prop} {TA : Nat → Nat → XN → (Int32 → XN → Prop) → Prop} (hV : HVT S A dV VA TA) (h : XCx κ cX21_meets RX21 S A (dV + 2) 0 0) (hT : (cxT κ).sig.returnType = none) (hN : (cxT κ).name = "meets") (hR : xRet κ S A 0 0 Z cX21_meets (pV Q)) {x0 : Nat} {y0 : Int64} {y1 : Nat} {ν : XN} (hw : xw_X21_meets_65 VA TA x0 y0 y1 ν Q) : XG κ S A 0 0 Z 65 (ν, 0, 0) [some (.ref x0), none, none, none, none] [.long y0, .ref y1] := by
  unfold xw_X21_meets_65 at hw
  obtain ⟨f37, hw⟩ := hw
  refine xp_X21_11_21 65 f37 h dX21_meets_65 (fun ν35 e36 => ?_)
  have hw := hw ν35 e36
  refine g_aload_0 68 h.1 dX21_meets_68 ?_
  refine g_iconstv 69 _ ic_1 h.1 dX21_meets_69 ?_
  obtain ⟨f40, hw⟩ := hw
  refine xp_X21_41_21 70 rfl rfl f40 h dX21_meets_70 (fun ν38 e39 => ?_)
  have hw := hw ν38 e39
  exact hR.2.2.1 73 _ _ _ _ hT dX21_meets_73 ⟨rfl, hw⟩
def xw_X21_meets_63 (VA : Nat → Nat → XN → (Int64 → XN → Prop) → Prop) (TA : Nat → Nat → XN → (Int32 → XN → Prop) → Prop) (x0 : Nat) (x1 : Int32) (y0 : Nat) (ν : XN) (Q : XN → Prop) : Prop :=
  xw_X21_meets_65 VA TA x0 (Int32.toInt64 x1) y0 ν Q
theorem xt_X21_meets_63 {κ : Cx} {S : Adr} {A : Nat → Prop} {Z : State → Prop} {Q : XN → Prop} {dV : Nat} {VA : Nat → Nat → XN → (Int64 → XN → Prop) → Prop} {TA : Nat → Nat → XN → (Int32 → XN → Prop) → Prop} (hV : HVT S A dV VA TA) (h : XCx κ cX21_meets RX21 S A (dV + 2) 0 0) (hT : (cxT κ).sig.returnType = none) (hN : (cxT κ).name = "meets") (hR : xRet κ S A 0 0 Z cX21_meets (pV Q)) {x0 : Nat} {x1 : Int32} {y0 : Nat} {ν : XN} (hw : xw_X21_meets_63 VA TA x0 x1 y0 ν Q) : XG κ S A 0 0 Z 63 (ν, 0, 0) [some (.ref x0), some (.int x1), none, none, none] [.ref y0] := by
  unfold xw_X21_meets_63 at hw
  refine g_iload_1 63 h.1 dX21_meets_63 ?_
  refine g_i2l 64 h.1 dX21_meets_64 ?_
  exact g_le (xt_X21_meets_65 hV h hT hN hR hw) ⟨rfl, trivial⟩
def xw_X21_meets_139 (VA : Nat → Nat → XN → (Int64 → XN → Prop) → Prop) (TA : Nat → Nat → XN → (Int32 → XN → Prop) → Prop) (x0 : Nat) (y0 : Int64) (y1 : Nat) (ν : XN) (Q : XN → Prop) : Prop :=
  (rk ν.2 y1 = 22 ∧ (∀ ν29, ν29 = (ν.1, tL ν.2 y1 3 y0) → (rk ν29.2 x0 = 22 ∧ (∀ ν32, ν32 = (ν29.1, tI ν29.2 x0 4 (1 : Int32)) → Q ν32))))
theorem xt_X21_meets_139 {κ : Cx} {S : Adr} {A : Nat → Prop} {Z : State → Prop} {Q : XN → Prop} {dV : Nat} {VA : Nat → Nat → XN → (Int64 → XN → Prop) → Prop} {TA : Nat → Nat → XN → (Int32 → XN → Prop) → Prop} (hV : HVT S A dV VA TA) (h : XCx κ cX21_meets RX21 S A (dV + 2) 0 0) (hT : (cxT κ).sig.returnType = none) (hN : (cxT κ).name = "meets") (hR : xRet κ S A 0 0 Z cX21_meets (pV Q)) {x0 : Nat} {y0 : Int64} {y1 : Nat} {ν : XN} (hw : xw_X21_meets_139 VA TA x0 y0 y1 ν Q) : XG κ S A 0 0 Z 139 (ν, 0, 0) [some (.ref x0), none, none, none, none] [.long y0, .ref y1] := by
  unfold xw_X21_meets_139 at hw
  obtain ⟨f31, hw⟩ := hw
  refine xp_X21_11_21 139 f31 h dX21_meets_139 (fun ν29 e30 => ?_)
  have hw := hw ν29 e30
  refine g_aload_0 142 h.1 dX21_meets_142 ?_
  refine g_iconstv 143 _ ic_1 h.1 dX21_meets_143 ?_
  obtain ⟨f34, hw⟩ := hw
  refine xp_X21_41_21 144 rfl rfl f34 h dX21_meets_144 (fun ν32 e33 => ?_)
  have hw := hw ν32 e33
  exact hR.2.2.1 147 _ _ _ _ hT dX21_meets_147 ⟨rfl, hw⟩
def xw_X21_meets (VA : Nat → Nat → XN → (Int64 → XN → Prop) → Prop) (TA : Nat → Nat → XN → (Int32 → XN → Prop) → Prop) (x0 : Nat) (x1 : Int32) (x2 : Nat) (ν : XN) (Q : XN → Prop) : Prop :=
  (rc ν.2 x0 = 22 ∧ (((3 : Int32) ≤ (rI ν.2 x0 0) → (rc ν.2 x0 = 22 ∧ (∃ b3, (rO ν.2 x0 2) = some b3 ∧ (VA b3 x2 ν (fun r6 ν5 => (rc ν5.2 x0 = 22 ∧ ((¬ (rI ν5.2 x0 4) = 0 → (rc ν5.2 x0 = 22 ∧ ((¬ (rI ν5.2 x0 0) = (3 : Int32) → (rc ν5.2 x0 = 22 ∧ ((¬ (rI ν5.2 x0 0) = (4 : Int32) → (rc ν5.2 x0 = 22 ∧ (xw_J12_min_2 (rL ν5.2 x0 3) r6 ν5 (fun r12 ν11 => xw_X21_meets_139 VA TA x0 r12 x0 ν11 Q)))) ∧ ((rI ν5.2 x0 0) = (4 : Int32) → (rc ν5.2 x0 = 22 ∧ (xw_J12_max_2 (rL ν5.2 x0 3) r6 ν5 (fun r15 ν14 => xw_X21_meets_139 VA TA x0 r15 x0 ν14 Q))))))) ∧ ((rI ν5.2 x0 0) = (3 : Int32) → (rc ν5.2 x0 = 22 ∧ xw_X21_meets_139 VA TA x0 ((rL ν5.2 x0 3) + r6) x0 ν5 Q))))) ∧ ((rI ν5.2 x0 4) = 0 → xw_X21_meets_139 VA TA x0 r6 x0 ν5 Q)))))))) ∧ (¬ (3 : Int32) ≤ (rI ν.2 x0 0) → (rc ν.2 x0 = 22 ∧ (∃ b18, (rO ν.2 x0 1) = some b18 ∧ (TA b18 x2 ν (fun r21 ν20 => ((¬ r21 = 0 → (rc ν20.2 x0 = 22 ∧ ((¬ (rI ν20.2 x0 0) = (2 : Int32) → (rc ν20.2 x0 = 22 ∧ ((¬ (rI ν20.2 x0 0) = 0 → xw_X21_meets_63 VA TA x0 x1 x0 ν20 Q) ∧ ((rI ν20.2 x0 0) = 0 → (rc ν20.2 x0 = 22 ∧ (((rI ν20.2 x0 4) = 0 → xw_X21_meets_63 VA TA x0 x1 x0 ν20 Q) ∧ (¬ (rI ν20.2 x0 4) = 0 → (rc ν20.2 x0 = 22 ∧ xw_X21_meets_65 VA TA x0 (rL ν20.2 x0 3) x0 ν20 Q)))))))) ∧ ((rI ν20.2 x0 0) = (2 : Int32) → (rc ν20.2 x0 = 22 ∧ (xw_J12_max_2 (0 : Int64) (rL ν20.2 x0 3) ν20 (fun r28 ν27 => xw_X21_meets_65 VA TA x0 (r28 + (1 : Int64)) x0 ν27 Q))))))) ∧ (r21 = 0 → Q ν20)))))))))
theorem xt_X21_meets {κ : Cx} {S : Adr} {A : Nat → Prop} {Z : State → Prop} {Q : XN → Prop} {dV : Nat} {VA : Nat → Nat → XN → (Int64 → XN → Prop) → Prop} {TA : Nat → Nat → XN → (Int32 → XN → Prop) → Prop} (hV : HVT S A dV VA TA) (h : XCx κ cX21_meets RX21 S A (dV + 2) 0 0) (hT : (cxT κ).sig.returnType = none) (hN : (cxT κ).name = "meets") (hR : xRet κ S A 0 0 Z cX21_meets (pV Q)) {x0 : Nat} {x1 : Int32} {x2 : Nat} {ν : XN} (hw : xw_X21_meets VA TA x0 x1 x2 ν Q) : XG κ S A 0 0 Z 0 (ν, 0, 0) [some (.ref x0), some (.int x1), some (.ref (S.2.1 x2)), none, none] [] := by
  unfold xw_X21_meets at hw
  refine g_aload_0 0 h.1 dX21_meets_0 ?_
  obtain ⟨f1, hw⟩ := hw
  refine xg_X21_17_21 1 f1 h dX21_meets_1 ?_
  refine g_iconstv 4 _ ic_3 h.1 dX21_meets_4 ?_
  refine g_icmp_ge 5 74 h.1 dX21_meets_5 (by decide) (fun c => ?_) (fun c => ?_)
  · have hw := hw.1 c
    refine g_aload_0 74 h.1 dX21_meets_74 ?_
    obtain ⟨f2, hw⟩ := hw
    refine xg_X21_25_21 75 f2 h dX21_meets_75 ?_
    refine g_aload_2 78 h.1 dX21_meets_78 ?_
    obtain ⟨b3, e4, hw⟩ := hw
    rw [e4]
    refine x_callVC 79 h (hV.1 _ _ _ _ _ hw) (by omega) q1715 (Nat.le_of_ble_eq_true rfl) dX21_meets_79 (fun r6 ν5 hw => ?_)
    refine g_lstore_3 82 h.1 rfl dX21_meets_82 ?_
    refine g_aload_0 83 h.1 dX21_meets_83 ?_
    refine g_aload_0 84 h.1 dX21_meets_84 ?_
    obtain ⟨f7, hw⟩ := hw
    refine xg_X21_41_21 85 f7 h dX21_meets_85 ?_
    refine g_if_ne 88 95 h.1 dX21_meets_88 (by decide) (fun c => ?_) (fun c => ?_)
    · have hw := hw.1 c
      refine g_aload_0 95 h.1 dX21_meets_95 ?_
      obtain ⟨f8, hw⟩ := hw
      refine xg_X21_17_21 96 f8 h dX21_meets_96 ?_
      refine g_iconstv 99 _ ic_3 h.1 dX21_meets_99 ?_
      refine g_icmp_ne 100 112 h.1 dX21_meets_100 (by decide) (fun c => ?_) (fun c => ?_)
      · have hw := hw.1 c
        refine g_aload_0 112 h.1 dX21_meets_112 ?_
        obtain ⟨f9, hw⟩ := hw
        refine xg_X21_17_21 113 f9 h dX21_meets_113 ?_
        refine g_iconstv 116 _ ic_4 h.1 dX21_meets_116 ?_
        refine g_icmp_ne 117 131 h.1 dX21_meets_117 (by decide) (fun c => ?_) (fun c => ?_)
        · have hw := hw.1 c
          refine g_aload_0 131 h.1 dX21_meets_131 ?_
          obtain ⟨f10, hw⟩ := hw
          refine xg_X21_11_21 132 f10 h dX21_meets_132 ?_
          refine g_lload_3 135 h.1 dX21_meets_135 ?_
          refine xcS_J_2 136 h (xm_J12_min_2 h.2.2.1 hw) (by omega) (Nat.le_of_eq (Nat.zero_add _)) (Nat.le_of_eq (Nat.zero_add _)) q1410 q1716 (Nat.le_of_ble_eq_true rfl) dX21_meets_136 (fun r12 ν11 hw => ?_)
          exact g_le (xt_X21_meets_139 hV h hT hN hR hw) ⟨rfl, trivial⟩
        · have hw := hw.2 c
          refine g_aload_0 120 h.1 dX21_meets_120 ?_
          obtain ⟨f13, hw⟩ := hw
          refine xg_X21_11_21 121 f13 h dX21_meets_121 ?_
          refine g_lload_3 124 h.1 dX21_meets_124 ?_
          refine xcS_J_2 125 h (xm_J12_max_2 h.2.2.1 hw) (by omega) (Nat.le_of_eq (Nat.zero_add _)) (Nat.le_of_eq (Nat.zero_add _)) q1413 q1714 (Nat.le_of_ble_eq_true rfl) dX21_meets_125 (fun r15 ν14 hw => ?_)
          refine g_goto 128 139 h.1 dX21_meets_128 (by decide) ?_
          exact g_le (xt_X21_meets_139 hV h hT hN hR hw) ⟨rfl, trivial⟩
      · have hw := hw.2 c
        refine g_aload_0 103 h.1 dX21_meets_103 ?_
        obtain ⟨f16, hw⟩ := hw
        refine xg_X21_11_21 104 f16 h dX21_meets_104 ?_
        refine g_lload_3 107 h.1 dX21_meets_107 ?_
        refine g_ladd 108 h.1 dX21_meets_108 ?_
        refine g_goto 109 139 h.1 dX21_meets_109 (by decide) ?_
        exact g_le (xt_X21_meets_139 hV h hT hN hR hw) ⟨rfl, trivial⟩
    · have hw := hw.2 c
      refine g_lload_3 91 h.1 dX21_meets_91 ?_
      refine g_goto 92 139 h.1 dX21_meets_92 (by decide) ?_
      exact g_le (xt_X21_meets_139 hV h hT hN hR hw) ⟨rfl, trivial⟩
  · have hw := hw.2 c
    refine g_aload_0 8 h.1 dX21_meets_8 ?_
    obtain ⟨f17, hw⟩ := hw
    refine xg_X21_21_21 9 f17 h dX21_meets_9 ?_
    refine g_aload_2 12 h.1 dX21_meets_12 ?_
    obtain ⟨b18, e19, hw⟩ := hw
    rw [e19]
    refine x_callTC 13 h (hV.2 _ _ _ _ _ hw) (by omega) q1713 (Nat.le_of_ble_eq_true rfl) dX21_meets_13 (fun r21 ν20 hw => ?_)
    refine g_if_ne 16 20 h.1 dX21_meets_16 (by decide) (fun c => ?_) (fun c => ?_)
    · have hw := hw.1 c
      refine g_aload_0 20 h.1 dX21_meets_20 ?_
      refine g_aload_0 21 h.1 dX21_meets_21 ?_
      obtain ⟨f22, hw⟩ := hw
      refine xg_X21_17_21 22 f22 h dX21_meets_22 ?_
      refine g_iconstv 25 _ ic_2 h.1 dX21_meets_25 ?_
      refine g_icmp_ne 26 42 h.1 dX21_meets_26 (by decide) (fun c => ?_) (fun c => ?_)
      · have hw := hw.1 c
        refine g_aload_0 42 h.1 dX21_meets_42 ?_
        obtain ⟨f23, hw⟩ := hw
        refine xg_X21_17_21 43 f23 h dX21_meets_43 ?_
        refine g_if_ne 46 63 h.1 dX21_meets_46 (by decide) (fun c => ?_) (fun c => ?_)
        · have hw := hw.1 c
          exact g_le (xt_X21_meets_63 hV h hT hN hR hw) ⟨rfl, rfl, trivial⟩
        · have hw := hw.2 c
          refine g_aload_0 49 h.1 dX21_meets_49 ?_
          obtain ⟨f24, hw⟩ := hw
          refine xg_X21_41_21 50 f24 h dX21_meets_50 ?_
          refine g_if_eq 53 63 h.1 dX21_meets_53 (by decide) (fun c => ?_) (fun c => ?_)
          · have hw := hw.1 c
            exact g_le (xt_X21_meets_63 hV h hT hN hR hw) ⟨rfl, rfl, trivial⟩
          · have hw := hw.2 c
            refine g_aload_0 56 h.1 dX21_meets_56 ?_
            obtain ⟨f25, hw⟩ := hw
            refine xg_X21_11_21 57 f25 h dX21_meets_57 ?_
            refine g_goto 60 65 h.1 dX21_meets_60 (by decide) ?_
            exact g_le (xt_X21_meets_65 hV h hT hN hR hw) ⟨rfl, trivial⟩
      · have hw := hw.2 c
        refine g_lconst 29 _ lc_0 h.1 dX21_meets_29 ?_
        refine g_aload_0 30 h.1 dX21_meets_30 ?_
        obtain ⟨f26, hw⟩ := hw
        refine xg_X21_11_21 31 f26 h dX21_meets_31 ?_
        refine xcS_J_2 34 h (xm_J12_max_2 h.2.2.1 hw) (by omega) (Nat.le_of_eq (Nat.zero_add _)) (Nat.le_of_eq (Nat.zero_add _)) q1413 q1714 (Nat.le_of_ble_eq_true rfl) dX21_meets_34 (fun r28 ν27 hw => ?_)
        refine g_lconst 37 _ lc_1 h.1 dX21_meets_37 ?_
        refine g_ladd 38 h.1 dX21_meets_38 ?_
        refine g_goto 39 65 h.1 dX21_meets_39 (by decide) ?_
        exact g_le (xt_X21_meets_65 hV h hT hN hR hw) ⟨rfl, trivial⟩
    · have hw := hw.2 c
      exact hR.2.2.1 19 _ _ _ _ hT dX21_meets_19 ⟨rfl, hw⟩
theorem xm_X21_meets {l : Launch} {S : Adr} {A : Nat → Prop} {dV : Nat} {VA : Nat → Nat → XN → (Int64 → XN → Prop) → Prop} {TA : Nat → Nat → XN → (Int32 → XN → Prop) → Prop} (hV : HVT S A dV VA TA) (hD : FD xT S xcl A) {x0 : Nat} {x1 : Int32} {x2 : Nat} {ν : XN} {Q : XN → Prop} (hw : xw_X21_meets VA TA x0 x1 x2 ν Q) : xMet l S A (dV + 2) 0 0 2 yX21_meets [.ref x0, .int x1, .ref (S.2.1 x2)] ν (pV Q) :=
  x_met (plainFor_of_name (by decide)) hD ⟨⟨by decide, by decide, by show _ = some 2; decide +kernel⟩, by decide, q1712, q210⟩ (Nat.le_of_ble_eq_true rfl) (fun κ Z h hT hN hR => xt_X21_meets hV h hT hN hR hw)
