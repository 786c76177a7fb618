/-! THE READER, walked (written by gen_xw.py) -/
theorem bp_31 : (Int8.ofInt 31).toInt32 = 31 := by decide
theorem sp_463 : (Int16.ofInt 463).toInt32 = 463 := by decide
theorem tabOut_0_4 {x : Int32} (h0 : ¬ x = 0) (h1 : ¬ x = 1) (h2 : ¬ x = 2) (h3 : ¬ x = 3) (h4 : ¬ x = 4) : x.toInt < 0 ∨ 4 < x.toInt := by
  have e0 : ¬ x.toInt = 0 := fun e => h0 (Int32.toInt_inj.mp (e.trans (by decide))); have e1 : ¬ x.toInt = 1 := fun e => h1 (Int32.toInt_inj.mp (e.trans (by decide))); have e2 : ¬ x.toInt = 2 := fun e => h2 (Int32.toInt_inj.mp (e.trans (by decide))); have e3 : ¬ x.toInt = 3 := fun e => h3 (Int32.toInt_inj.mp (e.trans (by decide))); have e4 : ¬ x.toInt = 4 := fun e => h4 (Int32.toInt_inj.mp (e.trans (by decide))); omega
theorem tabOut_4_10 {x : Int32} (h0 : ¬ x = 4) (h1 : ¬ x = 5) (h2 : ¬ x = 6) (h3 : ¬ x = 7) (h4 : ¬ x = 8) (h5 : ¬ x = 9) (h6 : ¬ x = 10) : x.toInt < 4 ∨ 10 < x.toInt := by
  have e0 : ¬ x.toInt = 4 := fun e => h0 (Int32.toInt_inj.mp (e.trans (by decide))); have e1 : ¬ x.toInt = 5 := fun e => h1 (Int32.toInt_inj.mp (e.trans (by decide))); have e2 : ¬ x.toInt = 6 := fun e => h2 (Int32.toInt_inj.mp (e.trans (by decide))); have e3 : ¬ x.toInt = 7 := fun e => h3 (Int32.toInt_inj.mp (e.trans (by decide))); have e4 : ¬ x.toInt = 8 := fun e => h4 (Int32.toInt_inj.mp (e.trans (by decide))); have e5 : ¬ x.toInt = 9 := fun e => h5 (Int32.toInt_inj.mp (e.trans (by decide))); have e6 : ¬ x.toInt = 10 := fun e => h6 (Int32.toInt_inj.mp (e.trans (by decide))); omega
section XMI
variable {κ : Cx} {S : Adr} {A : Nat → Prop} {mc ms : Nat} {Q : State → Prop} {cc : ByteArray} {n : Nat} {ν : XN} {k0 n0 : Nat} {lv : List (Option Value)} {st : List Value}
theorem xcs_X2_172 (pc : Nat) {a : Nat} (ha : rc ν.2 a = 9) (h : XCx κ cc RX2 S A n mc ms) (d : decode cc pc = .ok (.checkcast 172, 3)) (K : XG κ S A mc ms Q (pc + 3) (ν, k0, n0) lv (.ref a :: st)) : XG κ S A mc ms Q pc (ν, k0, n0) lv (.ref a :: st) := by
  exact x_castS pc 8 ha rfl h q948 d K
end XMI
def xw_J0_init (x0 : Nat) (ν : XN) (Q : XN → Prop) : Prop :=
  Q ν
theorem xt_J0_init {κ : Cx} {S : Adr} {A : Nat → Prop} {Z : State → Prop} {Q : XN → Prop} (h : XCx κ cJ0_init RJ0 S A 1 0 0) (hT : (cxT κ).sig.returnType = none) (hN : (cxT κ).name = "<init>") (hR : xRet κ S A 0 0 Z cJ0_init (pV Q)) {x0 : Nat} {ν : XN} (hw : xw_J0_init x0 ν Q) : XG κ S A 0 0 Z 0 (ν, 0, 0) [some (.ref x0)] [] := by
  unfold xw_J0_init at hw
  refine g_aload_0 0 h.1 dJ0_init_0 ?_
  refine x_objInit 1 h (by decide) q236 (Nat.le_of_ble_eq_true rfl) dJ0_init_1 ?_
  exact hR.2.2.1 4 _ _ _ _ hT dJ0_init_4 ⟨rfl, hw⟩
theorem xm_J0_init {l : Launch} {S : Adr} {A : Nat → Prop} (hD : FD xT S xcl A) {x0 : Nat} {ν : XN} {Q : XN → Prop} (hw : xw_J0_init x0 ν Q) : ∃ (bb : ByteArray) (L : Nat), xWd yJ0_init bb L none 0 ∧ Met l yJ0_init (ws_ yJ0_init bb L none) (rmX 1 0 0) (va_Pc [.ref x0] (xPre S A ν)) (xQ S A (pV Q)) 0 0 A :=
  ⟨cJ0_init, 1, ⟨⟨by decide, by decide, by show _ = some 0; decide +kernel⟩, by decide, q235, q173⟩, x_start (by decide +kernel) hD ⟨⟨by decide, by decide, by show _ = some 0; decide +kernel⟩, by decide, q235, q173⟩ (Nat.le_of_ble_eq_true rfl) (fun κ Z h hT hN hR => xt_J0_init h hT hN hR hw)⟩
def xw_J1_init (x0 : Nat) (ν : XN) (Q : XN → Prop) : Prop :=
  (xw_J0_init x0 ν (fun ν1 => (rk ν1.2 x0 = 7 ∧ (∀ ν2, ν2 = (ν1.1, tI ν1.2 x0 0 (0 : Int32)) → Q ν2))))
theorem xt_J1_init {κ : Cx} {S : Adr} {A : Nat → Prop} {Z : State → Prop} {Q : XN → Prop} (h : XCx κ cJ1_init RJ1 S A 2 0 0) (hT : (cxT κ).sig.returnType = none) (hN : (cxT κ).name = "<init>") (hR : xRet κ S A 0 0 Z cJ1_init (pV Q)) {x0 : Nat} {ν : XN} (hw : xw_J1_init x0 ν Q) : XG κ S A 0 0 Z 0 (ν, 0, 0) [some (.ref x0)] [] := by
  unfold xw_J1_init at hw
  refine g_aload_0 0 h.1 dJ1_init_0 ?_
  refine xcI_V_0 1 h (xm_J0_init h.2.2.1 hw) (by decide) (Nat.le_of_eq (Nat.zero_add _)) (Nat.le_of_eq (Nat.zero_add _)) rfl q234 q233 (Nat.le_of_ble_eq_true rfl) dJ1_init_1 (fun ν1 hw => ?_)
  refine g_aload_0 4 h.1 dJ1_init_4 ?_
  refine g_iconstv 5 _ ic_0 h.1 dJ1_init_5 ?_
  obtain ⟨f4, hw⟩ := hw
  refine xp_J1_7_6 6 f4 h dJ1_init_6 (fun ν2 e3 => ?_)
  have hw := hw ν2 e3
  exact hR.2.2.1 9 _ _ _ _ hT dJ1_init_9 ⟨rfl, hw⟩
theorem xm_J1_init {l : Launch} {S : Adr} {A : Nat → Prop} (hD : FD xT S xcl A) {x0 : Nat} {ν : XN} {Q : XN → Prop} (hw : xw_J1_init x0 ν Q) : ∃ (bb : ByteArray) (L : Nat), xWd yJ1_init bb L none 0 ∧ Met l yJ1_init (ws_ yJ1_init bb L none) (rmX 2 0 0) (va_Pc [.ref x0] (xPre S A ν)) (xQ S A (pV Q)) 0 0 A :=
  ⟨cJ1_init, 1, ⟨⟨by decide, by decide, by show _ = some 0; decide +kernel⟩, by decide, q232, q174⟩, x_start (by decide +kernel) hD ⟨⟨by decide, by decide, by show _ = some 0; decide +kernel⟩, by decide, q232, q174⟩ (Nat.le_of_ble_eq_true rfl) (fun κ Z h hT hN hR => xt_J1_init h hT hN hR hw)⟩
def xw_J2_init (x0 : Nat) (x1 : Int32) (ν : XN) (k n : Nat) (Q : XN → Prop) : Prop :=
  (xw_J1_init x0 ν (fun ν1 => ((x1 ≤ 0 → ((¬ x1 = 0 → False) ∧ (x1 = 0 → False))) ∧ (¬ x1 ≤ 0 → (¬ x1 < 0 ∧ (Int32.toNatClampNeg x1 ≤ 100000000 ∧ (∃ k8 n9, k8 + 1 ≤ k ∧ n9 + (Int32.toNatClampNeg x1) ≤ n ∧ ∀ q4, rk ν1.2 q4 = 0 → ∀ ν6, ν6 = (ν1.1, tN ν1.2 q4 109 (Int32.toNatClampNeg x1)) → (rk ν6.2 x0 = 7 ∧ (∀ ν12, ν12 = (ν6.1, tO ν6.2 x0 1 (some q4)) → Q ν12)))))))))
theorem xt_J2_init {κ : Cx} {S : Adr} {A : Nat → Prop} {mc ms : Nat} {Z : State → Prop} {Q : XN → Prop} (h : XCx κ cJ2_init RJ2 S A 3 mc ms) (hT : (cxT κ).sig.returnType = none) (hN : (cxT κ).name = "<init>") (hR : xRet κ S A mc ms Z cJ2_init (pV Q)) {x0 : Nat} {x1 : Int32} {ν : XN} {k n : Nat} (hw : xw_J2_init x0 x1 ν k n Q) : XG κ S A mc ms Z 0 (ν, k, n) [some (.ref x0), some (.int x1)] [] := by
  unfold xw_J2_init at hw
  refine g_aload_0 0 h.1 dJ2_init_0 ?_
  refine xcI_V_0 1 h (xm_J1_init h.2.2.1 hw) (by decide) (Nat.le_of_eq (Nat.zero_add _)) (Nat.le_of_eq (Nat.zero_add _)) rfl q231 q230 (Nat.le_of_ble_eq_true rfl) dJ2_init_1 (fun ν1 hw => ?_)
  refine g_iload_1 4 h.1 dJ2_init_4 ?_
  refine g_if_le 5 19 h.1 dJ2_init_5 (by decide) (fun c => ?_) (fun c => ?_)
  · have hw := hw.1 c
    refine g_iload_1 19 h.1 dJ2_init_19 ?_
    refine g_if_ne 20 33 h.1 dJ2_init_20 (by decide) (fun c => ?_) (fun c => ?_)
    · have hw := hw.1 c
      exact hw.elim
    · have hw := hw.2 c
      exact hw.elim
  · have hw := hw.2 c
    refine g_aload_0 8 h.1 dJ2_init_8 ?_
    refine g_iload_1 9 h.1 dJ2_init_9 ?_
    obtain ⟨f2, hw⟩ := hw
    obtain ⟨f3, hw⟩ := hw
    obtain ⟨k8, n9, a10, a11, hw⟩ := hw
    refine x_newaO 10 f2 rfl f3 h q237 a10 a11 dJ2_init_10 (fun q4 e5 ν6 e7 => ?_)
    have hw := hw q4 e5 ν6 e7
    obtain ⟨f14, hw⟩ := hw
    refine xp_J2_9_6 13 (some q4) f14 h dJ2_init_13 (fun ν12 e13 => ?_)
    have hw := hw ν12 e13
    refine g_goto 16 60 h.1 dJ2_init_16 (by decide) ?_
    exact hR.2.2.1 60 _ _ _ _ hT dJ2_init_60 ⟨rfl, hw⟩
theorem xm_J2_init {l : Launch} {S : Adr} {A : Nat → Prop} (hD : FD xT S xcl A) {x0 : Nat} {x1 : Int32} {ν : XN} {k n : Nat} {Q : XN → Prop} (hw : xw_J2_init x0 x1 ν k n Q) : ∃ (bb : ByteArray) (L : Nat), xWd yJ2_init bb L none 1 ∧ Met l yJ2_init (ws_ yJ2_init bb L none) (rmX 3 k n) (va_Pc [.ref x0, .int x1] (xPre S A ν)) (xQ S A (pV Q)) k n A :=
  ⟨cJ2_init, 2, ⟨⟨by decide, by decide, by show _ = some 1; decide +kernel⟩, by decide, q229, q175⟩, x_start (by decide +kernel) hD ⟨⟨by decide, by decide, by show _ = some 1; decide +kernel⟩, by decide, q229, q175⟩ (Nat.le_of_ble_eq_true rfl) (fun κ Z h hT hN hR => xt_J2_init h hT hN hR hw)⟩
def xw_J10_hugeLength (x0 : Int32) (x1 : Int32) (ν : XN) (Q : Int32 → XN → Prop) : Prop :=
  ((0 ≤ (x0 + x1) → (((2147483639 : Int32) < (x0 + x1) → Q (x0 + x1) ν) ∧ (¬ (2147483639 : Int32) < (x0 + x1) → Q (2147483639 : Int32) ν))) ∧ (¬ 0 ≤ (x0 + x1) → False))
theorem xt_J10_hugeLength {κ : Cx} {S : Adr} {A : Nat → Prop} {Z : State → Prop} {Q : Int32 → XN → Prop} (h : XCx κ cJ10_hugeLength RJ10 S A 1 0 0) (hT : (cxT κ).sig.returnType = some .int) (hN : (cxT κ).name = "hugeLength") (hR : xRet κ S A 0 0 Z cJ10_hugeLength (pI Q)) {x0 : Int32} {x1 : Int32} {ν : XN} (hw : xw_J10_hugeLength x0 x1 ν Q) : XG κ S A 0 0 Z 0 (ν, 0, 0) [some (.int x0), some (.int x1), none] [] := by
  unfold xw_J10_hugeLength at hw
  refine g_iload_0 0 h.1 dJ10_hugeLength_0 ?_
  refine g_iload_1 1 h.1 dJ10_hugeLength_1 ?_
  refine g_iadd 2 h.1 dJ10_hugeLength_2 ?_
  refine g_istore_2 3 h.1 rfl dJ10_hugeLength_3 ?_
  refine g_iload_2 4 h.1 dJ10_hugeLength_4 ?_
  refine g_if_ge 5 49 h.1 dJ10_hugeLength_5 (by decide) (fun c => ?_) (fun c => ?_)
  · have hw := hw.1 c
    refine g_iload_2 49 h.1 dJ10_hugeLength_49 ?_
    refine g_ldc 50 h.1 q887 dJ10_hugeLength_50 ?_
    refine g_icmp_gt 52 58 h.1 dJ10_hugeLength_52 (by decide) (fun c => ?_) (fun c => ?_)
    · have hw := hw.1 c
      refine g_iload_2 58 h.1 dJ10_hugeLength_58 ?_
      exact hR.1 59 _ _ _ _ _ _ hT rfl dJ10_hugeLength_59 ⟨_, rfl, hw⟩
    · have hw := hw.2 c
      refine g_ldc 55 h.1 q887 dJ10_hugeLength_55 ?_
      exact hR.1 57 _ _ _ _ _ _ hT rfl dJ10_hugeLength_57 ⟨_, rfl, hw⟩
  · have hw := hw.2 c
    exact hw.elim
theorem xm_J10_hugeLength {l : Launch} {S : Adr} {A : Nat → Prop} (hD : FD xT S xcl A) {x0 : Int32} {x1 : Int32} {ν : XN} {Q : Int32 → XN → Prop} (hw : xw_J10_hugeLength x0 x1 ν Q) : xMet l S A 1 0 0 2 yJ10_hugeLength [.int x0, .int x1] ν (pI Q) :=
  x_met (by decide +kernel) hD ⟨⟨by decide, by decide, by show _ = some 2; decide +kernel⟩, by decide, q890, q188⟩ (Nat.le_of_ble_eq_true rfl) (fun κ Z h hT hN hR => xt_J10_hugeLength h hT hN hR hw)
def xw_J10_newLength_21 (x0 : Int32) (x1 : Int32) (ν : XN) (Q : Int32 → XN → Prop) : Prop :=
  (xw_J10_hugeLength x0 x1 ν (fun r4 ν3 => Q r4 ν3))
theorem xt_J10_newLength_21 {κ : Cx} {S : Adr} {A : Nat → Prop} {Z : State → Prop} {Q : Int32 → XN → Prop} (h : XCx κ cJ10_newLength RJ10 S A 2 0 0) (hT : (cxT κ).sig.returnType = some .int) (hN : (cxT κ).name = "newLength") (hR : xRet κ S A 0 0 Z cJ10_newLength (pI Q)) {x0 : Int32} {x1 : Int32} {ν : XN} (hw : xw_J10_newLength_21 x0 x1 ν Q) : XG κ S A 0 0 Z 21 (ν, 0, 0) [some (.int x0), some (.int x1), none, none] [] := by
  unfold xw_J10_newLength_21 at hw
  refine g_iload_0 21 h.1 dJ10_newLength_21 ?_
  refine g_iload_1 22 h.1 dJ10_newLength_22 ?_
  refine xcS_I_2 23 h (xm_J10_hugeLength h.2.2.1 hw) (by decide) (Nat.le_of_eq (Nat.zero_add _)) (Nat.le_of_eq (Nat.zero_add _)) q889 q888 (Nat.le_of_ble_eq_true rfl) dJ10_newLength_23 (fun r4 ν3 hw => ?_)
  exact hR.1 26 _ _ _ _ _ _ hT rfl dJ10_newLength_26 ⟨_, rfl, hw⟩
def xw_J10_newLength (x0 : Int32) (x1 : Int32) (x2 : Int32) (ν : XN) (Q : Int32 → XN → Prop) : Prop :=
  (xw_J12_max x1 x2 ν (fun r2 ν1 => (((x0 + r2) ≤ (0 : Int32) → xw_J10_newLength_21 x0 x1 ν1 Q) ∧ (¬ (x0 + r2) ≤ (0 : Int32) → (((2147483639 : Int32) < (x0 + r2) → xw_J10_newLength_21 x0 x1 ν1 Q) ∧ (¬ (2147483639 : Int32) < (x0 + r2) → Q (x0 + r2) ν1))))))
theorem xt_J10_newLength {κ : Cx} {S : Adr} {A : Nat → Prop} {Z : State → Prop} {Q : Int32 → XN → Prop} (h : XCx κ cJ10_newLength RJ10 S A 2 0 0) (hT : (cxT κ).sig.returnType = some .int) (hN : (cxT κ).name = "newLength") (hR : xRet κ S A 0 0 Z cJ10_newLength (pI Q)) {x0 : Int32} {x1 : Int32} {x2 : Int32} {ν : XN} (hw : xw_J10_newLength x0 x1 x2 ν Q) : XG κ S A 0 0 Z 0 (ν, 0, 0) [some (.int x0), some (.int x1), some (.int x2), none] [] := by
  unfold xw_J10_newLength at hw
  refine g_iload_0 0 h.1 dJ10_newLength_0 ?_
  refine g_iload_1 1 h.1 dJ10_newLength_1 ?_
  refine g_iload_2 2 h.1 dJ10_newLength_2 ?_
  refine xcS_I_2 3 h (xm_J12_max h.2.2.1 hw) (by decide) (Nat.le_of_eq (Nat.zero_add _)) (Nat.le_of_eq (Nat.zero_add _)) q885 q884 (Nat.le_of_ble_eq_true rfl) dJ10_newLength_3 (fun r2 ν1 hw => ?_)
  refine g_iadd 6 h.1 dJ10_newLength_6 ?_
  refine g_istore_3 7 h.1 rfl dJ10_newLength_7 ?_
  refine g_iconstv 8 _ ic_0 h.1 dJ10_newLength_8 ?_
  refine g_iload_3 9 h.1 dJ10_newLength_9 ?_
  refine g_icmp_ge 10 21 h.1 dJ10_newLength_10 (by decide) (fun c => ?_) (fun c => ?_)
  · have hw := hw.1 c
    exact g_le (xt_J10_newLength_21 h hT hN hR hw) ⟨rfl, rfl, trivial⟩
  · have hw := hw.2 c
    refine g_iload_3 13 h.1 dJ10_newLength_13 ?_
    refine g_ldc 14 h.1 q887 dJ10_newLength_14 ?_
    refine g_icmp_gt 16 21 h.1 dJ10_newLength_16 (by decide) (fun c => ?_) (fun c => ?_)
    · have hw := hw.1 c
      exact g_le (xt_J10_newLength_21 h hT hN hR hw) ⟨rfl, rfl, trivial⟩
    · have hw := hw.2 c
      refine g_iload_3 19 h.1 dJ10_newLength_19 ?_
      exact hR.1 20 _ _ _ _ _ _ hT rfl dJ10_newLength_20 ⟨_, rfl, hw⟩
theorem xm_J10_newLength {l : Launch} {S : Adr} {A : Nat → Prop} (hD : FD xT S xcl A) {x0 : Int32} {x1 : Int32} {x2 : Int32} {ν : XN} {Q : Int32 → XN → Prop} (hw : xw_J10_newLength x0 x1 x2 ν Q) : xMet l S A 2 0 0 3 yJ10_newLength [.int x0, .int x1, .int x2] ν (pI Q) :=
  x_met (by decide +kernel) hD ⟨⟨by decide, by decide, by show _ = some 3; decide +kernel⟩, by decide, q883, q188⟩ (Nat.le_of_ble_eq_true rfl) (fun κ Z h hT hN hR => xt_J10_newLength h hT hN hR hw)
def xw_J13_copyOf_2_24 (x0 : Nat) (x1 : Int32) (y0 : Nat) (ν : XN) (k n : Nat) (Q : Nat → XN → Prop) : Prop :=
  (rc ν.2 x0 = 109 ∧ (xw_J12_min (Int32.ofNat (rn ν.2 x0)) x1 ν (fun r15 ν14 => (rc ν14.2 x0 = 109 ∧ (rk ν14.2 y0 = 109 ∧ (¬ r15 < 0 ∧ ((Int32.toNatClampNeg (0 : Int32)) + (Int32.toNatClampNeg r15) ≤ rn ν14.2 x0 ∧ ((Int32.toNatClampNeg (0 : Int32)) + (Int32.toNatClampNeg r15) ≤ rn ν14.2 y0 ∧ ((∀ i, i < (Int32.toNatClampNeg r15) → ∀ v, rO ν14.2 x0 ((Int32.toNatClampNeg (0 : Int32)) + i) = some v → 1 ≤ rc ν14.2 v ∧ rc ν14.2 v < 23) ∧ (∀ ν16, ν16 = (ν14.1, tOs ν14.2 y0 (va_cpy (rO ν14.2 x0) (rO ν14.2 y0) (Int32.toNatClampNeg (0 : Int32)) (Int32.toNatClampNeg (0 : Int32)) (Int32.toNatClampNeg r15))) → Q y0 ν16))))))))))
theorem xt_J13_copyOf_2_24 {κ : Cx} {S : Adr} {A : Nat → Prop} {mc ms : Nat} {Z : State → Prop} {Q : Nat → XN → Prop} (h : XCx κ cJ13_copyOf_2 RJ13 S A 2 mc ms) (hT : (cxT κ).sig.returnType = some (.array (.object "java/lang/Object"))) (hN : (cxT κ).name = "copyOf") (hR : xRet κ S A mc ms Z cJ13_copyOf_2 (pA Q)) {x0 : Nat} {x1 : Int32} {y0 : Nat} {ν : XN} {k n : Nat} (hw : xw_J13_copyOf_2_24 x0 x1 y0 ν k n Q) : XG κ S A mc ms Z 24 (ν, k, n) [some (.ref x0), some (.int x1), none, none] [.ref y0] := by
  unfold xw_J13_copyOf_2_24 at hw
  refine g_astore_3 24 h.1 rfl dJ13_copyOf_2_24 ?_
  refine g_aload_0 25 h.1 dJ13_copyOf_2_25 ?_
  refine g_iconstv 26 _ ic_0 h.1 dJ13_copyOf_2_26 ?_
  refine g_aload_3 27 h.1 dJ13_copyOf_2_27 ?_
  refine g_iconstv 28 _ ic_0 h.1 dJ13_copyOf_2_28 ?_
  refine g_aload_0 29 h.1 dJ13_copyOf_2_29 ?_
  obtain ⟨f13, hw⟩ := hw
  refine ra_alen9 30 f13 h dJ13_copyOf_2_30 ?_
  refine g_iload_1 31 h.1 dJ13_copyOf_2_31 ?_
  refine xcS_I_2 32 h (xm_J12_min h.2.2.1 hw) (by decide) (Nat.le_of_eq (Nat.zero_add _)) (Nat.le_of_eq (Nat.zero_add _)) q928 q927 (Nat.le_of_ble_eq_true rfl) dJ13_copyOf_2_32 (fun r15 ν14 hw => ?_)
  obtain ⟨f18, hw⟩ := hw
  obtain ⟨f19, hw⟩ := hw
  obtain ⟨f20, hw⟩ := hw
  obtain ⟨f21, hw⟩ := hw
  obtain ⟨f22, hw⟩ := hw
  obtain ⟨f23, hw⟩ := hw
  refine x_copyO 35 (by decide) f18 f19 (by decide) (by decide) f20 f21 f22 f23 h q930 (Nat.le_of_ble_eq_true rfl) dJ13_copyOf_2_35 (fun ν16 e17 => ?_)
  have hw := hw ν16 e17
  refine g_aload_3 38 h.1 dJ13_copyOf_2_38 ?_
  exact hR.2.2.2 39 (some y0) _ _ _ _ _ hT (by first | exact Or.inl ⟨_, rfl⟩ | exact Or.inr ⟨_, rfl⟩) dJ13_copyOf_2_39 ⟨_, rfl, hw⟩
def xw_J13_copyOf_2 (x0 : Nat) (x1 : Int32) (x2 : Nat) (ν : XN) (k n : Nat) (Q : Nat → XN → Prop) : Prop :=
  (∀ b1, fR ν.1 901 6 = .ref b1 → ((¬ x2 = b1 → False) ∧ (x2 = b1 → (¬ x1 < 0 ∧ (Int32.toNatClampNeg x1 ≤ 100000000 ∧ (∃ k9 n10, k9 + 1 ≤ k ∧ n10 + (Int32.toNatClampNeg x1) ≤ n ∧ ∀ q5, rk ν.2 q5 = 0 → ∀ ν7, ν7 = (ν.1, tN ν.2 q5 109 (Int32.toNatClampNeg x1)) → xw_J13_copyOf_2_24 x0 x1 q5 ν7 k9 n10 Q))))))
theorem xt_J13_copyOf_2 {κ : Cx} {S : Adr} {A : Nat → Prop} {mc ms : Nat} {Z : State → Prop} {Q : Nat → XN → Prop} (h : XCx κ cJ13_copyOf_2 RJ13 S A 2 mc ms) (hT : (cxT κ).sig.returnType = some (.array (.object "java/lang/Object"))) (hN : (cxT κ).name = "copyOf") (hR : xRet κ S A mc ms Z cJ13_copyOf_2 (pA Q)) {x0 : Nat} {x1 : Int32} {x2 : Nat} {ν : XN} {k n : Nat} (hw : xw_J13_copyOf_2 x0 x1 x2 ν k n Q) : XG κ S A mc ms Z 0 (ν, k, n) [some (.ref x0), some (.int x1), some (.ref x2), none] [] := by
  unfold xw_J13_copyOf_2 at hw
  refine g_aload_2 0 h.1 dJ13_copyOf_2_0 ?_
  refine x_ldcM 1 h q925 dJ13_copyOf_2_1 (fun b1 e2 => ?_)
  have hw := hw b1 e2
  refine g_acmp_ne 3 13 h.1 dJ13_copyOf_2_3 (by decide) (fun c => ?_) (fun c => ?_)
  · have hw := hw.1 c
    exact hw.elim
  · have hw := hw.2 c
    refine g_iload_1 6 h.1 dJ13_copyOf_2_6 ?_
    obtain ⟨f3, hw⟩ := hw
    obtain ⟨f4, hw⟩ := hw
    obtain ⟨k9, n10, a11, a12, hw⟩ := hw
    refine x_newaO 7 f3 rfl f4 h q926 a11 a12 dJ13_copyOf_2_7 (fun q5 e6 ν7 e8 => ?_)
    have hw := hw q5 e6 ν7 e8
    refine g_goto 10 24 h.1 dJ13_copyOf_2_10 (by decide) ?_
    exact g_le (xt_J13_copyOf_2_24 h hT hN hR hw) ⟨rfl, rfl, trivial⟩
theorem xm_J13_copyOf_2 {l : Launch} {S : Adr} {A : Nat → Prop} (hD : FD xT S xcl A) {x0 : Nat} {x1 : Int32} {x2 : Nat} {ν : XN} {k n : Nat} {Q : Nat → XN → Prop} (hw : xw_J13_copyOf_2 x0 x1 x2 ν k n Q) : xMet l S A 2 k n 3 yJ13_copyOf_2 [.ref x0, .int x1, .ref x2] ν (pA Q) :=
  x_met (by decide +kernel) hD ⟨⟨by decide, by decide, by show _ = some 3; decide +kernel⟩, by decide, q924, q192⟩ (Nat.le_of_ble_eq_true rfl) (fun κ Z h hT hN hR => xt_J13_copyOf_2 h hT hN hR hw)
def xw_J13_copyOf (x0 : Nat) (x1 : Int32) (ν : XN) (k n : Nat) (Q : Nat → XN → Prop) : Prop :=
  (rc ν.2 x0 = 109 ∧ (∀ b2, fR ν.1 901 6 = .ref b2 → (∃ k6 n7 k8 n9, k6 + k8 ≤ k ∧ n7 + n9 ≤ n ∧ xw_J13_copyOf_2 x0 x1 b2 ν k6 n7 (fun r5 ν4 => Q r5 ν4))))
theorem xt_J13_copyOf {κ : Cx} {S : Adr} {A : Nat → Prop} {mc ms : Nat} {Z : State → Prop} {Q : Nat → XN → Prop} (h : XCx κ cJ13_copyOf RJ13 S A 3 mc ms) (hT : (cxT κ).sig.returnType = some (.array (.object "java/lang/Object"))) (hN : (cxT κ).name = "copyOf") (hR : xRet κ S A mc ms Z cJ13_copyOf (pA Q)) {x0 : Nat} {x1 : Int32} {ν : XN} {k n : Nat} (hw : xw_J13_copyOf x0 x1 ν k n Q) : XG κ S A mc ms Z 0 (ν, k, n) [some (.ref x0), some (.int x1)] [] := by
  unfold xw_J13_copyOf at hw
  refine g_aload_0 0 h.1 dJ13_copyOf_0 ?_
  refine g_iload_1 1 h.1 dJ13_copyOf_1 ?_
  refine g_aload_0 2 h.1 dJ13_copyOf_2 ?_
  obtain ⟨f1, hw⟩ := hw
  refine x_getC 3 (by decide) f1 h q894 (Nat.le_of_ble_eq_true rfl) dJ13_copyOf_3 (fun b2 e3 => ?_)
  have hw := hw b2 e3
  obtain ⟨k6, n7, k8, n9, a10, a11, hw⟩ := hw
  refine xcS_A_3 6 h (xm_J13_copyOf_2 h.2.2.1 hw) (by decide) a10 a11 q923 q922 (Nat.le_of_ble_eq_true rfl) dJ13_copyOf_6 (fun r5 ν4 hw => ?_)
  exact hR.2.2.2 9 (some r5) _ _ _ _ _ hT (by first | exact Or.inl ⟨_, rfl⟩ | exact Or.inr ⟨_, rfl⟩) dJ13_copyOf_9 ⟨_, rfl, hw⟩
theorem xm_J13_copyOf {l : Launch} {S : Adr} {A : Nat → Prop} (hD : FD xT S xcl A) {x0 : Nat} {x1 : Int32} {ν : XN} {k n : Nat} {Q : Nat → XN → Prop} (hw : xw_J13_copyOf x0 x1 ν k n Q) : xMet l S A 3 k n 2 yJ13_copyOf [.ref x0, .int x1] ν (pA Q) :=
  x_met (by decide +kernel) hD ⟨⟨by decide, by decide, by show _ = some 2; decide +kernel⟩, by decide, q893, q192⟩ (Nat.le_of_ble_eq_true rfl) (fun κ Z h hT hN hR => xt_J13_copyOf h hT hN hR hw)
def xw_J2_grow_2_20 (x0 : Nat) (x1 : Int32) (x2 : Int32) (ν : XN) (k n : Nat) (Q : Nat → XN → Prop) : Prop :=
  (xw_J10_newLength x2 (x1 - x2) (x2 >>> ((1 : Int32) &&& 31)) ν (fun r26 ν25 => (rc ν25.2 x0 = 7 ∧ (∃ b28, (rO ν25.2 x0 1) = some b28 ∧ (∃ k32 n33 k34 n35, k32 + k34 ≤ k ∧ n33 + n35 ≤ n ∧ xw_J13_copyOf b28 r26 ν25 k32 n33 (fun r31 ν30 => (rk ν30.2 x0 = 7 ∧ (∀ ν38, ν38 = (ν30.1, tO ν30.2 x0 1 (some r31)) → Q r31 ν38))))))))
theorem xt_J2_grow_2_20 {κ : Cx} {S : Adr} {A : Nat → Prop} {mc ms : Nat} {Z : State → Prop} {Q : Nat → XN → Prop} (h : XCx κ cJ2_grow_2 RJ2 S A 4 mc ms) (hT : (cxT κ).sig.returnType = some (.array (.object "java/lang/Object"))) (hN : (cxT κ).name = "grow") (hR : xRet κ S A mc ms Z cJ2_grow_2 (pA Q)) {x0 : Nat} {x1 : Int32} {x2 : Int32} {ν : XN} {k n : Nat} (hw : xw_J2_grow_2_20 x0 x1 x2 ν k n Q) : XG κ S A mc ms Z 20 (ν, k, n) [some (.ref x0), some (.int x1), some (.int x2), none] [] := by
  unfold xw_J2_grow_2_20 at hw
  refine g_iload_2 20 h.1 dJ2_grow_2_20 ?_
  refine g_iload_1 21 h.1 dJ2_grow_2_21 ?_
  refine g_iload_2 22 h.1 dJ2_grow_2_22 ?_
  refine g_isub 23 h.1 dJ2_grow_2_23 ?_
  refine g_iload_2 24 h.1 dJ2_grow_2_24 ?_
  refine g_iconstv 25 _ ic_1 h.1 dJ2_grow_2_25 ?_
  refine g_ishr 26 h.1 dJ2_grow_2_26 ?_
  refine xcS_I_3 27 h (xm_J10_newLength h.2.2.1 hw) (by decide) (Nat.le_of_eq (Nat.zero_add _)) (Nat.le_of_eq (Nat.zero_add _)) q882 q881 (Nat.le_of_ble_eq_true rfl) dJ2_grow_2_27 (fun r26 ν25 hw => ?_)
  refine g_istore_3 30 h.1 rfl dJ2_grow_2_30 ?_
  refine g_aload_0 31 h.1 dJ2_grow_2_31 ?_
  refine g_aload_0 32 h.1 dJ2_grow_2_32 ?_
  obtain ⟨f27, hw⟩ := hw
  refine xg_J2_9_6 33 f27 h dJ2_grow_2_33 ?_
  refine g_iload_3 36 h.1 dJ2_grow_2_36 ?_
  obtain ⟨b28, e29, hw⟩ := hw
  rw [e29]
  obtain ⟨k32, n33, k34, n35, a36, a37, hw⟩ := hw
  refine xcS_A_2 37 h (xm_J13_copyOf h.2.2.1 hw) (by decide) a36 a37 q892 q891 (Nat.le_of_ble_eq_true rfl) dJ2_grow_2_37 (fun r31 ν30 hw => ?_)
  refine g_dup_x1 40 rfl rfl h.1 dJ2_grow_2_40 ?_
  obtain ⟨f40, hw⟩ := hw
  refine xp_J2_9_6 41 (some r31) f40 h dJ2_grow_2_41 (fun ν38 e39 => ?_)
  have hw := hw ν38 e39
  exact hR.2.2.2 44 (some r31) _ _ _ _ _ hT (by first | exact Or.inl ⟨_, rfl⟩ | exact Or.inr ⟨_, rfl⟩) dJ2_grow_2_44 ⟨_, rfl, hw⟩
def xw_J2_grow_2 (x0 : Nat) (x1 : Int32) (ν : XN) (k n : Nat) (Q : Nat → XN → Prop) : Prop :=
  (rc ν.2 x0 = 7 ∧ (∃ b2, (rO ν.2 x0 1) = some b2 ∧ (rc ν.2 b2 = 109 ∧ ((0 < (Int32.ofNat (rn ν.2 b2)) → xw_J2_grow_2_20 x0 x1 (Int32.ofNat (rn ν.2 b2)) ν k n Q) ∧ (¬ 0 < (Int32.ofNat (rn ν.2 b2)) → (rc ν.2 x0 = 7 ∧ (∀ b6, fR ν.1 901 4 = .ref b6 → (∃ b8, (rO ν.2 x0 1) = some b8 ∧ ((b8 = b6 → (xw_J12_max (10 : Int32) x1 ν (fun r11 ν10 => (¬ r11 < 0 ∧ (Int32.toNatClampNeg r11 ≤ 100000000 ∧ (∃ k18 n19, k18 + 1 ≤ k ∧ n19 + (Int32.toNatClampNeg r11) ≤ n ∧ ∀ q14, rk ν10.2 q14 = 0 → ∀ ν16, ν16 = (ν10.1, tN ν10.2 q14 109 (Int32.toNatClampNeg r11)) → (rk ν16.2 x0 = 7 ∧ (∀ ν22, ν22 = (ν16.1, tO ν16.2 x0 1 (some q14)) → Q q14 ν22)))))))) ∧ (¬ b8 = b6 → xw_J2_grow_2_20 x0 x1 (Int32.ofNat (rn ν.2 b2)) ν k n Q))))))))))
theorem xt_J2_grow_2 {κ : Cx} {S : Adr} {A : Nat → Prop} {mc ms : Nat} {Z : State → Prop} {Q : Nat → XN → Prop} (h : XCx κ cJ2_grow_2 RJ2 S A 4 mc ms) (hT : (cxT κ).sig.returnType = some (.array (.object "java/lang/Object"))) (hN : (cxT κ).name = "grow") (hR : xRet κ S A mc ms Z cJ2_grow_2 (pA Q)) {x0 : Nat} {x1 : Int32} {ν : XN} {k n : Nat} (hw : xw_J2_grow_2 x0 x1 ν k n Q) : XG κ S A mc ms Z 0 (ν, k, n) [some (.ref x0), some (.int x1), none, none] [] := by
  unfold xw_J2_grow_2 at hw
  refine g_aload_0 0 h.1 dJ2_grow_2_0 ?_
  obtain ⟨f1, hw⟩ := hw
  refine xg_J2_9_6 1 f1 h dJ2_grow_2_1 ?_
  obtain ⟨b2, e3, hw⟩ := hw
  rw [e3]
  obtain ⟨f4, hw⟩ := hw
  refine ra_alen9 4 f4 h dJ2_grow_2_4 ?_
  refine g_istore_2 5 h.1 rfl dJ2_grow_2_5 ?_
  refine g_iload_2 6 h.1 dJ2_grow_2_6 ?_
  refine g_if_gt 7 20 h.1 dJ2_grow_2_7 (by decide) (fun c => ?_) (fun c => ?_)
  · have hw := hw.1 c
    exact g_le (xt_J2_grow_2_20 h hT hN hR hw) ⟨rfl, rfl, rfl, trivial⟩
  · have hw := hw.2 c
    refine g_aload_0 10 h.1 dJ2_grow_2_10 ?_
    obtain ⟨f5, hw⟩ := hw
    refine xg_J2_9_6 11 f5 h dJ2_grow_2_11 ?_
    refine xs_J2_39 14 h dJ2_grow_2_14 (fun b6 e7 => ?_)
    have hw := hw b6 e7
    obtain ⟨b8, e9, hw⟩ := hw
    rw [e9]
    refine g_acmp_eq 17 45 h.1 dJ2_grow_2_17 (by decide) (fun c => ?_) (fun c => ?_)
    · have hw := hw.1 c
      refine g_aload_0 45 h.1 dJ2_grow_2_45 ?_
      refine g_bipush 46 _ bp_10 h.1 dJ2_grow_2_46 ?_
      refine g_iload_1 48 h.1 dJ2_grow_2_48 ?_
      refine xcS_I_2 49 h (xm_J12_max h.2.2.1 hw) (by decide) (Nat.le_of_eq (Nat.zero_add _)) (Nat.le_of_eq (Nat.zero_add _)) q885 q933 (Nat.le_of_ble_eq_true rfl) dJ2_grow_2_49 (fun r11 ν10 hw => ?_)
      obtain ⟨f12, hw⟩ := hw
      obtain ⟨f13, hw⟩ := hw
      obtain ⟨k18, n19, a20, a21, hw⟩ := hw
      refine x_newaO 52 f12 rfl f13 h q237 a20 a21 dJ2_grow_2_52 (fun q14 e15 ν16 e17 => ?_)
      have hw := hw q14 e15 ν16 e17
      refine g_dup_x1 55 rfl rfl h.1 dJ2_grow_2_55 ?_
      obtain ⟨f24, hw⟩ := hw
      refine xp_J2_9_6 56 (some q14) f24 h dJ2_grow_2_56 (fun ν22 e23 => ?_)
      have hw := hw ν22 e23
      exact hR.2.2.2 59 (some q14) _ _ _ _ _ hT (by first | exact Or.inl ⟨_, rfl⟩ | exact Or.inr ⟨_, rfl⟩) dJ2_grow_2_59 ⟨_, rfl, hw⟩
    · have hw := hw.2 c
      exact g_le (xt_J2_grow_2_20 h hT hN hR hw) ⟨rfl, rfl, rfl, trivial⟩
theorem xm_J2_grow_2 {l : Launch} {S : Adr} {A : Nat → Prop} (hD : FD xT S xcl A) {x0 : Nat} {x1 : Int32} {ν : XN} {k n : Nat} {Q : Nat → XN → Prop} (hw : xw_J2_grow_2 x0 x1 ν k n Q) : xMet l S A 4 k n 1 yJ2_grow_2 [.ref x0, .int x1] ν (pA Q) :=
  x_met (by decide +kernel) hD ⟨⟨by decide, by decide, by show _ = some 1; decide +kernel⟩, by decide, q878, q175⟩ (Nat.le_of_ble_eq_true rfl) (fun κ Z h hT hN hR => xt_J2_grow_2 h hT hN hR hw)
def xw_J2_grow (x0 : Nat) (ν : XN) (k n : Nat) (Q : Nat → XN → Prop) : Prop :=
  (rc ν.2 x0 = 7 ∧ (rc ν.2 x0 = 7 ∧ (∃ k5 n6 k7 n8, k5 + k7 ≤ k ∧ n6 + n8 ≤ n ∧ xw_J2_grow_2 x0 ((rI ν.2 x0 2) + (1 : Int32)) ν k5 n6 (fun r3 ν2 => Q r3 ν2))))
theorem xt_J2_grow {κ : Cx} {S : Adr} {A : Nat → Prop} {mc ms : Nat} {Z : State → Prop} {Q : Nat → XN → Prop} (h : XCx κ cJ2_grow RJ2 S A 5 mc ms) (hT : (cxT κ).sig.returnType = some (.array (.object "java/lang/Object"))) (hN : (cxT κ).name = "grow") (hR : xRet κ S A mc ms Z cJ2_grow (pA Q)) {x0 : Nat} {ν : XN} {k n : Nat} (hw : xw_J2_grow x0 ν k n Q) : XG κ S A mc ms Z 0 (ν, k, n) [some (.ref x0)] [] := by
  unfold xw_J2_grow at hw
  refine g_aload_0 0 h.1 dJ2_grow_0 ?_
  refine g_aload_0 1 h.1 dJ2_grow_1 ?_
  obtain ⟨f1, hw⟩ := hw
  refine xg_J2_48_6 2 f1 h dJ2_grow_2 ?_
  refine g_iconstv 5 _ ic_1 h.1 dJ2_grow_5 ?_
  refine g_iadd 6 h.1 dJ2_grow_6 ?_
  obtain ⟨f4, hw⟩ := hw
  obtain ⟨k5, n6, k7, n8, a9, a10, hw⟩ := hw
  refine xcV_A_1 7 h (xm_J2_grow_2 h.2.2.1 hw) (by decide) a9 a10 q877 qs20 (fun H hI => x_recvR h f4 rfl hI) q875 (Nat.le_of_ble_eq_true rfl) dJ2_grow_7 (fun r3 ν2 hw => ?_)
  exact hR.2.2.2 10 (some r3) _ _ _ _ _ hT (by first | exact Or.inl ⟨_, rfl⟩ | exact Or.inr ⟨_, rfl⟩) dJ2_grow_10 ⟨_, rfl, hw⟩
theorem xm_J2_grow {l : Launch} {S : Adr} {A : Nat → Prop} (hD : FD xT S xcl A) {x0 : Nat} {ν : XN} {k n : Nat} {Q : Nat → XN → Prop} (hw : xw_J2_grow x0 ν k n Q) : xMet l S A 5 k n 0 yJ2_grow [.ref x0] ν (pA Q) :=
  x_met (by decide +kernel) hD ⟨⟨by decide, by decide, by show _ = some 0; decide +kernel⟩, by decide, q874, q175⟩ (Nat.le_of_ble_eq_true rfl) (fun κ Z h hT hN hR => xt_J2_grow h hT hN hR hw)
def xw_J2_add_2_11 (x0 : Nat) (x1 : Nat) (x2 : Nat) (x3 : Int32) (ν : XN) (k n : Nat) (Q : XN → Prop) : Prop :=
  (rk ν.2 x2 = 109 ∧ ((1 ≤ rc ν.2 x1 ∧ rc ν.2 x1 < 23) ∧ (vp_in x3 (rn ν.2 x2) ∧ (∀ ν11, ν11 = (ν.1, tO ν.2 x2 (Int32.toNatClampNeg x3) (some x1)) → (rk ν11.2 x0 = 7 ∧ (∀ ν16, ν16 = (ν11.1, tI ν11.2 x0 2 (x3 + (1 : Int32))) → Q ν16))))))
theorem xt_J2_add_2_11 {κ : Cx} {S : Adr} {A : Nat → Prop} {mc ms : Nat} {Z : State → Prop} {Q : XN → Prop} (h : XCx κ cJ2_add_2 RJ2 S A 6 mc ms) (hT : (cxT κ).sig.returnType = none) (hN : (cxT κ).name = "add") (hR : xRet κ S A mc ms Z cJ2_add_2 (pV Q)) {x0 : Nat} {x1 : Nat} {x2 : Nat} {x3 : Int32} {ν : XN} {k n : Nat} (hw : xw_J2_add_2_11 x0 x1 x2 x3 ν k n Q) : XG κ S A mc ms Z 11 (ν, k, n) [some (.ref x0), some (.ref x1), some (.ref x2), some (.int x3)] [] := by
  unfold xw_J2_add_2_11 at hw
  refine g_aload_2 11 h.1 dJ2_add_2_11 ?_
  refine g_iload_3 12 h.1 dJ2_add_2_12 ?_
  refine g_aload_1 13 h.1 dJ2_add_2_13 ?_
  obtain ⟨f13, hw⟩ := hw
  obtain ⟨f14, hw⟩ := hw
  obtain ⟨f15, hw⟩ := hw
  refine ra_aast9 14 f13 f14 f15 h dJ2_add_2_14 (fun ν11 e12 => ?_)
  have hw := hw ν11 e12
  refine g_aload_0 15 h.1 dJ2_add_2_15 ?_
  refine g_iload_3 16 h.1 dJ2_add_2_16 ?_
  refine g_iconstv 17 _ ic_1 h.1 dJ2_add_2_17 ?_
  refine g_iadd 18 h.1 dJ2_add_2_18 ?_
  obtain ⟨f18, hw⟩ := hw
  refine xp_J2_48_6 19 f18 h dJ2_add_2_19 (fun ν16 e17 => ?_)
  have hw := hw ν16 e17
  exact hR.2.2.1 22 _ _ _ _ hT dJ2_add_2_22 ⟨rfl, hw⟩
def xw_J2_add_2 (x0 : Nat) (x1 : Nat) (x2 : Nat) (x3 : Int32) (ν : XN) (k n : Nat) (Q : XN → Prop) : Prop :=
  (rc ν.2 x2 = 109 ∧ ((¬ x3 = (Int32.ofNat (rn ν.2 x2)) → xw_J2_add_2_11 x0 x1 x2 x3 ν k n Q) ∧ (x3 = (Int32.ofNat (rn ν.2 x2)) → (rc ν.2 x0 = 7 ∧ (∃ k5 n6 k7 n8, k5 + k7 ≤ k ∧ n6 + n8 ≤ n ∧ xw_J2_grow x0 ν k5 n6 (fun r3 ν2 => xw_J2_add_2_11 x0 x1 r3 x3 ν2 k7 n8 Q))))))
theorem xt_J2_add_2 {κ : Cx} {S : Adr} {A : Nat → Prop} {mc ms : Nat} {Z : State → Prop} {Q : XN → Prop} (h : XCx κ cJ2_add_2 RJ2 S A 6 mc ms) (hT : (cxT κ).sig.returnType = none) (hN : (cxT κ).name = "add") (hR : xRet κ S A mc ms Z cJ2_add_2 (pV Q)) {x0 : Nat} {x1 : Nat} {x2 : Nat} {x3 : Int32} {ν : XN} {k n : Nat} (hw : xw_J2_add_2 x0 x1 x2 x3 ν k n Q) : XG κ S A mc ms Z 0 (ν, k, n) [some (.ref x0), some (.ref x1), some (.ref x2), some (.int x3)] [] := by
  unfold xw_J2_add_2 at hw
  refine g_iload_3 0 h.1 dJ2_add_2_0 ?_
  refine g_aload_2 1 h.1 dJ2_add_2_1 ?_
  obtain ⟨f1, hw⟩ := hw
  refine ra_alen9 2 f1 h dJ2_add_2_2 ?_
  refine g_icmp_ne 3 11 h.1 dJ2_add_2_3 (by decide) (fun c => ?_) (fun c => ?_)
  · have hw := hw.1 c
    exact g_le (xt_J2_add_2_11 h hT hN hR hw) ⟨rfl, rfl, rfl, rfl, trivial⟩
  · have hw := hw.2 c
    refine g_aload_0 6 h.1 dJ2_add_2_6 ?_
    obtain ⟨f4, hw⟩ := hw
    obtain ⟨k5, n6, k7, n8, a9, a10, hw⟩ := hw
    refine xcV_A_0 7 h (xm_J2_grow h.2.2.1 hw) (by decide) a9 a10 q873 qs19 (fun H hI => x_recvR h f4 rfl hI) q871 (Nat.le_of_ble_eq_true rfl) dJ2_add_2_7 (fun r3 ν2 hw => ?_)
    refine g_astore_2 10 h.1 rfl dJ2_add_2_10 ?_
    exact g_le (xt_J2_add_2_11 h hT hN hR hw) ⟨rfl, rfl, rfl, rfl, trivial⟩
theorem xm_J2_add_2 {l : Launch} {S : Adr} {A : Nat → Prop} (hD : FD xT S xcl A) {x0 : Nat} {x1 : Nat} {x2 : Nat} {x3 : Int32} {ν : XN} {k n : Nat} {Q : XN → Prop} (hw : xw_J2_add_2 x0 x1 x2 x3 ν k n Q) : xMet l S A 6 k n 3 yJ2_add_2 [.ref x0, .ref x1, .ref x2, .int x3] ν (pV Q) :=
  x_met (by decide +kernel) hD ⟨⟨by decide, by decide, by show _ = some 3; decide +kernel⟩, by decide, q870, q175⟩ (Nat.le_of_ble_eq_true rfl) (fun κ Z h hT hN hR => xt_J2_add_2 h hT hN hR hw)
def xw_J2_add (x0 : Nat) (x1 : Nat) (ν : XN) (k n : Nat) (Q : Int32 → XN → Prop) : Prop :=
  (rc ν.2 x0 = 7 ∧ (rk ν.2 x0 = 7 ∧ (∀ ν2, ν2 = (ν.1, tI ν.2 x0 0 ((rI ν.2 x0 0) + (1 : Int32))) → (rc ν2.2 x0 = 7 ∧ (rc ν2.2 x0 = 7 ∧ (∃ b7, (rO ν2.2 x0 1) = some b7 ∧ (rc ν2.2 x0 = 7 ∧ (∃ k11 n12 k13 n14, k11 + k13 ≤ k ∧ n12 + n14 ≤ n ∧ xw_J2_add_2 x0 x1 b7 (rI ν2.2 x0 2) ν2 k11 n12 (fun ν9 => Q (1 : Int32) ν9)))))))))
theorem xt_J2_add {κ : Cx} {S : Adr} {A : Nat → Prop} {mc ms : Nat} {Z : State → Prop} {Q : Int32 → XN → Prop} (h : XCx κ cJ2_add RJ2 S A 7 mc ms) (hT : (cxT κ).sig.returnType = some .boolean) (hN : (cxT κ).name = "add") (hR : xRet κ S A mc ms Z cJ2_add (pI Q)) {x0 : Nat} {x1 : Nat} {ν : XN} {k n : Nat} (hw : xw_J2_add x0 x1 ν k n Q) : XG κ S A mc ms Z 0 (ν, k, n) [some (.ref x0), some (.ref x1)] [] := by
  unfold xw_J2_add at hw
  refine g_aload_0 0 h.1 dJ2_add_0 ?_
  refine g_dup 1 rfl h.1 dJ2_add_1 ?_
  obtain ⟨f1, hw⟩ := hw
  refine xg_J2_63_6 2 f1 h dJ2_add_2 ?_
  refine g_iconstv 5 _ ic_1 h.1 dJ2_add_5 ?_
  refine g_iadd 6 h.1 dJ2_add_6 ?_
  obtain ⟨f4, hw⟩ := hw
  refine xp_J2_63_6 7 f4 h dJ2_add_7 (fun ν2 e3 => ?_)
  have hw := hw ν2 e3
  refine g_aload_0 10 h.1 dJ2_add_10 ?_
  refine g_aload_1 11 h.1 dJ2_add_11 ?_
  refine g_aload_0 12 h.1 dJ2_add_12 ?_
  obtain ⟨f5, hw⟩ := hw
  refine xg_J2_9_6 13 f5 h dJ2_add_13 ?_
  refine g_aload_0 16 h.1 dJ2_add_16 ?_
  obtain ⟨f6, hw⟩ := hw
  refine xg_J2_48_6 17 f6 h dJ2_add_17 ?_
  obtain ⟨b7, e8, hw⟩ := hw
  rw [e8]
  obtain ⟨f10, hw⟩ := hw
  obtain ⟨k11, n12, k13, n14, a15, a16, hw⟩ := hw
  refine xcV_V_3 20 h (xm_J2_add_2 h.2.2.1 hw) (by decide) a15 a16 q869 qs18 (fun H hI => x_recvR h f10 rfl hI) q867 (Nat.le_of_ble_eq_true rfl) dJ2_add_20 (fun ν9 hw => ?_)
  refine g_iconstv 23 _ ic_1 h.1 dJ2_add_23 ?_
  exact hR.1 24 _ _ _ _ _ _ hT rfl dJ2_add_24 ⟨_, rfl, hw⟩
theorem xm_J2_add {l : Launch} {S : Adr} {A : Nat → Prop} (hD : FD xT S xcl A) {x0 : Nat} {x1 : Nat} {ν : XN} {k n : Nat} {Q : Int32 → XN → Prop} (hw : xw_J2_add x0 x1 ν k n Q) : xMet l S A 7 k n 1 yJ2_add [.ref x0, .ref x1] ν (pI Q) :=
  x_met (by decide +kernel) hD ⟨⟨by decide, by decide, by show _ = some 1; decide +kernel⟩, by decide, q866, q175⟩ (Nat.le_of_ble_eq_true rfl) (fun κ Z h hT hN hR => xt_J2_add h hT hN hR hw)
def xw_J7_newBytesLength (x0 : Int32) (ν : XN) (Q : Int32 → XN → Prop) : Prop :=
  ((0 ≤ x0 → ((x0 < (1073741823 : Int32) → Q (x0 <<< ((1 : Int32) &&& 31)) ν) ∧ (¬ x0 < (1073741823 : Int32) → False))) ∧ (¬ 0 ≤ x0 → False))
theorem xt_J7_newBytesLength {κ : Cx} {S : Adr} {A : Nat → Prop} {Z : State → Prop} {Q : Int32 → XN → Prop} (h : XCx κ cJ7_newBytesLength RJ7 S A 1 0 0) (hT : (cxT κ).sig.returnType = some .int) (hN : (cxT κ).name = "newBytesLength") (hR : xRet κ S A 0 0 Z cJ7_newBytesLength (pI Q)) {x0 : Int32} {ν : XN} (hw : xw_J7_newBytesLength x0 ν Q) : XG κ S A 0 0 Z 0 (ν, 0, 0) [some (.int x0)] [] := by
  unfold xw_J7_newBytesLength at hw
  refine g_iload_0 0 h.1 dJ7_newBytesLength_0 ?_
  refine g_if_ge 1 12 h.1 dJ7_newBytesLength_1 (by decide) (fun c => ?_) (fun c => ?_)
  · have hw := hw.1 c
    refine g_iload_0 12 h.1 dJ7_newBytesLength_12 ?_
    refine g_ldc 13 h.1 q645 dJ7_newBytesLength_13 ?_
    refine g_icmp_lt 15 55 h.1 dJ7_newBytesLength_15 (by decide) (fun c => ?_) (fun c => ?_)
    · have hw := hw.1 c
      refine g_iload_0 55 h.1 dJ7_newBytesLength_55 ?_
      refine g_iconstv 56 _ ic_1 h.1 dJ7_newBytesLength_56 ?_
      refine g_ishl 57 h.1 dJ7_newBytesLength_57 ?_
      exact hR.1 58 _ _ _ _ _ _ hT rfl dJ7_newBytesLength_58 ⟨_, rfl, hw⟩
    · have hw := hw.2 c
      exact hw.elim
  · have hw := hw.2 c
    exact hw.elim
theorem xm_J7_newBytesLength {l : Launch} {S : Adr} {A : Nat → Prop} (hD : FD xT S xcl A) {x0 : Int32} {ν : XN} {Q : Int32 → XN → Prop} (hw : xw_J7_newBytesLength x0 ν Q) : xMet l S A 1 0 0 1 yJ7_newBytesLength [.int x0] ν (pI Q) :=
  x_met (by decide +kernel) hD ⟨⟨by decide, by decide, by show _ = some 1; decide +kernel⟩, by decide, q644, q185⟩ (Nat.le_of_ble_eq_true rfl) (fun κ Z h hT hN hR => xt_J7_newBytesLength h hT hN hR hw)
def xw_J7_newBytesFor (x0 : Int32) (ν : XN) (k n : Nat) (Q : Nat → XN → Prop) : Prop :=
  (xw_J7_newBytesLength x0 ν (fun r2 ν1 => (¬ r2 < 0 ∧ (Int32.toNatClampNeg r2 ≤ 100000000 ∧ (∃ k9 n10, k9 + 1 ≤ k ∧ n10 + (Int32.toNatClampNeg r2) ≤ n ∧ ∀ q5, rk ν1.2 q5 = 0 → ∀ ν7, ν7 = (ν1.1, tN ν1.2 q5 102 (Int32.toNatClampNeg r2)) → Q q5 ν7)))))
theorem xt_J7_newBytesFor {κ : Cx} {S : Adr} {A : Nat → Prop} {mc ms : Nat} {Z : State → Prop} {Q : Nat → XN → Prop} (h : XCx κ cJ7_newBytesFor RJ7 S A 2 mc ms) (hT : (cxT κ).sig.returnType = some (.array .byte)) (hN : (cxT κ).name = "newBytesFor") (hR : xRet κ S A mc ms Z cJ7_newBytesFor (pA Q)) {x0 : Int32} {ν : XN} {k n : Nat} (hw : xw_J7_newBytesFor x0 ν k n Q) : XG κ S A mc ms Z 0 (ν, k, n) [some (.int x0)] [] := by
  unfold xw_J7_newBytesFor at hw
  refine g_iload_0 0 h.1 dJ7_newBytesFor_0 ?_
  refine xcS_I_1 1 h (xm_J7_newBytesLength h.2.2.1 hw) (by decide) (Nat.le_of_eq (Nat.zero_add _)) (Nat.le_of_eq (Nat.zero_add _)) q643 q642 (Nat.le_of_ble_eq_true rfl) dJ7_newBytesFor_1 (fun r2 ν1 hw => ?_)
  obtain ⟨f3, hw⟩ := hw
  obtain ⟨f4, hw⟩ := hw
  obtain ⟨k9, n10, a11, a12, hw⟩ := hw
  refine x_newaB 4 f3 rfl f4 h a11 a12 dJ7_newBytesFor_4 (fun q5 e6 ν7 e8 => ?_)
  have hw := hw q5 e6 ν7 e8
  exact hR.2.2.2 6 (some q5) _ _ _ _ _ hT (by first | exact Or.inl ⟨_, rfl⟩ | exact Or.inr ⟨_, rfl⟩) dJ7_newBytesFor_6 ⟨_, rfl, hw⟩
theorem xm_J7_newBytesFor {l : Launch} {S : Adr} {A : Nat → Prop} (hD : FD xT S xcl A) {x0 : Int32} {ν : XN} {k n : Nat} {Q : Nat → XN → Prop} (hw : xw_J7_newBytesFor x0 ν k n Q) : xMet l S A 2 k n 1 yJ7_newBytesFor [.int x0] ν (pA Q) :=
  x_met (by decide +kernel) hD ⟨⟨by decide, by decide, by show _ = some 1; decide +kernel⟩, by decide, q641, q185⟩ (Nat.le_of_ble_eq_true rfl) (fun κ Z h hT hN hR => xt_J7_newBytesFor h hT hN hR hw)
def xw_J14_init (x0 : Nat) (x1 : Int32) (ν : XN) (k n : Nat) (Q : XN → Prop) : Prop :=
  (((1 : Int32) = 0 → (∃ k3 n4 k5 n6, k3 + k5 ≤ k ∧ n4 + n6 ≤ n ∧ xw_J7_newBytesFor x1 ν k3 n4 (fun r2 ν1 => (rk ν1.2 x0 = 17 ∧ (∀ ν9, ν9 = (ν1.1, tO ν1.2 x0 0 (some r2)) → (rk ν9.2 x0 = 17 ∧ (∀ ν12, ν12 = (ν9.1, tI ν9.2 x0 1 (1 : Int32)) → Q ν12))))))) ∧ (¬ (1 : Int32) = 0 → (¬ x1 < 0 ∧ (Int32.toNatClampNeg x1 ≤ 100000000 ∧ (∃ k21 n22, k21 + 1 ≤ k ∧ n22 + (Int32.toNatClampNeg x1) ≤ n ∧ ∀ q17, rk ν.2 q17 = 0 → ∀ ν19, ν19 = (ν.1, tN ν.2 q17 102 (Int32.toNatClampNeg x1)) → (rk ν19.2 x0 = 17 ∧ (∀ ν25, ν25 = (ν19.1, tO ν19.2 x0 0 (some q17)) → (rk ν25.2 x0 = 17 ∧ (∀ ν28, ν28 = (ν25.1, tI ν25.2 x0 1 (0 : Int32)) → Q ν28)))))))))
theorem xt_J14_init {κ : Cx} {S : Adr} {A : Nat → Prop} {mc ms : Nat} {Z : State → Prop} {Q : XN → Prop} (h : XCx κ cJ14_init RJ14 S A 3 mc ms) (hT : (cxT κ).sig.returnType = none) (hN : (cxT κ).name = "<init>") (hR : xRet κ S A mc ms Z cJ14_init (pV Q)) {x0 : Nat} {x1 : Int32} {ν : XN} {k n : Nat} (hw : xw_J14_init x0 x1 ν k n Q) : XG κ S A mc ms Z 0 (ν, k, n) [some (.ref x0), some (.int x1)] [] := by
  unfold xw_J14_init at hw
  refine g_aload_0 0 h.1 dJ14_init_0 ?_
  refine x_objInit 1 h (by decide) q1041 (Nat.le_of_ble_eq_true rfl) dJ14_init_1 ?_
  refine xs_J14_18 4 h dJ14_init_4 ?_
  refine g_if_eq 7 25 h.1 dJ14_init_7 (by decide) (fun c => ?_) (fun c => ?_)
  · have hw := hw.1 c
    refine g_aload_0 25 h.1 dJ14_init_25 ?_
    refine g_iload_1 26 h.1 dJ14_init_26 ?_
    obtain ⟨k3, n4, k5, n6, a7, a8, hw⟩ := hw
    refine xcS_A_1 27 h (xm_J7_newBytesFor h.2.2.1 hw) (by decide) a7 a8 q640 q1043 (Nat.le_of_ble_eq_true rfl) dJ14_init_27 (fun r2 ν1 hw => ?_)
    obtain ⟨f11, hw⟩ := hw
    refine xp_J14_15_16 30 (some r2) f11 h dJ14_init_30 (fun ν9 e10 => ?_)
    have hw := hw ν9 e10
    refine g_aload_0 33 h.1 dJ14_init_33 ?_
    refine g_iconstv 34 _ ic_1 h.1 dJ14_init_34 ?_
    obtain ⟨f14, hw⟩ := hw
    refine xp_J14_22_16 35 rfl rfl f14 h dJ14_init_35 (fun ν12 e13 => ?_)
    have hw := hw ν12 e13
    exact hR.2.2.1 38 _ _ _ _ hT dJ14_init_38 ⟨rfl, hw⟩
  · have hw := hw.2 c
    refine g_aload_0 10 h.1 dJ14_init_10 ?_
    refine g_iload_1 11 h.1 dJ14_init_11 ?_
    obtain ⟨f15, hw⟩ := hw
    obtain ⟨f16, hw⟩ := hw
    obtain ⟨k21, n22, a23, a24, hw⟩ := hw
    refine x_newaB 12 f15 rfl f16 h a23 a24 dJ14_init_12 (fun q17 e18 ν19 e20 => ?_)
    have hw := hw q17 e18 ν19 e20
    obtain ⟨f27, hw⟩ := hw
    refine xp_J14_15_16 14 (some q17) f27 h dJ14_init_14 (fun ν25 e26 => ?_)
    have hw := hw ν25 e26
    refine g_aload_0 17 h.1 dJ14_init_17 ?_
    refine g_iconstv 18 _ ic_0 h.1 dJ14_init_18 ?_
    obtain ⟨f30, hw⟩ := hw
    refine xp_J14_22_16 19 rfl rfl f30 h dJ14_init_19 (fun ν28 e29 => ?_)
    have hw := hw ν28 e29
    refine g_goto 22 38 h.1 dJ14_init_22 (by decide) ?_
    exact hR.2.2.1 38 _ _ _ _ hT dJ14_init_38 ⟨rfl, hw⟩
theorem xm_J14_init {l : Launch} {S : Adr} {A : Nat → Prop} (hD : FD xT S xcl A) {x0 : Nat} {x1 : Int32} {ν : XN} {k n : Nat} {Q : XN → Prop} (hw : xw_J14_init x0 x1 ν k n Q) : ∃ (bb : ByteArray) (L : Nat), xWd yJ14_init bb L none 1 ∧ Met l yJ14_init (ws_ yJ14_init bb L none) (rmX 3 k n) (va_Pc [.ref x0, .int x1] (xPre S A ν)) (xQ S A (pV Q)) k n A :=
  ⟨cJ14_init, 2, ⟨⟨by decide, by decide, by show _ = some 1; decide +kernel⟩, by decide, q1040, q198⟩, x_start (by decide +kernel) hD ⟨⟨by decide, by decide, by show _ = some 1; decide +kernel⟩, by decide, q1040, q198⟩ (Nat.le_of_ble_eq_true rfl) (fun κ Z h hT hN hR => xt_J14_init h hT hN hR hw)⟩
def xw_J15_init (x0 : Nat) (ν : XN) (k n : Nat) (Q : XN → Prop) : Prop :=
  (∃ k2 n3 k4 n5, k2 + k4 ≤ k ∧ n3 + n5 ≤ n ∧ xw_J14_init x0 (16 : Int32) ν k2 n3 (fun ν1 => Q ν1))
theorem xt_J15_init {κ : Cx} {S : Adr} {A : Nat → Prop} {mc ms : Nat} {Z : State → Prop} {Q : XN → Prop} (h : XCx κ cJ15_init RJ15 S A 4 mc ms) (hT : (cxT κ).sig.returnType = none) (hN : (cxT κ).name = "<init>") (hR : xRet κ S A mc ms Z cJ15_init (pV Q)) {x0 : Nat} {ν : XN} {k n : Nat} (hw : xw_J15_init x0 ν k n Q) : XG κ S A mc ms Z 0 (ν, k, n) [some (.ref x0)] [] := by
  unfold xw_J15_init at hw
  refine g_aload_0 0 h.1 dJ15_init_0 ?_
  refine g_bipush 1 _ bp_16 h.1 dJ15_init_1 ?_
  obtain ⟨k2, n3, k4, n5, a6, a7, hw⟩ := hw
  refine xcI_V_1 3 h (xm_J14_init h.2.2.1 hw) (by decide) a6 a7 rfl q1039 q1038 (Nat.le_of_ble_eq_true rfl) dJ15_init_3 (fun ν1 hw => ?_)
  exact hR.2.2.1 6 _ _ _ _ hT dJ15_init_6 ⟨rfl, hw⟩
theorem xm_J15_init {l : Launch} {S : Adr} {A : Nat → Prop} (hD : FD xT S xcl A) {x0 : Nat} {ν : XN} {k n : Nat} {Q : XN → Prop} (hw : xw_J15_init x0 ν k n Q) : ∃ (bb : ByteArray) (L : Nat), xWd yJ15_init bb L none 0 ∧ Met l yJ15_init (ws_ yJ15_init bb L none) (rmX 4 k n) (va_Pc [.ref x0] (xPre S A ν)) (xQ S A (pV Q)) k n A :=
  ⟨cJ15_init, 1, ⟨⟨by decide, by decide, by show _ = some 0; decide +kernel⟩, by decide, q1037, q199⟩, x_start (by decide +kernel) hD ⟨⟨by decide, by decide, by show _ = some 0; decide +kernel⟩, by decide, q1037, q199⟩ (Nat.le_of_ble_eq_true rfl) (fun κ Z h hT hN hR => xt_J15_init h hT hN hR hw)⟩
def xw_J14_newCapacity (x0 : Nat) (x1 : Int32) (ν : XN) (Q : Int32 → XN → Prop) : Prop :=
  (rc ν.2 x0 = 17 ∧ (∃ b2, (rO ν.2 x0 0) = some b2 ∧ (rc ν.2 b2 = 102 ∧ (rc ν.2 x0 = 17 ∧ (rc ν.2 x0 = 17 ∧ (xw_J10_newLength (Int32.ofNat (rn ν.2 b2)) ((x1 <<< ((rI ν.2 x0 1) &&& 31)) - (Int32.ofNat (rn ν.2 b2))) ((Int32.ofNat (rn ν.2 b2)) + ((2 : Int32) <<< ((rI ν.2 x0 1) &&& 31))) ν (fun r8 ν7 => ((¬ r8 = (2147483647 : Int32) → (rc ν7.2 x0 = 17 ∧ Q (r8 >>> ((rI ν7.2 x0 1) &&& 31)) ν7)) ∧ (r8 = (2147483647 : Int32) → False)))))))))
theorem xt_J14_newCapacity {κ : Cx} {S : Adr} {A : Nat → Prop} {Z : State → Prop} {Q : Int32 → XN → Prop} (h : XCx κ cJ14_newCapacity RJ14 S A 3 0 0) (hT : (cxT κ).sig.returnType = some .int) (hN : (cxT κ).name = "newCapacity") (hR : xRet κ S A 0 0 Z cJ14_newCapacity (pI Q)) {x0 : Nat} {x1 : Int32} {ν : XN} (hw : xw_J14_newCapacity x0 x1 ν Q) : XG κ S A 0 0 Z 0 (ν, 0, 0) [some (.ref x0), some (.int x1), none, none, none, none] [] := by
  unfold xw_J14_newCapacity at hw
  refine g_aload_0 0 h.1 dJ14_newCapacity_0 ?_
  obtain ⟨f1, hw⟩ := hw
  refine xg_J14_15_16 1 f1 h dJ14_newCapacity_1 ?_
  obtain ⟨b2, e3, hw⟩ := hw
  rw [e3]
  obtain ⟨f4, hw⟩ := hw
  refine ra_alen2 4 f4 h dJ14_newCapacity_4 ?_
  refine g_istore_2 5 h.1 rfl dJ14_newCapacity_5 ?_
  refine g_iload_1 6 h.1 dJ14_newCapacity_6 ?_
  refine g_aload_0 7 h.1 dJ14_newCapacity_7 ?_
  obtain ⟨f5, hw⟩ := hw
  refine xg_J14_22_16 8 f5 h dJ14_newCapacity_8 ?_
  refine g_ishl 11 h.1 dJ14_newCapacity_11 ?_
  refine g_istore_3 12 h.1 rfl dJ14_newCapacity_12 ?_
  refine g_iload_3 13 h.1 dJ14_newCapacity_13 ?_
  refine g_iload_2 14 h.1 dJ14_newCapacity_14 ?_
  refine g_isub 15 h.1 dJ14_newCapacity_15 ?_
  refine g_istore_4 16 h.1 rfl dJ14_newCapacity_16 ?_
  refine g_iload_2 18 h.1 dJ14_newCapacity_18 ?_
  refine g_iload_4 19 h.1 dJ14_newCapacity_19 ?_
  refine g_iload_2 21 h.1 dJ14_newCapacity_21 ?_
  refine g_iconstv 22 _ ic_2 h.1 dJ14_newCapacity_22 ?_
  refine g_aload_0 23 h.1 dJ14_newCapacity_23 ?_
  obtain ⟨f6, hw⟩ := hw
  refine xg_J14_22_16 24 f6 h dJ14_newCapacity_24 ?_
  refine g_ishl 27 h.1 dJ14_newCapacity_27 ?_
  refine g_iadd 28 h.1 dJ14_newCapacity_28 ?_
  refine xcS_I_3 29 h (xm_J10_newLength h.2.2.1 hw) (by decide) (Nat.le_of_eq (Nat.zero_add _)) (Nat.le_of_eq (Nat.zero_add _)) q882 q1160 (Nat.le_of_ble_eq_true rfl) dJ14_newCapacity_29 (fun r8 ν7 hw => ?_)
  refine g_istore_5 32 h.1 rfl dJ14_newCapacity_32 ?_
  refine g_iload_5 34 h.1 dJ14_newCapacity_34 ?_
  refine g_ldc 36 h.1 q1161 dJ14_newCapacity_36 ?_
  refine g_icmp_ne 38 51 h.1 dJ14_newCapacity_38 (by decide) (fun c => ?_) (fun c => ?_)
  · have hw := hw.1 c
    refine g_iload_5 51 h.1 dJ14_newCapacity_51 ?_
    refine g_aload_0 53 h.1 dJ14_newCapacity_53 ?_
    obtain ⟨f9, hw⟩ := hw
    refine xg_J14_22_16 54 f9 h dJ14_newCapacity_54 ?_
    refine g_ishr 57 h.1 dJ14_newCapacity_57 ?_
    exact hR.1 58 _ _ _ _ _ _ hT rfl dJ14_newCapacity_58 ⟨_, rfl, hw⟩
  · have hw := hw.2 c
    exact hw.elim
theorem xm_J14_newCapacity {l : Launch} {S : Adr} {A : Nat → Prop} (hD : FD xT S xcl A) {x0 : Nat} {x1 : Int32} {ν : XN} {Q : Int32 → XN → Prop} (hw : xw_J14_newCapacity x0 x1 ν Q) : xMet l S A 3 0 0 1 yJ14_newCapacity [.ref x0, .int x1] ν (pI Q) :=
  x_met (by decide +kernel) hD ⟨⟨by decide, by decide, by show _ = some 1; decide +kernel⟩, by decide, q1159, q198⟩ (Nat.le_of_ble_eq_true rfl) (fun κ Z h hT hN hR => xt_J14_newCapacity h hT hN hR hw)
def xw_J13_copyOf_3 (x0 : Nat) (x1 : Int32) (ν : XN) (k n : Nat) (Q : Nat → XN → Prop) : Prop :=
  (rc ν.2 x0 = 102 ∧ ((¬ x1 = (Int32.ofNat (rn ν.2 x0)) → (¬ x1 < 0 ∧ (Int32.toNatClampNeg x1 ≤ 100000000 ∧ (∃ k8 n9, k8 + 1 ≤ k ∧ n9 + (Int32.toNatClampNeg x1) ≤ n ∧ ∀ q4, rk ν.2 q4 = 0 → ∀ ν6, ν6 = (ν.1, tN ν.2 q4 102 (Int32.toNatClampNeg x1)) → (rc ν6.2 x0 = 102 ∧ (xw_J12_min (Int32.ofNat (rn ν6.2 x0)) x1 ν6 (fun r14 ν13 => (rc ν13.2 x0 = 102 ∧ (rk ν13.2 q4 = 102 ∧ (¬ r14 < 0 ∧ ((Int32.toNatClampNeg (0 : Int32)) + (Int32.toNatClampNeg r14) ≤ rn ν13.2 x0 ∧ ((Int32.toNatClampNeg (0 : Int32)) + (Int32.toNatClampNeg r14) ≤ rn ν13.2 q4 ∧ ((∀ i, i < (Int32.toNatClampNeg r14) → fits .byte (.int (rI ν13.2 x0 ((Int32.toNatClampNeg (0 : Int32)) + i))) = true) ∧ (∀ ν15, ν15 = (ν13.1, tIs ν13.2 q4 (va_cpy (rI ν13.2 x0) (rI ν13.2 q4) (Int32.toNatClampNeg (0 : Int32)) (Int32.toNatClampNeg (0 : Int32)) (Int32.toNatClampNeg r14))) → Q q4 ν15)))))))))))))) ∧ (x1 = (Int32.ofNat (rn ν.2 x0)) → False)))
theorem xt_J13_copyOf_3 {κ : Cx} {S : Adr} {A : Nat → Prop} {mc ms : Nat} {Z : State → Prop} {Q : Nat → XN → Prop} (h : XCx κ cJ13_copyOf_3 RJ13 S A 2 mc ms) (hT : (cxT κ).sig.returnType = some (.array .byte)) (hN : (cxT κ).name = "copyOf") (hR : xRet κ S A mc ms Z cJ13_copyOf_3 (pA Q)) {x0 : Nat} {x1 : Int32} {ν : XN} {k n : Nat} (hw : xw_J13_copyOf_3 x0 x1 ν k n Q) : XG κ S A mc ms Z 0 (ν, k, n) [some (.ref x0), some (.int x1), none] [] := by
  unfold xw_J13_copyOf_3 at hw
  refine g_iload_1 0 h.1 dJ13_copyOf_3_0 ?_
  refine g_aload_0 1 h.1 dJ13_copyOf_3_1 ?_
  obtain ⟨f1, hw⟩ := hw
  refine ra_alen2 2 f1 h dJ13_copyOf_3_2 ?_
  refine g_icmp_ne 3 14 h.1 dJ13_copyOf_3_3 (by decide) (fun c => ?_) (fun c => ?_)
  · have hw := hw.1 c
    refine g_iload_1 14 h.1 dJ13_copyOf_3_14 ?_
    obtain ⟨f2, hw⟩ := hw
    obtain ⟨f3, hw⟩ := hw
    obtain ⟨k8, n9, a10, a11, hw⟩ := hw
    refine x_newaB 15 f2 rfl f3 h a10 a11 dJ13_copyOf_3_15 (fun q4 e5 ν6 e7 => ?_)
    have hw := hw q4 e5 ν6 e7
    refine g_astore_2 17 h.1 rfl dJ13_copyOf_3_17 ?_
    refine g_aload_0 18 h.1 dJ13_copyOf_3_18 ?_
    refine g_iconstv 19 _ ic_0 h.1 dJ13_copyOf_3_19 ?_
    refine g_aload_2 20 h.1 dJ13_copyOf_3_20 ?_
    refine g_iconstv 21 _ ic_0 h.1 dJ13_copyOf_3_21 ?_
    refine g_aload_0 22 h.1 dJ13_copyOf_3_22 ?_
    obtain ⟨f12, hw⟩ := hw
    refine ra_alen2 23 f12 h dJ13_copyOf_3_23 ?_
    refine g_iload_1 24 h.1 dJ13_copyOf_3_24 ?_
    refine xcS_I_2 25 h (xm_J12_min h.2.2.1 hw) (by decide) (Nat.le_of_eq (Nat.zero_add _)) (Nat.le_of_eq (Nat.zero_add _)) q928 q927 (Nat.le_of_ble_eq_true rfl) dJ13_copyOf_3_25 (fun r14 ν13 hw => ?_)
    obtain ⟨f17, hw⟩ := hw
    obtain ⟨f18, hw⟩ := hw
    obtain ⟨f19, hw⟩ := hw
    obtain ⟨f20, hw⟩ := hw
    obtain ⟨f21, hw⟩ := hw
    obtain ⟨f22, hw⟩ := hw
    refine x_copyB 28 (by decide) f17 f18 (by decide) (by decide) f19 f20 f21 f22 h q930 (Nat.le_of_ble_eq_true rfl) dJ13_copyOf_3_28 (fun ν15 e16 => ?_)
    have hw := hw ν15 e16
    refine g_aload_2 31 h.1 dJ13_copyOf_3_31 ?_
    exact hR.2.2.2 32 (some q4) _ _ _ _ _ hT (by first | exact Or.inl ⟨_, rfl⟩ | exact Or.inr ⟨_, rfl⟩) dJ13_copyOf_3_32 ⟨_, rfl, hw⟩
  · have hw := hw.2 c
    exact hw.elim
theorem xm_J13_copyOf_3 {l : Launch} {S : Adr} {A : Nat → Prop} (hD : FD xT S xcl A) {x0 : Nat} {x1 : Int32} {ν : XN} {k n : Nat} {Q : Nat → XN → Prop} (hw : xw_J13_copyOf_3 x0 x1 ν k n Q) : xMet l S A 2 k n 2 yJ13_copyOf_3 [.ref x0, .int x1] ν (pA Q) :=
  x_met (by decide +kernel) hD ⟨⟨by decide, by decide, by show _ = some 2; decide +kernel⟩, by decide, q1164, q192⟩ (Nat.le_of_ble_eq_true rfl) (fun κ Z h hT hN hR => xt_J13_copyOf_3 h hT hN hR hw)
def xw_J14_ensureCapacityInternal (x0 : Nat) (x1 : Int32) (ν : XN) (k n : Nat) (Q : XN → Prop) : Prop :=
  (rc ν.2 x0 = 17 ∧ (∃ b2, (rO ν.2 x0 0) = some b2 ∧ (rc ν.2 b2 = 102 ∧ (rc ν.2 x0 = 17 ∧ (((x1 - ((Int32.ofNat (rn ν.2 b2)) >>> ((rI ν.2 x0 1) &&& 31))) ≤ 0 → Q ν) ∧ (¬ (x1 - ((Int32.ofNat (rn ν.2 b2)) >>> ((rI ν.2 x0 1) &&& 31))) ≤ 0 → (rc ν.2 x0 = 17 ∧ (rc ν.2 x0 = 17 ∧ (xw_J14_newCapacity x0 x1 ν (fun r8 ν7 => (rc ν7.2 x0 = 17 ∧ (∃ b11, (rO ν.2 x0 0) = some b11 ∧ (∃ k15 n16 k17 n18, k15 + k17 ≤ k ∧ n16 + n18 ≤ n ∧ xw_J13_copyOf_3 b11 (r8 <<< ((rI ν7.2 x0 1) &&& 31)) ν7 k15 n16 (fun r14 ν13 => (rk ν13.2 x0 = 17 ∧ (∀ ν21, ν21 = (ν13.1, tO ν13.2 x0 0 (some r14)) → Q ν21))))))))))))))))
theorem xt_J14_ensureCapacityInternal {κ : Cx} {S : Adr} {A : Nat → Prop} {mc ms : Nat} {Z : State → Prop} {Q : XN → Prop} (h : XCx κ cJ14_ensureCapacityInternal RJ14 S A 4 mc ms) (hT : (cxT κ).sig.returnType = none) (hN : (cxT κ).name = "ensureCapacityInternal") (hR : xRet κ S A mc ms Z cJ14_ensureCapacityInternal (pV Q)) {x0 : Nat} {x1 : Int32} {ν : XN} {k n : Nat} (hw : xw_J14_ensureCapacityInternal x0 x1 ν k n Q) : XG κ S A mc ms Z 0 (ν, k, n) [some (.ref x0), some (.int x1), none] [] := by
  unfold xw_J14_ensureCapacityInternal at hw
  refine g_aload_0 0 h.1 dJ14_ensureCapacityInternal_0 ?_
  obtain ⟨f1, hw⟩ := hw
  refine xg_J14_15_16 1 f1 h dJ14_ensureCapacityInternal_1 ?_
  obtain ⟨b2, e3, hw⟩ := hw
  rw [e3]
  obtain ⟨f4, hw⟩ := hw
  refine ra_alen2 4 f4 h dJ14_ensureCapacityInternal_4 ?_
  refine g_aload_0 5 h.1 dJ14_ensureCapacityInternal_5 ?_
  obtain ⟨f5, hw⟩ := hw
  refine xg_J14_22_16 6 f5 h dJ14_ensureCapacityInternal_6 ?_
  refine g_ishr 9 h.1 dJ14_ensureCapacityInternal_9 ?_
  refine g_istore_2 10 h.1 rfl dJ14_ensureCapacityInternal_10 ?_
  refine g_iload_1 11 h.1 dJ14_ensureCapacityInternal_11 ?_
  refine g_iload_2 12 h.1 dJ14_ensureCapacityInternal_12 ?_
  refine g_isub 13 h.1 dJ14_ensureCapacityInternal_13 ?_
  refine g_if_le 14 38 h.1 dJ14_ensureCapacityInternal_14 (by decide) (fun c => ?_) (fun c => ?_)
  · have hw := hw.1 c
    exact hR.2.2.1 38 _ _ _ _ hT dJ14_ensureCapacityInternal_38 ⟨rfl, hw⟩
  · have hw := hw.2 c
    refine g_aload_0 17 h.1 dJ14_ensureCapacityInternal_17 ?_
    refine g_aload_0 18 h.1 dJ14_ensureCapacityInternal_18 ?_
    obtain ⟨f6, hw⟩ := hw
    refine xg_J14_15_16 19 f6 h dJ14_ensureCapacityInternal_19 ?_
    refine g_aload_0 22 h.1 dJ14_ensureCapacityInternal_22 ?_
    refine g_iload_1 23 h.1 dJ14_ensureCapacityInternal_23 ?_
    obtain ⟨f9, hw⟩ := hw
    refine xcP_I_1 24 f9 h (xm_J14_newCapacity h.2.2.1 hw) (by decide) (Nat.le_of_eq (Nat.zero_add _)) (Nat.le_of_eq (Nat.zero_add _)) rfl q1157 q2701 q1158 q1156 (by simp only [List.map_cons, List.map_nil, cat_rf]; exact Nat.le_of_ble_eq_true rfl) dJ14_ensureCapacityInternal_24 (fun r8 ν7 hw => ?_)
    refine g_aload_0 27 h.1 dJ14_ensureCapacityInternal_27 ?_
    obtain ⟨f10, hw⟩ := hw
    refine xg_J14_22_16 28 f10 h dJ14_ensureCapacityInternal_28 ?_
    refine g_ishl 31 h.1 dJ14_ensureCapacityInternal_31 ?_
    obtain ⟨b11, e12, hw⟩ := hw
    rw [e12]
    obtain ⟨k15, n16, k17, n18, a19, a20, hw⟩ := hw
    refine xcS_A_2 32 h (xm_J13_copyOf_3 h.2.2.1 hw) (by decide) a19 a20 q1163 q1162 (Nat.le_of_ble_eq_true rfl) dJ14_ensureCapacityInternal_32 (fun r14 ν13 hw => ?_)
    obtain ⟨f23, hw⟩ := hw
    refine xp_J14_15_16 35 (some r14) f23 h dJ14_ensureCapacityInternal_35 (fun ν21 e22 => ?_)
    have hw := hw ν21 e22
    exact hR.2.2.1 38 _ _ _ _ hT dJ14_ensureCapacityInternal_38 ⟨rfl, hw⟩
theorem xm_J14_ensureCapacityInternal {l : Launch} {S : Adr} {A : Nat → Prop} (hD : FD xT S xcl A) {x0 : Nat} {x1 : Int32} {ν : XN} {k n : Nat} {Q : XN → Prop} (hw : xw_J14_ensureCapacityInternal x0 x1 ν k n Q) : xMet l S A 4 k n 1 yJ14_ensureCapacityInternal [.ref x0, .int x1] ν (pV Q) :=
  x_met (by decide +kernel) hD ⟨⟨by decide, by decide, by show _ = some 1; decide +kernel⟩, by decide, q1155, q198⟩ (Nat.le_of_ble_eq_true rfl) (fun κ Z h hT hN hR => xt_J14_ensureCapacityInternal h hT hN hR hw)
def xw_J14_isLatin1 (x0 : Nat) (ν : XN) (Q : Int32 → XN → Prop) : Prop :=
  (((1 : Int32) = 0 → Q (0 : Int32) ν) ∧ (¬ (1 : Int32) = 0 → (rc ν.2 x0 = 17 ∧ ((¬ (rI ν.2 x0 1) = 0 → Q (0 : Int32) ν) ∧ ((rI ν.2 x0 1) = 0 → Q (1 : Int32) ν)))))
theorem xt_J14_isLatin1 {κ : Cx} {S : Adr} {A : Nat → Prop} {Z : State → Prop} {Q : Int32 → XN → Prop} (h : XCx κ cJ14_isLatin1 RJ14 S A 1 0 0) (hT : (cxT κ).sig.returnType = some .boolean) (hN : (cxT κ).name = "isLatin1") (hR : xRet κ S A 0 0 Z cJ14_isLatin1 (pI Q)) {x0 : Nat} {ν : XN} (hw : xw_J14_isLatin1 x0 ν Q) : XG κ S A 0 0 Z 0 (ν, 0, 0) [some (.ref x0)] [] := by
  unfold xw_J14_isLatin1 at hw
  refine xs_J14_18 0 h dJ14_isLatin1_0 ?_
  refine g_if_eq 3 17 h.1 dJ14_isLatin1_3 (by decide) (fun c => ?_) (fun c => ?_)
  · have hw := hw.1 c
    refine g_iconstv 17 _ ic_0 h.1 dJ14_isLatin1_17 ?_
    exact hR.1 18 _ _ _ _ _ _ hT rfl dJ14_isLatin1_18 ⟨_, rfl, hw⟩
  · have hw := hw.2 c
    refine g_aload_0 6 h.1 dJ14_isLatin1_6 ?_
    obtain ⟨f1, hw⟩ := hw
    refine xg_J14_22_16 7 f1 h dJ14_isLatin1_7 ?_
    refine g_if_ne 10 17 h.1 dJ14_isLatin1_10 (by decide) (fun c => ?_) (fun c => ?_)
    · have hw := hw.1 c
      refine g_iconstv 17 _ ic_0 h.1 dJ14_isLatin1_17 ?_
      exact hR.1 18 _ _ _ _ _ _ hT rfl dJ14_isLatin1_18 ⟨_, rfl, hw⟩
    · have hw := hw.2 c
      refine g_iconstv 13 _ ic_1 h.1 dJ14_isLatin1_13 ?_
      refine g_goto 14 18 h.1 dJ14_isLatin1_14 (by decide) ?_
      exact hR.1 18 _ _ _ _ _ _ hT rfl dJ14_isLatin1_18 ⟨_, rfl, hw⟩
theorem xm_J14_isLatin1 {l : Launch} {S : Adr} {A : Nat → Prop} (hD : FD xT S xcl A) {x0 : Nat} {ν : XN} {Q : Int32 → XN → Prop} (hw : xw_J14_isLatin1 x0 ν Q) : xMet l S A 1 0 0 0 yJ14_isLatin1 [.ref x0] ν (pI Q) :=
  x_met (by decide +kernel) hD ⟨⟨by decide, by decide, by show _ = some 0; decide +kernel⟩, by decide, q1176, q198⟩ (Nat.le_of_ble_eq_true rfl) (fun κ Z h hT hN hR => xt_J14_isLatin1 h hT hN hR hw)
def xw_J9_canEncode (x0 : Int32) (ν : XN) (Q : Int32 → XN → Prop) : Prop :=
  (((255 : Int32) < x0 → Q (0 : Int32) ν) ∧ (¬ (255 : Int32) < x0 → Q (1 : Int32) ν))
theorem xt_J9_canEncode {κ : Cx} {S : Adr} {A : Nat → Prop} {Z : State → Prop} {Q : Int32 → XN → Prop} (h : XCx κ cJ9_canEncode RJ9 S A 1 0 0) (hT : (cxT κ).sig.returnType = some .boolean) (hN : (cxT κ).name = "canEncode") (hR : xRet κ S A 0 0 Z cJ9_canEncode (pI Q)) {x0 : Int32} {ν : XN} (hw : xw_J9_canEncode x0 ν Q) : XG κ S A 0 0 Z 0 (ν, 0, 0) [some (.int x0)] [] := by
  unfold xw_J9_canEncode at hw
  refine g_iload_0 0 h.1 dJ9_canEncode_0 ?_
  refine g_sipush 1 _ sp_255 h.1 dJ9_canEncode_1 ?_
  refine g_icmp_gt 4 11 h.1 dJ9_canEncode_4 (by decide) (fun c => ?_) (fun c => ?_)
  · have hw := hw.1 c
    refine g_iconstv 11 _ ic_0 h.1 dJ9_canEncode_11 ?_
    exact hR.1 12 _ _ _ _ _ _ hT rfl dJ9_canEncode_12 ⟨_, rfl, hw⟩
  · have hw := hw.2 c
    refine g_iconstv 7 _ ic_1 h.1 dJ9_canEncode_7 ?_
    refine g_goto 8 12 h.1 dJ9_canEncode_8 (by decide) ?_
    exact hR.1 12 _ _ _ _ _ _ hT rfl dJ9_canEncode_12 ⟨_, rfl, hw⟩
theorem xm_J9_canEncode {l : Launch} {S : Adr} {A : Nat → Prop} (hD : FD xT S xcl A) {x0 : Int32} {ν : XN} {Q : Int32 → XN → Prop} (hw : xw_J9_canEncode x0 ν Q) : xMet l S A 1 0 0 1 yJ9_canEncode [.int x0] ν (pI Q) :=
  x_met (by decide +kernel) hD ⟨⟨by decide, by decide, by show _ = some 1; decide +kernel⟩, by decide, q1179, q187⟩ (Nat.le_of_ble_eq_true rfl) (fun κ Z h hT hN hR => xt_J9_canEncode h hT hN hR hw)
def xw_J7_length (x0 : Nat) (ν : XN) (Q : Int32 → XN → Prop) : Prop :=
  (rc ν.2 x0 = 102 ∧ Q ((Int32.ofNat (rn ν.2 x0)) >>> ((1 : Int32) &&& 31)) ν)
theorem xt_J7_length {κ : Cx} {S : Adr} {A : Nat → Prop} {Z : State → Prop} {Q : Int32 → XN → Prop} (h : XCx κ cJ7_length RJ7 S A 1 0 0) (hT : (cxT κ).sig.returnType = some .int) (hN : (cxT κ).name = "length") (hR : xRet κ S A 0 0 Z cJ7_length (pI Q)) {x0 : Nat} {ν : XN} (hw : xw_J7_length x0 ν Q) : XG κ S A 0 0 Z 0 (ν, 0, 0) [some (.ref x0)] [] := by
  unfold xw_J7_length at hw
  refine g_aload_0 0 h.1 dJ7_length_0 ?_
  obtain ⟨f1, hw⟩ := hw
  refine ra_alen2 1 f1 h dJ7_length_1 ?_
  refine g_iconstv 2 _ ic_1 h.1 dJ7_length_2 ?_
  refine g_ishr 3 h.1 dJ7_length_3 ?_
  exact hR.1 4 _ _ _ _ _ _ hT rfl dJ7_length_4 ⟨_, rfl, hw⟩
theorem xm_J7_length {l : Launch} {S : Adr} {A : Nat → Prop} (hD : FD xT S xcl A) {x0 : Nat} {ν : XN} {Q : Int32 → XN → Prop} (hw : xw_J7_length x0 ν Q) : xMet l S A 1 0 0 1 yJ7_length [.ref x0] ν (pI Q) :=
  x_met (by decide +kernel) hD ⟨⟨by decide, by decide, by show _ = some 1; decide +kernel⟩, by decide, q653, q185⟩ (Nat.le_of_ble_eq_true rfl) (fun κ Z h hT hN hR => xt_J7_length h hT hN hR hw)
def xw_J8_checkFromIndexSize_15 (x0 : Int32) (x1 : Int32) (x2 : Int32) (x3 : Nat) (ν : XN) (Q : Int32 → XN → Prop) : Prop :=
  False
theorem xt_J8_checkFromIndexSize_15 {κ : Cx} {S : Adr} {A : Nat → Prop} {Z : State → Prop} {Q : Int32 → XN → Prop} (h : XCx κ cJ8_checkFromIndexSize RJ8 S A 1 0 0) (hT : (cxT κ).sig.returnType = some .int) (hN : (cxT κ).name = "checkFromIndexSize") (hR : xRet κ S A 0 0 Z cJ8_checkFromIndexSize (pI Q)) {x0 : Int32} {x1 : Int32} {x2 : Int32} {x3 : Nat} {ν : XN} (hw : xw_J8_checkFromIndexSize_15 x0 x1 x2 x3 ν Q) : XG κ S A 0 0 Z 15 (ν, 0, 0) [some (.int x0), some (.int x1), some (.int x2), some (.ref x3)] [] := by
  unfold xw_J8_checkFromIndexSize_15 at hw
  exact hw.elim
def xw_J8_checkFromIndexSize (x0 : Int32) (x1 : Int32) (x2 : Int32) (x3 : Nat) (ν : XN) (Q : Int32 → XN → Prop) : Prop :=
  ((((x2 ||| x0) ||| x1) < 0 → xw_J8_checkFromIndexSize_15 x0 x1 x2 x3 ν Q) ∧ (¬ ((x2 ||| x0) ||| x1) < 0 → ((x1 ≤ (x2 - x0) → Q x0 ν) ∧ (¬ x1 ≤ (x2 - x0) → xw_J8_checkFromIndexSize_15 x0 x1 x2 x3 ν Q))))
theorem xt_J8_checkFromIndexSize {κ : Cx} {S : Adr} {A : Nat → Prop} {Z : State → Prop} {Q : Int32 → XN → Prop} (h : XCx κ cJ8_checkFromIndexSize RJ8 S A 1 0 0) (hT : (cxT κ).sig.returnType = some .int) (hN : (cxT κ).name = "checkFromIndexSize") (hR : xRet κ S A 0 0 Z cJ8_checkFromIndexSize (pI Q)) {x0 : Int32} {x1 : Int32} {x2 : Int32} {x3 : Nat} {ν : XN} (hw : xw_J8_checkFromIndexSize x0 x1 x2 x3 ν Q) : XG κ S A 0 0 Z 0 (ν, 0, 0) [some (.int x0), some (.int x1), some (.int x2), some (.ref x3)] [] := by
  unfold xw_J8_checkFromIndexSize at hw
  refine g_iload_2 0 h.1 dJ8_checkFromIndexSize_0 ?_
  refine g_iload_0 1 h.1 dJ8_checkFromIndexSize_1 ?_
  refine g_ior 2 h.1 dJ8_checkFromIndexSize_2 ?_
  refine g_iload_1 3 h.1 dJ8_checkFromIndexSize_3 ?_
  refine g_ior 4 h.1 dJ8_checkFromIndexSize_4 ?_
  refine g_if_lt 5 15 h.1 dJ8_checkFromIndexSize_5 (by decide) (fun c => ?_) (fun c => ?_)
  · have hw := hw.1 c
    exact g_le (xt_J8_checkFromIndexSize_15 h hT hN hR hw) ⟨rfl, rfl, rfl, rfl, trivial⟩
  · have hw := hw.2 c
    refine g_iload_1 8 h.1 dJ8_checkFromIndexSize_8 ?_
    refine g_iload_2 9 h.1 dJ8_checkFromIndexSize_9 ?_
    refine g_iload_0 10 h.1 dJ8_checkFromIndexSize_10 ?_
    refine g_isub 11 h.1 dJ8_checkFromIndexSize_11 ?_
    refine g_icmp_le 12 23 h.1 dJ8_checkFromIndexSize_12 (by decide) (fun c => ?_) (fun c => ?_)
    · have hw := hw.1 c
      refine g_iload_0 23 h.1 dJ8_checkFromIndexSize_23 ?_
      exact hR.1 24 _ _ _ _ _ _ hT rfl dJ8_checkFromIndexSize_24 ⟨_, rfl, hw⟩
    · have hw := hw.2 c
      exact g_le (xt_J8_checkFromIndexSize_15 h hT hN hR hw) ⟨rfl, rfl, rfl, rfl, trivial⟩
theorem xm_J8_checkFromIndexSize {l : Launch} {S : Adr} {A : Nat → Prop} (hD : FD xT S xcl A) {x0 : Int32} {x1 : Int32} {x2 : Int32} {x3 : Nat} {ν : XN} {Q : Int32 → XN → Prop} (hw : xw_J8_checkFromIndexSize x0 x1 x2 x3 ν Q) : xMet l S A 1 0 0 4 yJ8_checkFromIndexSize [.int x0, .int x1, .int x2, .ref x3] ν (pI Q) :=
  x_met (by decide +kernel) hD ⟨⟨by decide, by decide, by show _ = some 4; decide +kernel⟩, by decide, q674, q186⟩ (Nat.le_of_ble_eq_true rfl) (fun κ Z h hT hN hR => xt_J8_checkFromIndexSize h hT hN hR hw)
def xw_J6_checkBoundsOffCount (x0 : Int32) (x1 : Int32) (x2 : Int32) (ν : XN) (Q : Int32 → XN → Prop) : Prop :=
  (∀ b1 : Option Nat, (∃ b2, b1 = some b2 ∧ (xw_J8_checkFromIndexSize x0 x1 x2 b2 ν (fun r5 ν4 => Q r5 ν4))))
theorem xt_J6_checkBoundsOffCount {κ : Cx} {S : Adr} {A : Nat → Prop} {Z : State → Prop} {Q : Int32 → XN → Prop} (h : XCx κ cJ6_checkBoundsOffCount RJ6 S A 2 0 0) (hT : (cxT κ).sig.returnType = some .int) (hN : (cxT κ).name = "checkBoundsOffCount") (hR : xRet κ S A 0 0 Z cJ6_checkBoundsOffCount (pI Q)) {x0 : Int32} {x1 : Int32} {x2 : Int32} {ν : XN} (hw : xw_J6_checkBoundsOffCount x0 x1 x2 ν Q) : XG κ S A 0 0 Z 0 (ν, 0, 0) [some (.int x0), some (.int x1), some (.int x2)] [] := by
  unfold xw_J6_checkBoundsOffCount at hw
  refine g_iload_0 0 h.1 dJ6_checkBoundsOffCount_0 ?_
  refine g_iload_1 1 h.1 dJ6_checkBoundsOffCount_1 ?_
  refine g_iload_2 2 h.1 dJ6_checkBoundsOffCount_2 ?_
  refine xs_J6_1053 3 h dJ6_checkBoundsOffCount_3 (fun b1 => ?_)
  have hw := hw b1
  obtain ⟨b2, e3, hw⟩ := hw
  rw [e3]
  refine xcS_I_4 6 h (xm_J8_checkFromIndexSize h.2.2.1 hw) (by decide) (Nat.le_of_eq (Nat.zero_add _)) (Nat.le_of_eq (Nat.zero_add _)) q673 q672 (Nat.le_of_ble_eq_true rfl) dJ6_checkBoundsOffCount_6 (fun r5 ν4 hw => ?_)
  exact hR.1 9 _ _ _ _ _ _ hT rfl dJ6_checkBoundsOffCount_9 ⟨_, rfl, hw⟩
theorem xm_J6_checkBoundsOffCount {l : Launch} {S : Adr} {A : Nat → Prop} (hD : FD xT S xcl A) {x0 : Int32} {x1 : Int32} {x2 : Int32} {ν : XN} {Q : Int32 → XN → Prop} (hw : xw_J6_checkBoundsOffCount x0 x1 x2 ν Q) : xMet l S A 2 0 0 3 yJ6_checkBoundsOffCount [.int x0, .int x1, .int x2] ν (pI Q) :=
  x_met (by decide +kernel) hD ⟨⟨by decide, by decide, by show _ = some 3; decide +kernel⟩, by decide, q669, q184⟩ (Nat.le_of_ble_eq_true rfl) (fun κ Z h hT hN hR => xt_J6_checkBoundsOffCount h hT hN hR hw)
def xw_J7_checkBoundsOffCount (x0 : Int32) (x1 : Int32) (x2 : Nat) (ν : XN) (Q : XN → Prop) : Prop :=
  (xw_J7_length x2 ν (fun r2 ν1 => (xw_J6_checkBoundsOffCount x0 x1 r2 ν1 (fun r4 ν3 => Q ν3))))
theorem xt_J7_checkBoundsOffCount {κ : Cx} {S : Adr} {A : Nat → Prop} {Z : State → Prop} {Q : XN → Prop} (h : XCx κ cJ7_checkBoundsOffCount RJ7 S A 3 0 0) (hT : (cxT κ).sig.returnType = none) (hN : (cxT κ).name = "checkBoundsOffCount") (hR : xRet κ S A 0 0 Z cJ7_checkBoundsOffCount (pV Q)) {x0 : Int32} {x1 : Int32} {x2 : Nat} {ν : XN} (hw : xw_J7_checkBoundsOffCount x0 x1 x2 ν Q) : XG κ S A 0 0 Z 0 (ν, 0, 0) [some (.int x0), some (.int x1), some (.ref x2)] [] := by
  unfold xw_J7_checkBoundsOffCount at hw
  refine g_iload_0 0 h.1 dJ7_checkBoundsOffCount_0 ?_
  refine g_iload_1 1 h.1 dJ7_checkBoundsOffCount_1 ?_
  refine g_aload_2 2 h.1 dJ7_checkBoundsOffCount_2 ?_
  refine xcS_I_1 3 h (xm_J7_length h.2.2.1 hw) (by decide) (Nat.le_of_eq (Nat.zero_add _)) (Nat.le_of_eq (Nat.zero_add _)) q652 q651 (Nat.le_of_ble_eq_true rfl) dJ7_checkBoundsOffCount_3 (fun r2 ν1 hw => ?_)
  refine xcS_I_3 6 h (xm_J6_checkBoundsOffCount h.2.2.1 hw) (by decide) (Nat.le_of_eq (Nat.zero_add _)) (Nat.le_of_eq (Nat.zero_add _)) q668 q667 (Nat.le_of_ble_eq_true rfl) dJ7_checkBoundsOffCount_6 (fun r4 ν3 hw => ?_)
  refine g_pop 9 rfl h.1 dJ7_checkBoundsOffCount_9 ?_
  exact hR.2.2.1 10 _ _ _ _ hT dJ7_checkBoundsOffCount_10 ⟨rfl, hw⟩
theorem xm_J7_checkBoundsOffCount {l : Launch} {S : Adr} {A : Nat → Prop} (hD : FD xT S xcl A) {x0 : Int32} {x1 : Int32} {x2 : Nat} {ν : XN} {Q : XN → Prop} (hw : xw_J7_checkBoundsOffCount x0 x1 x2 ν Q) : xMet l S A 3 0 0 3 yJ7_checkBoundsOffCount [.int x0, .int x1, .ref x2] ν (pV Q) :=
  x_met (by decide +kernel) hD ⟨⟨by decide, by decide, by show _ = some 3; decide +kernel⟩, by decide, q666, q185⟩ (Nat.le_of_ble_eq_true rfl) (fun κ Z h hT hN hR => xt_J7_checkBoundsOffCount h hT hN hR hw)
def xw_J7_putChar (x0 : Nat) (x1 : Int32) (x2 : Int32) (ν : XN) (Q : XN → Prop) : Prop :=
  False
theorem xt_J7_putChar {κ : Cx} {S : Adr} {A : Nat → Prop} {Z : State → Prop} {Q : XN → Prop} (h : XCx κ cJ7_putChar RJ7 S A 1 0 0) (hT : (cxT κ).sig.returnType = none) (hN : (cxT κ).name = "putChar") (hR : xRet κ S A 0 0 Z cJ7_putChar (pV Q)) {x0 : Nat} {x1 : Int32} {x2 : Int32} {ν : XN} (hw : xw_J7_putChar x0 x1 x2 ν Q) : XG κ S A 0 0 Z 0 (ν, 0, 0) [some (.ref x0), some (.int x1), some (.int x2)] [] := by
  unfold xw_J7_putChar at hw
  exact hw.elim
theorem xm_J7_putChar {l : Launch} {S : Adr} {A : Nat → Prop} (hD : FD xT S xcl A) {x0 : Nat} {x1 : Int32} {x2 : Int32} {ν : XN} {Q : XN → Prop} (hw : xw_J7_putChar x0 x1 x2 ν Q) : xMet l S A 1 0 0 3 yJ7_putChar [.ref x0, .int x1, .int x2] ν (pV Q) :=
  x_met (by decide +kernel) hD ⟨⟨by decide, by decide, by show _ = some 3; decide +kernel⟩, by decide, q648, q185⟩ (Nat.le_of_ble_eq_true rfl) (fun κ Z h hT hN hR => xt_J7_putChar h hT hN hR hw)
def xw_J7_inflate_10 (x0 : Nat) (x1 : Int32) (x2 : Nat) (x3 : Int32) (x4 : Int32) (x5 : Int32) (ν : XN) (Q : XN → Prop) : Prop :=
  ∀ X10 : Nat → Int32 → Nat → Int32 → Int32 → Int32 → XN → Prop, (∀ (x0 : Nat) (x1 : Int32) (x2 : Nat) (x3 : Int32) (x4 : Int32) (x5 : Int32) (ν : XN), ((x4 ≤ x5 → Q ν) ∧ (¬ x4 ≤ x5 → (rc ν.2 x0 = 102 ∧ (vp_in x1 (rn ν.2 x0) ∧ (xw_J7_putChar x2 x3 ((rI ν.2 x0 (Int32.toNatClampNeg x1)) &&& (255 : Int32)) ν (fun ν4 => X10 x0 (x1 + 1) x2 (x3 + 1) x4 (x5 + 1) ν4)))))) → X10 x0 x1 x2 x3 x4 x5 ν) → X10 x0 x1 x2 x3 x4 x5 ν
theorem xt_J7_inflate_10 {κ : Cx} {S : Adr} {A : Nat → Prop} {Z : State → Prop} {Q : XN → Prop} (h : XCx κ cJ7_inflate RJ7 S A 4 0 0) (hT : (cxT κ).sig.returnType = none) (hN : (cxT κ).name = "inflate") (hR : xRet κ S A 0 0 Z cJ7_inflate (pV Q)) {x0 : Nat} {x1 : Int32} {x2 : Nat} {x3 : Int32} {x4 : Int32} {x5 : Int32} {ν : XN} (hw : xw_J7_inflate_10 x0 x1 x2 x3 x4 x5 ν Q) : XG κ S A 0 0 Z 10 (ν, 0, 0) [some (.ref x0), some (.int x1), some (.ref x2), some (.int x3), some (.int x4), some (.int x5)] [] := by
  refine hw (fun x0 x1 x2 x3 x4 x5 ν => XG κ S A 0 0 Z 10 (ν, 0, 0) [some (.ref x0), some (.int x1), some (.ref x2), some (.int x3), some (.int x4), some (.int x5)] []) ?_
  clear hw
  intro x0 x1 x2 x3 x4 x5 ν hw
  have hX10 : ∀ (x0 : Nat) (x1 : Int32) (x2 : Nat) (x3 : Int32) (x4 : Int32) (x5 : Int32) (ν : XN), XG κ S A 0 0 Z 10 (ν, 0, 0) [some (.ref x0), some (.int x1), some (.ref x2), some (.int x3), some (.int x4), some (.int x5)] [] → XG κ S A 0 0 Z 10 (ν, 0, 0) [some (.ref x0), some (.int x1), some (.ref x2), some (.int x3), some (.int x4), some (.int x5)] [] := fun _ _ _ _ _ _ _ hh => hh
  refine g_iload_5 10 h.1 dJ7_inflate_10 ?_
  refine g_iload_4 12 h.1 dJ7_inflate_12 ?_
  refine g_icmp_ge 14 41 h.1 dJ7_inflate_14 (by decide) (fun c => ?_) (fun c => ?_)
  · have hw := hw.1 c
    exact hR.2.2.1 41 _ _ _ _ hT dJ7_inflate_41 ⟨rfl, hw⟩
  · have hw := hw.2 c
    refine g_aload_2 17 h.1 dJ7_inflate_17 ?_
    refine g_iload_3 18 h.1 dJ7_inflate_18 ?_
    refine g_iinc_3 19 (x3 + 1) (congrArg _ ic_1) h.1 rfl dJ7_inflate_19 ?_
    refine g_aload_0 22 h.1 dJ7_inflate_22 ?_
    refine g_iload_1 23 h.1 dJ7_inflate_23 ?_
    refine g_iinc_1 24 (x1 + 1) (congrArg _ ic_1) h.1 rfl dJ7_inflate_24 ?_
    obtain ⟨f2, hw⟩ := hw
    obtain ⟨f3, hw⟩ := hw
    refine ra_bald 27 f2 f3 h dJ7_inflate_27 ?_
    refine g_sipush 28 _ sp_255 h.1 dJ7_inflate_28 ?_
    refine g_iand 31 h.1 dJ7_inflate_31 ?_
    refine xcS_V_3 32 h (xm_J7_putChar h.2.2.1 hw) (by decide) (Nat.le_of_eq (Nat.zero_add _)) (Nat.le_of_eq (Nat.zero_add _)) q647 q646 (Nat.le_of_ble_eq_true rfl) dJ7_inflate_32 (fun ν4 hw => ?_)
    refine g_iinc_5 35 (x5 + 1) (congrArg _ ic_1) h.1 rfl dJ7_inflate_35 ?_
    refine g_goto 38 10 h.1 dJ7_inflate_38 (by decide) ?_
    exact g_le (hX10 _ _ _ _ _ _ _ hw) ⟨rfl, rfl, rfl, rfl, rfl, rfl, trivial⟩
def xw_J7_inflate (x0 : Nat) (x1 : Int32) (x2 : Nat) (x3 : Int32) (x4 : Int32) (ν : XN) (Q : XN → Prop) : Prop :=
  (xw_J7_checkBoundsOffCount x3 x4 x2 ν (fun ν1 => xw_J7_inflate_10 x0 x1 x2 x3 x4 (0 : Int32) ν1 Q))
theorem xt_J7_inflate {κ : Cx} {S : Adr} {A : Nat → Prop} {Z : State → Prop} {Q : XN → Prop} (h : XCx κ cJ7_inflate RJ7 S A 4 0 0) (hT : (cxT κ).sig.returnType = none) (hN : (cxT κ).name = "inflate") (hR : xRet κ S A 0 0 Z cJ7_inflate (pV Q)) {x0 : Nat} {x1 : Int32} {x2 : Nat} {x3 : Int32} {x4 : Int32} {ν : XN} (hw : xw_J7_inflate x0 x1 x2 x3 x4 ν Q) : XG κ S A 0 0 Z 0 (ν, 0, 0) [some (.ref x0), some (.int x1), some (.ref x2), some (.int x3), some (.int x4), none] [] := by
  unfold xw_J7_inflate at hw
  refine g_iload_3 0 h.1 dJ7_inflate_0 ?_
  refine g_iload_4 1 h.1 dJ7_inflate_1 ?_
  refine g_aload_2 3 h.1 dJ7_inflate_3 ?_
  refine xcS_V_3 4 h (xm_J7_checkBoundsOffCount h.2.2.1 hw) (by decide) (Nat.le_of_eq (Nat.zero_add _)) (Nat.le_of_eq (Nat.zero_add _)) q665 q664 (Nat.le_of_ble_eq_true rfl) dJ7_inflate_4 (fun ν1 hw => ?_)
  refine g_iconstv 7 _ ic_0 h.1 dJ7_inflate_7 ?_
  refine g_istore_5 8 h.1 rfl dJ7_inflate_8 ?_
  exact g_le (xt_J7_inflate_10 h hT hN hR hw) ⟨rfl, rfl, rfl, rfl, rfl, rfl, trivial⟩
theorem xm_J7_inflate {l : Launch} {S : Adr} {A : Nat → Prop} (hD : FD xT S xcl A) {x0 : Nat} {x1 : Int32} {x2 : Nat} {x3 : Int32} {x4 : Int32} {ν : XN} {Q : XN → Prop} (hw : xw_J7_inflate x0 x1 x2 x3 x4 ν Q) : xMet l S A 4 0 0 5 yJ7_inflate [.ref x0, .int x1, .ref x2, .int x3, .int x4] ν (pV Q) :=
  x_met (by decide +kernel) hD ⟨⟨by decide, by decide, by show _ = some 5; decide +kernel⟩, by decide, q1189, q185⟩ (Nat.le_of_ble_eq_true rfl) (fun κ Z h hT hN hR => xt_J7_inflate h hT hN hR hw)
def xw_J9_inflate (x0 : Nat) (x1 : Int32) (x2 : Nat) (x3 : Int32) (x4 : Int32) (ν : XN) (Q : XN → Prop) : Prop :=
  (xw_J7_inflate x0 x1 x2 x3 x4 ν (fun ν1 => Q ν1))
theorem xt_J9_inflate {κ : Cx} {S : Adr} {A : Nat → Prop} {Z : State → Prop} {Q : XN → Prop} (h : XCx κ cJ9_inflate RJ9 S A 5 0 0) (hT : (cxT κ).sig.returnType = none) (hN : (cxT κ).name = "inflate") (hR : xRet κ S A 0 0 Z cJ9_inflate (pV Q)) {x0 : Nat} {x1 : Int32} {x2 : Nat} {x3 : Int32} {x4 : Int32} {ν : XN} (hw : xw_J9_inflate x0 x1 x2 x3 x4 ν Q) : XG κ S A 0 0 Z 0 (ν, 0, 0) [some (.ref x0), some (.int x1), some (.ref x2), some (.int x3), some (.int x4)] [] := by
  unfold xw_J9_inflate at hw
  refine g_aload_0 0 h.1 dJ9_inflate_0 ?_
  refine g_iload_1 1 h.1 dJ9_inflate_1 ?_
  refine g_aload_2 2 h.1 dJ9_inflate_2 ?_
  refine g_iload_3 3 h.1 dJ9_inflate_3 ?_
  refine g_iload_4 4 h.1 dJ9_inflate_4 ?_
  refine xcS_V_5 6 h (xm_J7_inflate h.2.2.1 hw) (by decide) (Nat.le_of_eq (Nat.zero_add _)) (Nat.le_of_eq (Nat.zero_add _)) q1188 q1187 (Nat.le_of_ble_eq_true rfl) dJ9_inflate_6 (fun ν1 hw => ?_)
  exact hR.2.2.1 9 _ _ _ _ hT dJ9_inflate_9 ⟨rfl, hw⟩
theorem xm_J9_inflate {l : Launch} {S : Adr} {A : Nat → Prop} (hD : FD xT S xcl A) {x0 : Nat} {x1 : Int32} {x2 : Nat} {x3 : Int32} {x4 : Int32} {ν : XN} {Q : XN → Prop} (hw : xw_J9_inflate x0 x1 x2 x3 x4 ν Q) : xMet l S A 5 0 0 5 yJ9_inflate [.ref x0, .int x1, .ref x2, .int x3, .int x4] ν (pV Q) :=
  x_met (by decide +kernel) hD ⟨⟨by decide, by decide, by show _ = some 5; decide +kernel⟩, by decide, q1186, q187⟩ (Nat.le_of_ble_eq_true rfl) (fun κ Z h hT hN hR => xt_J9_inflate h hT hN hR hw)
def xw_J14_inflate (x0 : Nat) (ν : XN) (k n : Nat) (Q : XN → Prop) : Prop :=
  (rc ν.2 x0 = 17 ∧ (xw_J14_isLatin1 x0 ν (fun r2 ν1 => ((¬ r2 = 0 → (rc ν1.2 x0 = 17 ∧ (∃ b5, (rO ν1.2 x0 0) = some b5 ∧ (rc ν1.2 b5 = 102 ∧ (∃ k10 n11 k12 n13, k10 + k12 ≤ k ∧ n11 + n13 ≤ n ∧ xw_J7_newBytesFor (Int32.ofNat (rn ν1.2 b5)) ν1 k10 n11 (fun r9 ν8 => (rc ν8.2 x0 = 17 ∧ (rc ν8.2 x0 = 17 ∧ (∃ b18, (rO ν8.2 x0 0) = some b18 ∧ (xw_J9_inflate b18 (0 : Int32) r9 (0 : Int32) (rI ν8.2 x0 3) ν8 (fun ν20 => (rk ν20.2 x0 = 17 ∧ (∀ ν21, ν21 = (ν20.1, tO ν20.2 x0 0 (some r9)) → (rk ν21.2 x0 = 17 ∧ (∀ ν24, ν24 = (ν21.1, tI ν21.2 x0 1 (1 : Int32)) → Q ν24))))))))))))))) ∧ (r2 = 0 → Q ν1)))))
theorem xt_J14_inflate {κ : Cx} {S : Adr} {A : Nat → Prop} {mc ms : Nat} {Z : State → Prop} {Q : XN → Prop} (h : XCx κ cJ14_inflate RJ14 S A 6 mc ms) (hT : (cxT κ).sig.returnType = none) (hN : (cxT κ).name = "inflate") (hR : xRet κ S A mc ms Z cJ14_inflate (pV Q)) {x0 : Nat} {ν : XN} {k n : Nat} (hw : xw_J14_inflate x0 ν k n Q) : XG κ S A mc ms Z 0 (ν, k, n) [some (.ref x0), none] [] := by
  unfold xw_J14_inflate at hw
  refine g_aload_0 0 h.1 dJ14_inflate_0 ?_
  obtain ⟨f3, hw⟩ := hw
  refine xcU_I_0 1 h (xm_J14_isLatin1 h.2.2.1 hw) (by decide) (Nat.le_of_eq (Nat.zero_add _)) (Nat.le_of_eq (Nat.zero_add _)) q1174 q1175 q1173 (fun H hI => x_recvR h f3 rfl hI) q1172 (Nat.le_of_ble_eq_true rfl) dJ14_inflate_1 (fun r2 ν1 hw => ?_)
  refine g_if_ne 4 8 h.1 dJ14_inflate_4 (by decide) (fun c => ?_) (fun c => ?_)
  · have hw := hw.1 c
    refine g_aload_0 8 h.1 dJ14_inflate_8 ?_
    obtain ⟨f4, hw⟩ := hw
    refine xg_J14_15_16 9 f4 h dJ14_inflate_9 ?_
    obtain ⟨b5, e6, hw⟩ := hw
    rw [e6]
    obtain ⟨f7, hw⟩ := hw
    refine ra_alen2 12 f7 h dJ14_inflate_12 ?_
    obtain ⟨k10, n11, k12, n13, a14, a15, hw⟩ := hw
    refine xcS_A_1 13 h (xm_J7_newBytesFor h.2.2.1 hw) (by decide) a14 a15 q640 q1043 (Nat.le_of_ble_eq_true rfl) dJ14_inflate_13 (fun r9 ν8 hw => ?_)
    refine g_astore_1 16 h.1 rfl dJ14_inflate_16 ?_
    refine g_aload_0 17 h.1 dJ14_inflate_17 ?_
    obtain ⟨f16, hw⟩ := hw
    refine xg_J14_15_16 18 f16 h dJ14_inflate_18 ?_
    refine g_iconstv 21 _ ic_0 h.1 dJ14_inflate_21 ?_
    refine g_aload_1 22 h.1 dJ14_inflate_22 ?_
    refine g_iconstv 23 _ ic_0 h.1 dJ14_inflate_23 ?_
    refine g_aload_0 24 h.1 dJ14_inflate_24 ?_
    obtain ⟨f17, hw⟩ := hw
    refine xg_J14_79_16 25 f17 h dJ14_inflate_25 ?_
    obtain ⟨b18, e19, hw⟩ := hw
    rw [e19]
    refine xcS_V_5 28 h (xm_J9_inflate h.2.2.1 hw) (by decide) (Nat.le_of_eq (Nat.zero_add _)) (Nat.le_of_eq (Nat.zero_add _)) q1185 q1184 (Nat.le_of_ble_eq_true rfl) dJ14_inflate_28 (fun ν20 hw => ?_)
    refine g_aload_0 31 h.1 dJ14_inflate_31 ?_
    refine g_aload_1 32 h.1 dJ14_inflate_32 ?_
    obtain ⟨f23, hw⟩ := hw
    refine xp_J14_15_16 33 (some r9) f23 h dJ14_inflate_33 (fun ν21 e22 => ?_)
    have hw := hw ν21 e22
    refine g_aload_0 36 h.1 dJ14_inflate_36 ?_
    refine g_iconstv 37 _ ic_1 h.1 dJ14_inflate_37 ?_
    obtain ⟨f26, hw⟩ := hw
    refine xp_J14_22_16 38 rfl rfl f26 h dJ14_inflate_38 (fun ν24 e25 => ?_)
    have hw := hw ν24 e25
    exact hR.2.2.1 41 _ _ _ _ hT dJ14_inflate_41 ⟨rfl, hw⟩
  · have hw := hw.2 c
    exact hR.2.2.1 7 _ _ _ _ hT dJ14_inflate_7 ⟨rfl, hw⟩
theorem xm_J14_inflate {l : Launch} {S : Adr} {A : Nat → Prop} (hD : FD xT S xcl A) {x0 : Nat} {ν : XN} {k n : Nat} {Q : XN → Prop} (hw : xw_J14_inflate x0 ν k n Q) : xMet l S A 6 k n 0 yJ14_inflate [.ref x0] ν (pV Q) :=
  x_met (by decide +kernel) hD ⟨⟨by decide, by decide, by show _ = some 0; decide +kernel⟩, by decide, q1183, q198⟩ (Nat.le_of_ble_eq_true rfl) (fun κ Z h hT hN hR => xt_J14_inflate h hT hN hR hw)
def xw_J7_checkIndex (x0 : Int32) (x1 : Nat) (ν : XN) (Q : XN → Prop) : Prop :=
  (xw_J7_length x1 ν (fun r2 ν1 => (xw_J6_checkIndex x0 r2 ν1 (fun ν3 => Q ν3))))
theorem xt_J7_checkIndex {κ : Cx} {S : Adr} {A : Nat → Prop} {Z : State → Prop} {Q : XN → Prop} (h : XCx κ cJ7_checkIndex RJ7 S A 3 0 0) (hT : (cxT κ).sig.returnType = none) (hN : (cxT κ).name = "checkIndex") (hR : xRet κ S A 0 0 Z cJ7_checkIndex (pV Q)) {x0 : Int32} {x1 : Nat} {ν : XN} (hw : xw_J7_checkIndex x0 x1 ν Q) : XG κ S A 0 0 Z 0 (ν, 0, 0) [some (.int x0), some (.ref x1)] [] := by
  unfold xw_J7_checkIndex at hw
  refine g_iload_0 0 h.1 dJ7_checkIndex_0 ?_
  refine g_aload_1 1 h.1 dJ7_checkIndex_1 ?_
  refine xcS_I_1 2 h (xm_J7_length h.2.2.1 hw) (by decide) (Nat.le_of_eq (Nat.zero_add _)) (Nat.le_of_eq (Nat.zero_add _)) q652 q651 (Nat.le_of_ble_eq_true rfl) dJ7_checkIndex_2 (fun r2 ν1 hw => ?_)
  refine xcS_V_2 5 h (xm_J6_checkIndex h.2.2.1 hw) (by decide) (Nat.le_of_eq (Nat.zero_add _)) (Nat.le_of_eq (Nat.zero_add _)) q1197 q1196 (Nat.le_of_ble_eq_true rfl) dJ7_checkIndex_5 (fun ν3 hw => ?_)
  exact hR.2.2.1 8 _ _ _ _ hT dJ7_checkIndex_8 ⟨rfl, hw⟩
theorem xm_J7_checkIndex {l : Launch} {S : Adr} {A : Nat → Prop} (hD : FD xT S xcl A) {x0 : Int32} {x1 : Nat} {ν : XN} {Q : XN → Prop} (hw : xw_J7_checkIndex x0 x1 ν Q) : xMet l S A 3 0 0 2 yJ7_checkIndex [.int x0, .ref x1] ν (pV Q) :=
  x_met (by decide +kernel) hD ⟨⟨by decide, by decide, by show _ = some 2; decide +kernel⟩, by decide, q1195, q185⟩ (Nat.le_of_ble_eq_true rfl) (fun κ Z h hT hN hR => xt_J7_checkIndex h hT hN hR hw)
def xw_J7_putCharSB (x0 : Nat) (x1 : Int32) (x2 : Int32) (ν : XN) (Q : XN → Prop) : Prop :=
  (xw_J7_checkIndex x1 x0 ν (fun ν1 => (xw_J7_putChar x0 x1 x2 ν1 (fun ν2 => Q ν2))))
theorem xt_J7_putCharSB {κ : Cx} {S : Adr} {A : Nat → Prop} {Z : State → Prop} {Q : XN → Prop} (h : XCx κ cJ7_putCharSB RJ7 S A 4 0 0) (hT : (cxT κ).sig.returnType = none) (hN : (cxT κ).name = "putCharSB") (hR : xRet κ S A 0 0 Z cJ7_putCharSB (pV Q)) {x0 : Nat} {x1 : Int32} {x2 : Int32} {ν : XN} (hw : xw_J7_putCharSB x0 x1 x2 ν Q) : XG κ S A 0 0 Z 0 (ν, 0, 0) [some (.ref x0), some (.int x1), some (.int x2)] [] := by
  unfold xw_J7_putCharSB at hw
  refine g_iload_1 0 h.1 dJ7_putCharSB_0 ?_
  refine g_aload_0 1 h.1 dJ7_putCharSB_1 ?_
  refine xcS_V_2 2 h (xm_J7_checkIndex h.2.2.1 hw) (by decide) (Nat.le_of_eq (Nat.zero_add _)) (Nat.le_of_eq (Nat.zero_add _)) q1194 q1193 (Nat.le_of_ble_eq_true rfl) dJ7_putCharSB_2 (fun ν1 hw => ?_)
  refine g_aload_0 5 h.1 dJ7_putCharSB_5 ?_
  refine g_iload_1 6 h.1 dJ7_putCharSB_6 ?_
  refine g_iload_2 7 h.1 dJ7_putCharSB_7 ?_
  refine xcS_V_3 8 h (xm_J7_putChar h.2.2.1 hw) (by decide) (Nat.le_of_eq (Nat.zero_add _)) (Nat.le_of_eq (Nat.zero_add _)) q647 q646 (Nat.le_of_ble_eq_true rfl) dJ7_putCharSB_8 (fun ν2 hw => ?_)
  exact hR.2.2.1 11 _ _ _ _ hT dJ7_putCharSB_11 ⟨rfl, hw⟩
theorem xm_J7_putCharSB {l : Launch} {S : Adr} {A : Nat → Prop} (hD : FD xT S xcl A) {x0 : Nat} {x1 : Int32} {x2 : Int32} {ν : XN} {Q : XN → Prop} (hw : xw_J7_putCharSB x0 x1 x2 ν Q) : xMet l S A 4 0 0 3 yJ7_putCharSB [.ref x0, .int x1, .int x2] ν (pV Q) :=
  x_met (by decide +kernel) hD ⟨⟨by decide, by decide, by show _ = some 3; decide +kernel⟩, by decide, q1192, q185⟩ (Nat.le_of_ble_eq_true rfl) (fun κ Z h hT hN hR => xt_J7_putCharSB h hT hN hR hw)
def xw_J14_append_56 (x0 : Nat) (x1 : Int32) (ν : XN) (k n : Nat) (Q : Nat → XN → Prop) : Prop :=
  (rc ν.2 x0 = 17 ∧ (rc ν.2 x0 = 17 ∧ (rk ν.2 x0 = 17 ∧ (∀ ν39, ν39 = (ν.1, tI ν.2 x0 3 ((rI ν.2 x0 3) + (1 : Int32))) → (∃ b42, (rO ν.2 x0 0) = some b42 ∧ (xw_J7_putCharSB b42 (rI ν.2 x0 3) x1 ν39 (fun ν44 => Q x0 ν44)))))))
theorem xt_J14_append_56 {κ : Cx} {S : Adr} {A : Nat → Prop} {mc ms : Nat} {Z : State → Prop} {Q : Nat → XN → Prop} (h : XCx κ cJ14_append RJ14 S A 7 mc ms) (hT : (cxT κ).sig.returnType = some (.object "java/lang/AbstractStringBuilder")) (hN : (cxT κ).name = "append") (hR : xRet κ S A mc ms Z cJ14_append (pA Q)) {x0 : Nat} {x1 : Int32} {ν : XN} {k n : Nat} (hw : xw_J14_append_56 x0 x1 ν k n Q) : XG κ S A mc ms Z 56 (ν, k, n) [some (.ref x0), some (.int x1)] [] := by
  unfold xw_J14_append_56 at hw
  refine g_aload_0 56 h.1 dJ14_append_56 ?_
  obtain ⟨f37, hw⟩ := hw
  refine xg_J14_15_16 57 f37 h dJ14_append_57 ?_
  refine g_aload_0 60 h.1 dJ14_append_60 ?_
  refine g_dup 61 rfl h.1 dJ14_append_61 ?_
  obtain ⟨f38, hw⟩ := hw
  refine xg_J14_79_16 62 f38 h dJ14_append_62 ?_
  refine g_dup_x1 65 rfl rfl h.1 dJ14_append_65 ?_
  refine g_iconstv 66 _ ic_1 h.1 dJ14_append_66 ?_
  refine g_iadd 67 h.1 dJ14_append_67 ?_
  obtain ⟨f41, hw⟩ := hw
  refine xp_J14_79_16 68 f41 h dJ14_append_68 (fun ν39 e40 => ?_)
  have hw := hw ν39 e40
  refine g_iload_1 71 h.1 dJ14_append_71 ?_
  obtain ⟨b42, e43, hw⟩ := hw
  rw [e43]
  refine xcS_V_3 72 h (xm_J7_putCharSB h.2.2.1 hw) (by decide) (Nat.le_of_eq (Nat.zero_add _)) (Nat.le_of_eq (Nat.zero_add _)) q1191 q1190 (Nat.le_of_ble_eq_true rfl) dJ14_append_72 (fun ν44 hw => ?_)
  refine g_aload_0 75 h.1 dJ14_append_75 ?_
  exact hR.2.2.2 76 (some x0) _ _ _ _ _ hT (by first | exact Or.inl ⟨_, rfl⟩ | exact Or.inr ⟨_, rfl⟩) dJ14_append_76 ⟨_, rfl, hw⟩
def xw_J14_append_45 (x0 : Nat) (x1 : Int32) (ν : XN) (k n : Nat) (Q : Nat → XN → Prop) : Prop :=
  (rc ν.2 x0 = 17 ∧ (xw_J14_isLatin1 x0 ν (fun r27 ν26 => ((r27 = 0 → xw_J14_append_56 x0 x1 ν26 k n Q) ∧ (¬ r27 = 0 → (rc ν26.2 x0 = 17 ∧ (∃ k31 n32 k33 n34, k31 + k33 ≤ k ∧ n32 + n34 ≤ n ∧ xw_J14_inflate x0 ν26 k31 n32 (fun ν29 => xw_J14_append_56 x0 x1 ν29 k33 n34 Q))))))))
theorem xt_J14_append_45 {κ : Cx} {S : Adr} {A : Nat → Prop} {mc ms : Nat} {Z : State → Prop} {Q : Nat → XN → Prop} (h : XCx κ cJ14_append RJ14 S A 7 mc ms) (hT : (cxT κ).sig.returnType = some (.object "java/lang/AbstractStringBuilder")) (hN : (cxT κ).name = "append") (hR : xRet κ S A mc ms Z cJ14_append (pA Q)) {x0 : Nat} {x1 : Int32} {ν : XN} {k n : Nat} (hw : xw_J14_append_45 x0 x1 ν k n Q) : XG κ S A mc ms Z 45 (ν, k, n) [some (.ref x0), some (.int x1)] [] := by
  unfold xw_J14_append_45 at hw
  refine g_aload_0 45 h.1 dJ14_append_45 ?_
  obtain ⟨f28, hw⟩ := hw
  refine xcU_I_0 46 h (xm_J14_isLatin1 h.2.2.1 hw) (by decide) (Nat.le_of_eq (Nat.zero_add _)) (Nat.le_of_eq (Nat.zero_add _)) q1174 q1175 q1173 (fun H hI => x_recvR h f28 rfl hI) q1172 (Nat.le_of_ble_eq_true rfl) dJ14_append_46 (fun r27 ν26 hw => ?_)
  refine g_if_eq 49 56 h.1 dJ14_append_49 (by decide) (fun c => ?_) (fun c => ?_)
  · have hw := hw.1 c
    exact g_le (xt_J14_append_56 h hT hN hR hw) ⟨rfl, rfl, trivial⟩
  · have hw := hw.2 c
    refine g_aload_0 52 h.1 dJ14_append_52 ?_
    obtain ⟨f30, hw⟩ := hw
    obtain ⟨k31, n32, k33, n34, a35, a36, hw⟩ := hw
    refine xcP_V_0 53 f30 h (xm_J14_inflate h.2.2.1 hw) (by decide) a35 a36 rfl q1181 q2702 q1182 q1180 (Nat.le_of_ble_eq_true rfl) dJ14_append_53 (fun ν29 hw => ?_)
    exact g_le (xt_J14_append_56 h hT hN hR hw) ⟨rfl, rfl, trivial⟩
def xw_J14_append (x0 : Nat) (x1 : Int32) (ν : XN) (k n : Nat) (Q : Nat → XN → Prop) : Prop :=
  (rc ν.2 x0 = 17 ∧ (rc ν.2 x0 = 17 ∧ (∃ k4 n5 k6 n7, k4 + k6 ≤ k ∧ n5 + n7 ≤ n ∧ xw_J14_ensureCapacityInternal x0 ((rI ν.2 x0 3) + (1 : Int32)) ν k4 n5 (fun ν2 => (rc ν2.2 x0 = 17 ∧ (xw_J14_isLatin1 x0 ν2 (fun r11 ν10 => ((r11 = 0 → xw_J14_append_45 x0 x1 ν10 k6 n7 Q) ∧ (¬ r11 = 0 → (xw_J9_canEncode x1 ν10 (fun r14 ν13 => ((r14 = 0 → xw_J14_append_45 x0 x1 ν13 k6 n7 Q) ∧ (¬ r14 = 0 → (rc ν13.2 x0 = 17 ∧ (rc ν13.2 x0 = 17 ∧ (rk ν13.2 x0 = 17 ∧ (∀ ν17, ν17 = (ν13.1, tI ν13.2 x0 3 ((rI ν13.2 x0 3) + (1 : Int32))) → (∃ b20, (rO ν13.2 x0 0) = some b20 ∧ (rk ν17.2 b20 = 102 ∧ (vp_in (rI ν13.2 x0 3) (rn ν17.2 b20) ∧ (∀ ν22, ν22 = (ν17.1, tI ν17.2 b20 (Int32.toNatClampNeg (rI ν13.2 x0 3)) (vp_nar .byte (Int8.toInt32 (Int32.toInt8 x1)))) → Q x0 ν22)))))))))))))))))))))
theorem xt_J14_append {κ : Cx} {S : Adr} {A : Nat → Prop} {mc ms : Nat} {Z : State → Prop} {Q : Nat → XN → Prop} (h : XCx κ cJ14_append RJ14 S A 7 mc ms) (hT : (cxT κ).sig.returnType = some (.object "java/lang/AbstractStringBuilder")) (hN : (cxT κ).name = "append") (hR : xRet κ S A mc ms Z cJ14_append (pA Q)) {x0 : Nat} {x1 : Int32} {ν : XN} {k n : Nat} (hw : xw_J14_append x0 x1 ν k n Q) : XG κ S A mc ms Z 0 (ν, k, n) [some (.ref x0), some (.int x1)] [] := by
  unfold xw_J14_append at hw
  refine g_aload_0 0 h.1 dJ14_append_0 ?_
  refine g_aload_0 1 h.1 dJ14_append_1 ?_
  obtain ⟨f1, hw⟩ := hw
  refine xg_J14_79_16 2 f1 h dJ14_append_2 ?_
  refine g_iconstv 5 _ ic_1 h.1 dJ14_append_5 ?_
  refine g_iadd 6 h.1 dJ14_append_6 ?_
  obtain ⟨f3, hw⟩ := hw
  obtain ⟨k4, n5, k6, n7, a8, a9, hw⟩ := hw
  refine xcP_V_1 7 f3 h (xm_J14_ensureCapacityInternal h.2.2.1 hw) (by decide) a8 a9 rfl q1153 q2700 q1154 q1152 (Nat.le_of_ble_eq_true rfl) dJ14_append_7 (fun ν2 hw => ?_)
  refine g_aload_0 10 h.1 dJ14_append_10 ?_
  obtain ⟨f12, hw⟩ := hw
  refine xcU_I_0 11 h (xm_J14_isLatin1 h.2.2.1 hw) (by decide) (Nat.le_of_eq (Nat.zero_add _)) (Nat.le_of_eq (Nat.zero_add _)) q1174 q1175 q1173 (fun H hI => x_recvR h f12 rfl hI) q1172 (Nat.le_of_ble_eq_true rfl) dJ14_append_11 (fun r11 ν10 hw => ?_)
  refine g_if_eq 14 45 h.1 dJ14_append_14 (by decide) (fun c => ?_) (fun c => ?_)
  · have hw := hw.1 c
    exact g_le (xt_J14_append_45 h hT hN hR hw) ⟨rfl, rfl, trivial⟩
  · have hw := hw.2 c
    refine g_iload_1 17 h.1 dJ14_append_17 ?_
    refine xcS_I_1 18 h (xm_J9_canEncode h.2.2.1 hw) (by decide) (Nat.le_of_eq (Nat.zero_add _)) (Nat.le_of_eq (Nat.zero_add _)) q1178 q1177 (Nat.le_of_ble_eq_true rfl) dJ14_append_18 (fun r14 ν13 hw => ?_)
    refine g_if_eq 21 45 h.1 dJ14_append_21 (by decide) (fun c => ?_) (fun c => ?_)
    · have hw := hw.1 c
      exact g_le (xt_J14_append_45 h hT hN hR hw) ⟨rfl, rfl, trivial⟩
    · have hw := hw.2 c
      refine g_aload_0 24 h.1 dJ14_append_24 ?_
      obtain ⟨f15, hw⟩ := hw
      refine xg_J14_15_16 25 f15 h dJ14_append_25 ?_
      refine g_aload_0 28 h.1 dJ14_append_28 ?_
      refine g_dup 29 rfl h.1 dJ14_append_29 ?_
      obtain ⟨f16, hw⟩ := hw
      refine xg_J14_79_16 30 f16 h dJ14_append_30 ?_
      refine g_dup_x1 33 rfl rfl h.1 dJ14_append_33 ?_
      refine g_iconstv 34 _ ic_1 h.1 dJ14_append_34 ?_
      refine g_iadd 35 h.1 dJ14_append_35 ?_
      obtain ⟨f19, hw⟩ := hw
      refine xp_J14_79_16 36 f19 h dJ14_append_36 (fun ν17 e18 => ?_)
      have hw := hw ν17 e18
      refine g_iload_1 39 h.1 dJ14_append_39 ?_
      refine g_i2b 40 h.1 dJ14_append_40 ?_
      obtain ⟨b20, e21, hw⟩ := hw
      rw [e21]
      obtain ⟨f24, hw⟩ := hw
      obtain ⟨f25, hw⟩ := hw
      refine ra_bast 41 f24 f25 h dJ14_append_41 (fun ν22 e23 => ?_)
      have hw := hw ν22 e23
      refine g_goto 42 75 h.1 dJ14_append_42 (by decide) ?_
      refine g_aload_0 75 h.1 dJ14_append_75 ?_
      exact hR.2.2.2 76 (some x0) _ _ _ _ _ hT (by first | exact Or.inl ⟨_, rfl⟩ | exact Or.inr ⟨_, rfl⟩) dJ14_append_76 ⟨_, rfl, hw⟩
theorem xm_J14_append {l : Launch} {S : Adr} {A : Nat → Prop} (hD : FD xT S xcl A) {x0 : Nat} {x1 : Int32} {ν : XN} {k n : Nat} {Q : Nat → XN → Prop} (hw : xw_J14_append x0 x1 ν k n Q) : xMet l S A 7 k n 1 yJ14_append [.ref x0, .int x1] ν (pA Q) :=
  x_met (by decide +kernel) hD ⟨⟨by decide, by decide, by show _ = some 1; decide +kernel⟩, by decide, q1151, q198⟩ (Nat.le_of_ble_eq_true rfl) (fun κ Z h hT hN hR => xt_J14_append h hT hN hR hw)
def xw_J15_append (x0 : Nat) (x1 : Int32) (ν : XN) (k n : Nat) (Q : Nat → XN → Prop) : Prop :=
  (rc ν.2 x0 = 17 ∧ (∃ k4 n5 k6 n7, k4 + k6 ≤ k ∧ n5 + n7 ≤ n ∧ xw_J14_append x0 x1 ν k4 n5 (fun r2 ν1 => Q x0 ν1)))
theorem xt_J15_append {κ : Cx} {S : Adr} {A : Nat → Prop} {mc ms : Nat} {Z : State → Prop} {Q : Nat → XN → Prop} (h : XCx κ cJ15_append RJ15 S A 8 mc ms) (hT : (cxT κ).sig.returnType = some (.object "java/lang/StringBuilder")) (hN : (cxT κ).name = "append") (hR : xRet κ S A mc ms Z cJ15_append (pA Q)) {x0 : Nat} {x1 : Int32} {ν : XN} {k n : Nat} (hw : xw_J15_append x0 x1 ν k n Q) : XG κ S A mc ms Z 0 (ν, k, n) [some (.ref x0), some (.int x1)] [] := by
  unfold xw_J15_append at hw
  refine g_aload_0 0 h.1 dJ15_append_0 ?_
  refine g_iload_1 1 h.1 dJ15_append_1 ?_
  obtain ⟨f3, hw⟩ := hw
  obtain ⟨k4, n5, k6, n7, a8, a9, hw⟩ := hw
  refine xcSU_A_1 2 16 rfl f3 h (xm_J14_append h.2.2.1 hw) (by decide) a8 a9 (by decide) q2699 q1055 q1150 q1149 (Nat.le_of_ble_eq_true rfl) dJ15_append_2 (fun r2 ν1 hw => ?_)
  refine g_pop 5 rfl h.1 dJ15_append_5 ?_
  refine g_aload_0 6 h.1 dJ15_append_6 ?_
  exact hR.2.2.2 7 (some x0) _ _ _ _ _ hT (by first | exact Or.inl ⟨_, rfl⟩ | exact Or.inr ⟨_, rfl⟩) dJ15_append_7 ⟨_, rfl, hw⟩
theorem xm_J15_append {l : Launch} {S : Adr} {A : Nat → Prop} (hD : FD xT S xcl A) {x0 : Nat} {x1 : Int32} {ν : XN} {k n : Nat} {Q : Nat → XN → Prop} (hw : xw_J15_append x0 x1 ν k n Q) : xMet l S A 8 k n 1 yJ15_append [.ref x0, .int x1] ν (pA Q) :=
  x_met (by decide +kernel) hD ⟨⟨by decide, by decide, by show _ = some 1; decide +kernel⟩, by decide, q1148, q199⟩ (Nat.le_of_ble_eq_true rfl) (fun κ Z h hT hN hR => xt_J15_append h hT hN hR hw)
def xw_J7_toBytes_8 (x0 : Nat) (x1 : Int32) (x2 : Int32) (x3 : Nat) (x4 : Int32) (ν : XN) (k n : Nat) (Q : Nat → XN → Prop) : Prop :=
  ∀ X8 : Nat → Int32 → Int32 → Nat → Int32 → XN → Nat → Nat → Prop, (∀ (x0 : Nat) (x1 : Int32) (x2 : Int32) (x3 : Nat) (x4 : Int32) (ν : XN) (k n : Nat), ((x2 ≤ x4 → Q x3 ν) ∧ (¬ x2 ≤ x4 → (rc ν.2 x0 = 103 ∧ (vp_in x1 (rn ν.2 x0) ∧ (xw_J7_putChar x3 x4 (rI ν.2 x0 (Int32.toNatClampNeg x1)) ν (fun ν11 => X8 x0 (x1 + 1) x2 x3 (x4 + 1) ν11 k n)))))) → X8 x0 x1 x2 x3 x4 ν k n) → X8 x0 x1 x2 x3 x4 ν k n
theorem xt_J7_toBytes_8 {κ : Cx} {S : Adr} {A : Nat → Prop} {mc ms : Nat} {Z : State → Prop} {Q : Nat → XN → Prop} (h : XCx κ cJ7_toBytes RJ7 S A 3 mc ms) (hT : (cxT κ).sig.returnType = some (.array .byte)) (hN : (cxT κ).name = "toBytes") (hR : xRet κ S A mc ms Z cJ7_toBytes (pA Q)) {x0 : Nat} {x1 : Int32} {x2 : Int32} {x3 : Nat} {x4 : Int32} {ν : XN} {k n : Nat} (hw : xw_J7_toBytes_8 x0 x1 x2 x3 x4 ν k n Q) : XG κ S A mc ms Z 8 (ν, k, n) [some (.ref x0), some (.int x1), some (.int x2), some (.ref x3), some (.int x4)] [] := by
  refine hw (fun x0 x1 x2 x3 x4 ν k n => XG κ S A mc ms Z 8 (ν, k, n) [some (.ref x0), some (.int x1), some (.int x2), some (.ref x3), some (.int x4)] []) ?_
  clear hw
  intro x0 x1 x2 x3 x4 ν k n hw
  have hX8 : ∀ (x0 : Nat) (x1 : Int32) (x2 : Int32) (x3 : Nat) (x4 : Int32) (ν : XN) (k n : Nat), XG κ S A mc ms Z 8 (ν, k, n) [some (.ref x0), some (.int x1), some (.int x2), some (.ref x3), some (.int x4)] [] → XG κ S A mc ms Z 8 (ν, k, n) [some (.ref x0), some (.int x1), some (.int x2), some (.ref x3), some (.int x4)] [] := fun _ _ _ _ _ _ _ _ hh => hh
  refine g_iload_4 8 h.1 dJ7_toBytes_8 ?_
  refine g_iload_2 10 h.1 dJ7_toBytes_10 ?_
  refine g_icmp_ge 11 32 h.1 dJ7_toBytes_11 (by decide) (fun c => ?_) (fun c => ?_)
  · have hw := hw.1 c
    refine g_aload_3 32 h.1 dJ7_toBytes_32 ?_
    exact hR.2.2.2 33 (some x3) _ _ _ _ _ hT (by first | exact Or.inl ⟨_, rfl⟩ | exact Or.inr ⟨_, rfl⟩) dJ7_toBytes_33 ⟨_, rfl, hw⟩
  · have hw := hw.2 c
    refine g_aload_3 14 h.1 dJ7_toBytes_14 ?_
    refine g_iload_4 15 h.1 dJ7_toBytes_15 ?_
    refine g_aload_0 17 h.1 dJ7_toBytes_17 ?_
    refine g_iload_1 18 h.1 dJ7_toBytes_18 ?_
    obtain ⟨f9, hw⟩ := hw
    obtain ⟨f10, hw⟩ := hw
    refine ra_cald 19 f9 f10 h dJ7_toBytes_19 ?_
    refine xcS_V_3 20 h (xm_J7_putChar h.2.2.1 hw) (by decide) (Nat.le_of_eq (Nat.zero_add _)) (Nat.le_of_eq (Nat.zero_add _)) q647 q646 (Nat.le_of_ble_eq_true rfl) dJ7_toBytes_20 (fun ν11 hw => ?_)
    refine g_iinc_1 23 (x1 + 1) (congrArg _ ic_1) h.1 rfl dJ7_toBytes_23 ?_
    refine g_iinc_4 26 (x4 + 1) (congrArg _ ic_1) h.1 rfl dJ7_toBytes_26 ?_
    refine g_goto 29 8 h.1 dJ7_toBytes_29 (by decide) ?_
    exact g_le (hX8 _ _ _ _ _ _ _ _ hw) ⟨rfl, rfl, rfl, rfl, rfl, trivial⟩
def xw_J7_toBytes (x0 : Nat) (x1 : Int32) (x2 : Int32) (ν : XN) (k n : Nat) (Q : Nat → XN → Prop) : Prop :=
  (∃ k3 n4 k5 n6, k3 + k5 ≤ k ∧ n4 + n6 ≤ n ∧ xw_J7_newBytesFor x2 ν k3 n4 (fun r2 ν1 => xw_J7_toBytes_8 x0 x1 x2 r2 (0 : Int32) ν1 k5 n6 Q))
theorem xt_J7_toBytes {κ : Cx} {S : Adr} {A : Nat → Prop} {mc ms : Nat} {Z : State → Prop} {Q : Nat → XN → Prop} (h : XCx κ cJ7_toBytes RJ7 S A 3 mc ms) (hT : (cxT κ).sig.returnType = some (.array .byte)) (hN : (cxT κ).name = "toBytes") (hR : xRet κ S A mc ms Z cJ7_toBytes (pA Q)) {x0 : Nat} {x1 : Int32} {x2 : Int32} {ν : XN} {k n : Nat} (hw : xw_J7_toBytes x0 x1 x2 ν k n Q) : XG κ S A mc ms Z 0 (ν, k, n) [some (.ref x0), some (.int x1), some (.int x2), none, none] [] := by
  unfold xw_J7_toBytes at hw
  refine g_iload_2 0 h.1 dJ7_toBytes_0 ?_
  obtain ⟨k3, n4, k5, n6, a7, a8, hw⟩ := hw
  refine xcS_A_1 1 h (xm_J7_newBytesFor h.2.2.1 hw) (by decide) a7 a8 q640 q639 (Nat.le_of_ble_eq_true rfl) dJ7_toBytes_1 (fun r2 ν1 hw => ?_)
  refine g_astore_3 4 h.1 rfl dJ7_toBytes_4 ?_
  refine g_iconstv 5 _ ic_0 h.1 dJ7_toBytes_5 ?_
  refine g_istore_4 6 h.1 rfl dJ7_toBytes_6 ?_
  exact g_le (xt_J7_toBytes_8 h hT hN hR hw) ⟨rfl, rfl, rfl, rfl, rfl, trivial⟩
theorem xm_J7_toBytes {l : Launch} {S : Adr} {A : Nat → Prop} (hD : FD xT S xcl A) {x0 : Nat} {x1 : Int32} {x2 : Int32} {ν : XN} {k n : Nat} {Q : Nat → XN → Prop} (hw : xw_J7_toBytes x0 x1 x2 ν k n Q) : xMet l S A 3 k n 3 yJ7_toBytes [.ref x0, .int x1, .int x2] ν (pA Q) :=
  x_met (by decide +kernel) hD ⟨⟨by decide, by decide, by show _ = some 3; decide +kernel⟩, by decide, q638, q185⟩ (Nat.le_of_ble_eq_true rfl) (fun κ Z h hT hN hR => xt_J7_toBytes h hT hN hR hw)
def xw_J7_compress_2_3 (x0 : Nat) (x1 : Int32) (x2 : Nat) (x3 : Int32) (x4 : Int32) (x5 : Int32) (ν : XN) (Q : Int32 → XN → Prop) : Prop :=
  ∀ X3 : Nat → Int32 → Nat → Int32 → Int32 → Int32 → XN → Prop, (∀ (x0 : Nat) (x1 : Int32) (x2 : Nat) (x3 : Int32) (x4 : Int32) (x5 : Int32) (ν : XN), ((x4 ≤ x5 → Q x4 ν) ∧ (¬ x4 ≤ x5 → (rc ν.2 x0 = 103 ∧ (vp_in x1 (rn ν.2 x0) ∧ (((rI ν.2 x0 (Int32.toNatClampNeg x1)) ≤ (255 : Int32) → (rk ν.2 x2 = 102 ∧ (vp_in x3 (rn ν.2 x2) ∧ (∀ ν3, ν3 = (ν.1, tI ν.2 x2 (Int32.toNatClampNeg x3) (vp_nar .byte (Int8.toInt32 (Int32.toInt8 (rI ν.2 x0 (Int32.toNatClampNeg x1)))))) → X3 x0 (x1 + 1) x2 (x3 + 1) x4 (x5 + 1) ν3)))) ∧ (¬ (rI ν.2 x0 (Int32.toNatClampNeg x1)) ≤ (255 : Int32) → Q x5 ν)))))) → X3 x0 x1 x2 x3 x4 x5 ν) → X3 x0 x1 x2 x3 x4 x5 ν
theorem xt_J7_compress_2_3 {κ : Cx} {S : Adr} {A : Nat → Prop} {Z : State → Prop} {Q : Int32 → XN → Prop} (h : XCx κ cJ7_compress_2 RJ7 S A 1 0 0) (hT : (cxT κ).sig.returnType = some .int) (hN : (cxT κ).name = "compress") (hR : xRet κ S A 0 0 Z cJ7_compress_2 (pI Q)) {x0 : Nat} {x1 : Int32} {x2 : Nat} {x3 : Int32} {x4 : Int32} {x5 : Int32} {ν : XN} (hw : xw_J7_compress_2_3 x0 x1 x2 x3 x4 x5 ν Q) : XG κ S A 0 0 Z 3 (ν, 0, 0) [some (.ref x0), some (.int x1), some (.ref x2), some (.int x3), some (.int x4), some (.int x5), none] [] := by
  refine hw (fun x0 x1 x2 x3 x4 x5 ν => XG κ S A 0 0 Z 3 (ν, 0, 0) [some (.ref x0), some (.int x1), some (.ref x2), some (.int x3), some (.int x4), some (.int x5), none] []) ?_
  clear hw
  intro x0 x1 x2 x3 x4 x5 ν hw
  have hX3 : ∀ (x0 : Nat) (x1 : Int32) (x2 : Nat) (x3 : Int32) (x4 : Int32) (x5 : Int32) (ν : XN), XG κ S A 0 0 Z 3 (ν, 0, 0) [some (.ref x0), some (.int x1), some (.ref x2), some (.int x3), some (.int x4), some (.int x5), none] [] → XG κ S A 0 0 Z 3 (ν, 0, 0) [some (.ref x0), some (.int x1), some (.ref x2), some (.int x3), some (.int x4), some (.int x5), none] [] := fun _ _ _ _ _ _ _ hh => hh
  refine g_iload_5 3 h.1 dJ7_compress_2_3 ?_
  refine g_iload_4 5 h.1 dJ7_compress_2_5 ?_
  refine g_icmp_ge 7 44 h.1 dJ7_compress_2_7 (by decide) (fun c => ?_) (fun c => ?_)
  · have hw := hw.1 c
    refine g_iload_4 44 h.1 dJ7_compress_2_44 ?_
    exact hR.1 46 _ _ _ _ _ _ hT rfl dJ7_compress_2_46 ⟨_, rfl, hw⟩
  · have hw := hw.2 c
    refine g_aload_0 10 h.1 dJ7_compress_2_10 ?_
    refine g_iload_1 11 h.1 dJ7_compress_2_11 ?_
    obtain ⟨f1, hw⟩ := hw
    obtain ⟨f2, hw⟩ := hw
    refine ra_cald 12 f1 f2 h dJ7_compress_2_12 ?_
    refine g_istore_6 13 h.1 rfl dJ7_compress_2_13 ?_
    refine g_iload_6 15 h.1 dJ7_compress_2_15 ?_
    refine g_sipush 17 _ sp_255 h.1 dJ7_compress_2_17 ?_
    refine g_icmp_le 20 26 h.1 dJ7_compress_2_20 (by decide) (fun c => ?_) (fun c => ?_)
    · have hw := hw.1 c
      refine g_aload_2 26 h.1 dJ7_compress_2_26 ?_
      refine g_iload_3 27 h.1 dJ7_compress_2_27 ?_
      refine g_iload_6 28 h.1 dJ7_compress_2_28 ?_
      refine g_i2b 30 h.1 dJ7_compress_2_30 ?_
      obtain ⟨f5, hw⟩ := hw
      obtain ⟨f6, hw⟩ := hw
      refine ra_bast 31 f5 f6 h dJ7_compress_2_31 (fun ν3 e4 => ?_)
      have hw := hw ν3 e4
      refine g_iinc_1 32 (x1 + 1) (congrArg _ ic_1) h.1 rfl dJ7_compress_2_32 ?_
      refine g_iinc_3 35 (x3 + 1) (congrArg _ ic_1) h.1 rfl dJ7_compress_2_35 ?_
      refine g_iinc_5 38 (x5 + 1) (congrArg _ ic_1) h.1 rfl dJ7_compress_2_38 ?_
      refine g_goto 41 3 h.1 dJ7_compress_2_41 (by decide) ?_
      exact g_le (hX3 _ _ _ _ _ _ _ hw) ⟨rfl, rfl, rfl, rfl, rfl, rfl, trivial⟩
    · have hw := hw.2 c
      refine g_iload_5 23 h.1 dJ7_compress_2_23 ?_
      exact hR.1 25 _ _ _ _ _ _ hT rfl dJ7_compress_2_25 ⟨_, rfl, hw⟩
def xw_J7_compress_2 (x0 : Nat) (x1 : Int32) (x2 : Nat) (x3 : Int32) (x4 : Int32) (ν : XN) (Q : Int32 → XN → Prop) : Prop :=
  xw_J7_compress_2_3 x0 x1 x2 x3 x4 (0 : Int32) ν Q
theorem xt_J7_compress_2 {κ : Cx} {S : Adr} {A : Nat → Prop} {Z : State → Prop} {Q : Int32 → XN → Prop} (h : XCx κ cJ7_compress_2 RJ7 S A 1 0 0) (hT : (cxT κ).sig.returnType = some .int) (hN : (cxT κ).name = "compress") (hR : xRet κ S A 0 0 Z cJ7_compress_2 (pI Q)) {x0 : Nat} {x1 : Int32} {x2 : Nat} {x3 : Int32} {x4 : Int32} {ν : XN} (hw : xw_J7_compress_2 x0 x1 x2 x3 x4 ν Q) : XG κ S A 0 0 Z 0 (ν, 0, 0) [some (.ref x0), some (.int x1), some (.ref x2), some (.int x3), some (.int x4), none, none] [] := by
  unfold xw_J7_compress_2 at hw
  refine g_iconstv 0 _ ic_0 h.1 dJ7_compress_2_0 ?_
  refine g_istore_5 1 h.1 rfl dJ7_compress_2_1 ?_
  exact g_le (xt_J7_compress_2_3 h hT hN hR hw) ⟨rfl, rfl, rfl, rfl, rfl, rfl, trivial⟩
theorem xm_J7_compress_2 {l : Launch} {S : Adr} {A : Nat → Prop} (hD : FD xT S xcl A) {x0 : Nat} {x1 : Int32} {x2 : Nat} {x3 : Int32} {x4 : Int32} {ν : XN} {Q : Int32 → XN → Prop} (hw : xw_J7_compress_2 x0 x1 x2 x3 x4 ν Q) : xMet l S A 1 0 0 5 yJ7_compress_2 [.ref x0, .int x1, .ref x2, .int x3, .int x4] ν (pI Q) :=
  x_met (by decide +kernel) hD ⟨⟨by decide, by decide, by show _ = some 5; decide +kernel⟩, by decide, q635, q185⟩ (Nat.le_of_ble_eq_true rfl) (fun κ Z h hT hN hR => xt_J7_compress_2 h hT hN hR hw)
def xw_J7_getChar (x0 : Nat) (x1 : Int32) (ν : XN) (Q : Int32 → XN → Prop) : Prop :=
  False
theorem xt_J7_getChar {κ : Cx} {S : Adr} {A : Nat → Prop} {Z : State → Prop} {Q : Int32 → XN → Prop} (h : XCx κ cJ7_getChar RJ7 S A 1 0 0) (hT : (cxT κ).sig.returnType = some .char) (hN : (cxT κ).name = "getChar") (hR : xRet κ S A 0 0 Z cJ7_getChar (pI Q)) {x0 : Nat} {x1 : Int32} {ν : XN} (hw : xw_J7_getChar x0 x1 ν Q) : XG κ S A 0 0 Z 0 (ν, 0, 0) [some (.ref x0), some (.int x1)] [] := by
  unfold xw_J7_getChar at hw
  exact hw.elim
theorem xm_J7_getChar {l : Launch} {S : Adr} {A : Nat → Prop} (hD : FD xT S xcl A) {x0 : Nat} {x1 : Int32} {ν : XN} {Q : Int32 → XN → Prop} (hw : xw_J7_getChar x0 x1 ν Q) : xMet l S A 1 0 0 2 yJ7_getChar [.ref x0, .int x1] ν (pI Q) :=
  x_met (by decide +kernel) hD ⟨⟨by decide, by decide, by show _ = some 2; decide +kernel⟩, by decide, q660, q185⟩ (Nat.le_of_ble_eq_true rfl) (fun κ Z h hT hN hR => xt_J7_getChar h hT hN hR hw)
def xw_J7_compress_3_10 (x0 : Nat) (x1 : Int32) (x2 : Nat) (x3 : Int32) (x4 : Int32) (x5 : Int32) (ν : XN) (Q : Int32 → XN → Prop) : Prop :=
  ∀ X10 : Nat → Int32 → Nat → Int32 → Int32 → Int32 → XN → Prop, (∀ (x0 : Nat) (x1 : Int32) (x2 : Nat) (x3 : Int32) (x4 : Int32) (x5 : Int32) (ν : XN), ((x4 ≤ x5 → Q x4 ν) ∧ (¬ x4 ≤ x5 → (xw_J7_getChar x0 x1 ν (fun r3 ν2 => ((r3 ≤ (255 : Int32) → (rk ν2.2 x2 = 102 ∧ (vp_in x3 (rn ν2.2 x2) ∧ (∀ ν4, ν4 = (ν2.1, tI ν2.2 x2 (Int32.toNatClampNeg x3) (vp_nar .byte (Int8.toInt32 (Int32.toInt8 r3)))) → X10 x0 (x1 + 1) x2 (x3 + 1) x4 (x5 + 1) ν4)))) ∧ (¬ r3 ≤ (255 : Int32) → Q x5 ν2)))))) → X10 x0 x1 x2 x3 x4 x5 ν) → X10 x0 x1 x2 x3 x4 x5 ν
theorem xt_J7_compress_3_10 {κ : Cx} {S : Adr} {A : Nat → Prop} {Z : State → Prop} {Q : Int32 → XN → Prop} (h : XCx κ cJ7_compress_3 RJ7 S A 4 0 0) (hT : (cxT κ).sig.returnType = some .int) (hN : (cxT κ).name = "compress") (hR : xRet κ S A 0 0 Z cJ7_compress_3 (pI Q)) {x0 : Nat} {x1 : Int32} {x2 : Nat} {x3 : Int32} {x4 : Int32} {x5 : Int32} {ν : XN} (hw : xw_J7_compress_3_10 x0 x1 x2 x3 x4 x5 ν Q) : XG κ S A 0 0 Z 10 (ν, 0, 0) [some (.ref x0), some (.int x1), some (.ref x2), some (.int x3), some (.int x4), some (.int x5), none] [] := by
  refine hw (fun x0 x1 x2 x3 x4 x5 ν => XG κ S A 0 0 Z 10 (ν, 0, 0) [some (.ref x0), some (.int x1), some (.ref x2), some (.int x3), some (.int x4), some (.int x5), none] []) ?_
  clear hw
  intro x0 x1 x2 x3 x4 x5 ν hw
  have hX10 : ∀ (x0 : Nat) (x1 : Int32) (x2 : Nat) (x3 : Int32) (x4 : Int32) (x5 : Int32) (ν : XN), XG κ S A 0 0 Z 10 (ν, 0, 0) [some (.ref x0), some (.int x1), some (.ref x2), some (.int x3), some (.int x4), some (.int x5), none] [] → XG κ S A 0 0 Z 10 (ν, 0, 0) [some (.ref x0), some (.int x1), some (.ref x2), some (.int x3), some (.int x4), some (.int x5), none] [] := fun _ _ _ _ _ _ _ hh => hh
  refine g_iload_5 10 h.1 dJ7_compress_3_10 ?_
  refine g_iload_4 12 h.1 dJ7_compress_3_12 ?_
  refine g_icmp_ge 14 53 h.1 dJ7_compress_3_14 (by decide) (fun c => ?_) (fun c => ?_)
  · have hw := hw.1 c
    refine g_iload_4 53 h.1 dJ7_compress_3_53 ?_
    exact hR.1 55 _ _ _ _ _ _ hT rfl dJ7_compress_3_55 ⟨_, rfl, hw⟩
  · have hw := hw.2 c
    refine g_aload_0 17 h.1 dJ7_compress_3_17 ?_
    refine g_iload_1 18 h.1 dJ7_compress_3_18 ?_
    refine xcS_I_2 19 h (xm_J7_getChar h.2.2.1 hw) (by decide) (Nat.le_of_eq (Nat.zero_add _)) (Nat.le_of_eq (Nat.zero_add _)) q659 q658 (Nat.le_of_ble_eq_true rfl) dJ7_compress_3_19 (fun r3 ν2 hw => ?_)
    refine g_istore_6 22 h.1 rfl dJ7_compress_3_22 ?_
    refine g_iload_6 24 h.1 dJ7_compress_3_24 ?_
    refine g_sipush 26 _ sp_255 h.1 dJ7_compress_3_26 ?_
    refine g_icmp_le 29 35 h.1 dJ7_compress_3_29 (by decide) (fun c => ?_) (fun c => ?_)
    · have hw := hw.1 c
      refine g_aload_2 35 h.1 dJ7_compress_3_35 ?_
      refine g_iload_3 36 h.1 dJ7_compress_3_36 ?_
      refine g_iload_6 37 h.1 dJ7_compress_3_37 ?_
      refine g_i2b 39 h.1 dJ7_compress_3_39 ?_
      obtain ⟨f6, hw⟩ := hw
      obtain ⟨f7, hw⟩ := hw
      refine ra_bast 40 f6 f7 h dJ7_compress_3_40 (fun ν4 e5 => ?_)
      have hw := hw ν4 e5
      refine g_iinc_1 41 (x1 + 1) (congrArg _ ic_1) h.1 rfl dJ7_compress_3_41 ?_
      refine g_iinc_3 44 (x3 + 1) (congrArg _ ic_1) h.1 rfl dJ7_compress_3_44 ?_
      refine g_iinc_5 47 (x5 + 1) (congrArg _ ic_1) h.1 rfl dJ7_compress_3_47 ?_
      refine g_goto 50 10 h.1 dJ7_compress_3_50 (by decide) ?_
      exact g_le (hX10 _ _ _ _ _ _ _ hw) ⟨rfl, rfl, rfl, rfl, rfl, rfl, trivial⟩
    · have hw := hw.2 c
      refine g_iload_5 32 h.1 dJ7_compress_3_32 ?_
      exact hR.1 34 _ _ _ _ _ _ hT rfl dJ7_compress_3_34 ⟨_, rfl, hw⟩
def xw_J7_compress_3 (x0 : Nat) (x1 : Int32) (x2 : Nat) (x3 : Int32) (x4 : Int32) (ν : XN) (Q : Int32 → XN → Prop) : Prop :=
  (xw_J7_checkBoundsOffCount x1 x4 x0 ν (fun ν1 => xw_J7_compress_3_10 x0 x1 x2 x3 x4 (0 : Int32) ν1 Q))
theorem xt_J7_compress_3 {κ : Cx} {S : Adr} {A : Nat → Prop} {Z : State → Prop} {Q : Int32 → XN → Prop} (h : XCx κ cJ7_compress_3 RJ7 S A 4 0 0) (hT : (cxT κ).sig.returnType = some .int) (hN : (cxT κ).name = "compress") (hR : xRet κ S A 0 0 Z cJ7_compress_3 (pI Q)) {x0 : Nat} {x1 : Int32} {x2 : Nat} {x3 : Int32} {x4 : Int32} {ν : XN} (hw : xw_J7_compress_3 x0 x1 x2 x3 x4 ν Q) : XG κ S A 0 0 Z 0 (ν, 0, 0) [some (.ref x0), some (.int x1), some (.ref x2), some (.int x3), some (.int x4), none, none] [] := by
  unfold xw_J7_compress_3 at hw
  refine g_iload_1 0 h.1 dJ7_compress_3_0 ?_
  refine g_iload_4 1 h.1 dJ7_compress_3_1 ?_
  refine g_aload_0 3 h.1 dJ7_compress_3_3 ?_
  refine xcS_V_3 4 h (xm_J7_checkBoundsOffCount h.2.2.1 hw) (by decide) (Nat.le_of_eq (Nat.zero_add _)) (Nat.le_of_eq (Nat.zero_add _)) q665 q664 (Nat.le_of_ble_eq_true rfl) dJ7_compress_3_4 (fun ν1 hw => ?_)
  refine g_iconstv 7 _ ic_0 h.1 dJ7_compress_3_7 ?_
  refine g_istore_5 8 h.1 rfl dJ7_compress_3_8 ?_
  exact g_le (xt_J7_compress_3_10 h hT hN hR hw) ⟨rfl, rfl, rfl, rfl, rfl, rfl, trivial⟩
theorem xm_J7_compress_3 {l : Launch} {S : Adr} {A : Nat → Prop} (hD : FD xT S xcl A) {x0 : Nat} {x1 : Int32} {x2 : Nat} {x3 : Int32} {x4 : Int32} {ν : XN} {Q : Int32 → XN → Prop} (hw : xw_J7_compress_3 x0 x1 x2 x3 x4 ν Q) : xMet l S A 4 0 0 5 yJ7_compress_3 [.ref x0, .int x1, .ref x2, .int x3, .int x4] ν (pI Q) :=
  x_met (by decide +kernel) hD ⟨⟨by decide, by decide, by show _ = some 5; decide +kernel⟩, by decide, q663, q185⟩ (Nat.le_of_ble_eq_true rfl) (fun κ Z h hT hN hR => xt_J7_compress_3 h hT hN hR hw)
def xw_J7_compress_54 (x5 : Nat) (ν : XN) (k n : Nat) (Q : Nat → XN → Prop) : Prop :=
  Q x5 ν
theorem xt_J7_compress_54 {κ : Cx} {S : Adr} {A : Nat → Prop} {mc ms : Nat} {Z : State → Prop} {Q : Nat → XN → Prop} (h : XCx κ cJ7_compress RJ7 S A 5 mc ms) (hT : (cxT κ).sig.returnType = some (.array .byte)) (hN : (cxT κ).name = "compress") (hR : xRet κ S A mc ms Z cJ7_compress (pA Q)) {x5 : Nat} {ν : XN} {k n : Nat} (hw : xw_J7_compress_54 x5 ν k n Q) : XG κ S A mc ms Z 54 (ν, k, n) [none, none, none, none, none, some (.ref x5)] [] := by
  unfold xw_J7_compress_54 at hw
  refine g_aload_5 54 h.1 dJ7_compress_54 ?_
  exact hR.2.2.2 56 (some x5) _ _ _ _ _ hT (by first | exact Or.inl ⟨_, rfl⟩ | exact Or.inr ⟨_, rfl⟩) dJ7_compress_56 ⟨_, rfl, hw⟩
def xw_J7_compress (x0 : Nat) (x1 : Int32) (x2 : Int32) (ν : XN) (k n : Nat) (Q : Nat → XN → Prop) : Prop :=
  (¬ x2 < 0 ∧ (Int32.toNatClampNeg x2 ≤ 100000000 ∧ (∃ k7 n8, k7 + 1 ≤ k ∧ n8 + (Int32.toNatClampNeg x2) ≤ n ∧ ∀ q3, rk ν.2 q3 = 0 → ∀ ν5, ν5 = (ν.1, tN ν.2 q3 102 (Int32.toNatClampNeg x2)) → (xw_J7_compress_2 x0 x1 q3 (0 : Int32) x2 ν5 (fun r12 ν11 => ((r12 = x2 → Q q3 ν11) ∧ (¬ r12 = x2 → (∃ k15 n16 k17 n18, k15 + k17 ≤ k7 ∧ n16 + n18 ≤ n8 ∧ xw_J7_toBytes x0 x1 x2 ν11 k15 n16 (fun r14 ν13 => (xw_J7_getChar r14 r12 ν13 (fun r22 ν21 => (((255 : Int32) < r22 → xw_J7_compress_54 r14 ν21 k17 n18 Q) ∧ (¬ (255 : Int32) < r22 → (xw_J7_compress_3 r14 (0 : Int32) q3 (0 : Int32) x2 ν21 (fun r24 ν23 => ((r24 = x2 → Q q3 ν23) ∧ (¬ r24 = x2 → xw_J7_compress_54 r14 ν23 k17 n18 Q)))))))))))))))))
theorem xt_J7_compress {κ : Cx} {S : Adr} {A : Nat → Prop} {mc ms : Nat} {Z : State → Prop} {Q : Nat → XN → Prop} (h : XCx κ cJ7_compress RJ7 S A 5 mc ms) (hT : (cxT κ).sig.returnType = some (.array .byte)) (hN : (cxT κ).name = "compress") (hR : xRet κ S A mc ms Z cJ7_compress (pA Q)) {x0 : Nat} {x1 : Int32} {x2 : Int32} {ν : XN} {k n : Nat} (hw : xw_J7_compress x0 x1 x2 ν k n Q) : XG κ S A mc ms Z 0 (ν, k, n) [some (.ref x0), some (.int x1), some (.int x2), none, none, none] [] := by
  unfold xw_J7_compress at hw
  refine g_iload_2 0 h.1 dJ7_compress_0 ?_
  obtain ⟨f1, hw⟩ := hw
  obtain ⟨f2, hw⟩ := hw
  obtain ⟨k7, n8, a9, a10, hw⟩ := hw
  refine x_newaB 1 f1 rfl f2 h a9 a10 dJ7_compress_1 (fun q3 e4 ν5 e6 => ?_)
  have hw := hw q3 e4 ν5 e6
  refine g_astore_3 3 h.1 rfl dJ7_compress_3 ?_
  refine g_aload_0 4 h.1 dJ7_compress_4 ?_
  refine g_iload_1 5 h.1 dJ7_compress_5 ?_
  refine g_aload_3 6 h.1 dJ7_compress_6 ?_
  refine g_iconstv 7 _ ic_0 h.1 dJ7_compress_7 ?_
  refine g_iload_2 8 h.1 dJ7_compress_8 ?_
  refine xcS_I_5 9 h (xm_J7_compress_2 h.2.2.1 hw) (by decide) (Nat.le_of_eq (Nat.zero_add _)) (Nat.le_of_eq (Nat.zero_add _)) q634 q633 (Nat.le_of_ble_eq_true rfl) dJ7_compress_9 (fun r12 ν11 hw => ?_)
  refine g_istore_4 12 h.1 rfl dJ7_compress_12 ?_
  refine g_iload_4 14 h.1 dJ7_compress_14 ?_
  refine g_iload_2 16 h.1 dJ7_compress_16 ?_
  refine g_icmp_eq 17 57 h.1 dJ7_compress_17 (by decide) (fun c => ?_) (fun c => ?_)
  · have hw := hw.1 c
    refine g_aload_3 57 h.1 dJ7_compress_57 ?_
    exact hR.2.2.2 58 (some q3) _ _ _ _ _ hT (by first | exact Or.inl ⟨_, rfl⟩ | exact Or.inr ⟨_, rfl⟩) dJ7_compress_58 ⟨_, rfl, hw⟩
  · have hw := hw.2 c
    refine g_aload_0 20 h.1 dJ7_compress_20 ?_
    refine g_iload_1 21 h.1 dJ7_compress_21 ?_
    refine g_iload_2 22 h.1 dJ7_compress_22 ?_
    obtain ⟨k15, n16, k17, n18, a19, a20, hw⟩ := hw
    refine xcS_A_3 23 h (xm_J7_toBytes h.2.2.1 hw) (by decide) a19 a20 q637 q636 (Nat.le_of_ble_eq_true rfl) dJ7_compress_23 (fun r14 ν13 hw => ?_)
    refine g_astore_5 26 h.1 rfl dJ7_compress_26 ?_
    refine g_aload_5 28 h.1 dJ7_compress_28 ?_
    refine g_iload_4 30 h.1 dJ7_compress_30 ?_
    refine xcS_I_2 32 h (xm_J7_getChar h.2.2.1 hw) (by decide) (Nat.le_of_eq (Nat.zero_add _)) (Nat.le_of_eq (Nat.zero_add _)) q659 q658 (Nat.le_of_ble_eq_true rfl) dJ7_compress_32 (fun r22 ν21 hw => ?_)
    refine g_sipush 35 _ sp_255 h.1 dJ7_compress_35 ?_
    refine g_icmp_gt 38 54 h.1 dJ7_compress_38 (by decide) (fun c => ?_) (fun c => ?_)
    · have hw := hw.1 c
      exact g_le (xt_J7_compress_54 h hT hN hR hw) ⟨rfl, trivial⟩
    · have hw := hw.2 c
      refine g_aload_5 41 h.1 dJ7_compress_41 ?_
      refine g_iconstv 43 _ ic_0 h.1 dJ7_compress_43 ?_
      refine g_aload_3 44 h.1 dJ7_compress_44 ?_
      refine g_iconstv 45 _ ic_0 h.1 dJ7_compress_45 ?_
      refine g_iload_2 46 h.1 dJ7_compress_46 ?_
      refine xcS_I_5 47 h (xm_J7_compress_3 h.2.2.1 hw) (by decide) (Nat.le_of_eq (Nat.zero_add _)) (Nat.le_of_eq (Nat.zero_add _)) q662 q661 (Nat.le_of_ble_eq_true rfl) dJ7_compress_47 (fun r24 ν23 hw => ?_)
      refine g_iload_2 50 h.1 dJ7_compress_50 ?_
      refine g_icmp_eq 51 57 h.1 dJ7_compress_51 (by decide) (fun c => ?_) (fun c => ?_)
      · have hw := hw.1 c
        refine g_aload_3 57 h.1 dJ7_compress_57 ?_
        exact hR.2.2.2 58 (some q3) _ _ _ _ _ hT (by first | exact Or.inl ⟨_, rfl⟩ | exact Or.inr ⟨_, rfl⟩) dJ7_compress_58 ⟨_, rfl, hw⟩
      · have hw := hw.2 c
        exact g_le (xt_J7_compress_54 h hT hN hR hw) ⟨rfl, trivial⟩
theorem xm_J7_compress {l : Launch} {S : Adr} {A : Nat → Prop} (hD : FD xT S xcl A) {x0 : Nat} {x1 : Int32} {x2 : Int32} {ν : XN} {k n : Nat} {Q : Nat → XN → Prop} (hw : xw_J7_compress x0 x1 x2 ν k n Q) : xMet l S A 5 k n 3 yJ7_compress [.ref x0, .int x1, .int x2] ν (pA Q) :=
  x_met (by decide +kernel) hD ⟨⟨by decide, by decide, by show _ = some 3; decide +kernel⟩, by decide, q632, q185⟩ (Nat.le_of_ble_eq_true rfl) (fun κ Z h hT hN hR => xt_J7_compress h hT hN hR hw)
def xw_J7_coderFromArrayLen (x0 : Nat) (x1 : Int32) (ν : XN) (Q : Int32 → XN → Prop) : Prop :=
  (rc ν.2 x0 = 102 ∧ (narrow .byte (.int (Int8.toInt32 (Int32.toInt8 ((Int32.toUInt32 (x1 - (Int32.ofNat (rn ν.2 x0))) >>> (Int32.toUInt32 (31 : Int32) &&& Int32.toUInt32 31)).toInt32)))) = .int (Int8.toInt32 (Int32.toInt8 ((Int32.toUInt32 (x1 - (Int32.ofNat (rn ν.2 x0))) >>> (Int32.toUInt32 (31 : Int32) &&& Int32.toUInt32 31)).toInt32))) ∧ Q (Int8.toInt32 (Int32.toInt8 ((Int32.toUInt32 (x1 - (Int32.ofNat (rn ν.2 x0))) >>> (Int32.toUInt32 (31 : Int32) &&& Int32.toUInt32 31)).toInt32))) ν))
theorem xt_J7_coderFromArrayLen {κ : Cx} {S : Adr} {A : Nat → Prop} {Z : State → Prop} {Q : Int32 → XN → Prop} (h : XCx κ cJ7_coderFromArrayLen RJ7 S A 1 0 0) (hT : (cxT κ).sig.returnType = some .byte) (hN : (cxT κ).name = "coderFromArrayLen") (hR : xRet κ S A 0 0 Z cJ7_coderFromArrayLen (pI Q)) {x0 : Nat} {x1 : Int32} {ν : XN} (hw : xw_J7_coderFromArrayLen x0 x1 ν Q) : XG κ S A 0 0 Z 0 (ν, 0, 0) [some (.ref x0), some (.int x1)] [] := by
  unfold xw_J7_coderFromArrayLen at hw
  refine g_iload_1 0 h.1 dJ7_coderFromArrayLen_0 ?_
  refine g_aload_0 1 h.1 dJ7_coderFromArrayLen_1 ?_
  obtain ⟨f1, hw⟩ := hw
  refine ra_alen2 2 f1 h dJ7_coderFromArrayLen_2 ?_
  refine g_isub 3 h.1 dJ7_coderFromArrayLen_3 ?_
  refine g_bipush 4 _ bp_31 h.1 dJ7_coderFromArrayLen_4 ?_
  refine g_iushr 6 h.1 dJ7_coderFromArrayLen_6 ?_
  refine g_i2b 7 h.1 dJ7_coderFromArrayLen_7 ?_
  obtain ⟨f2, hw⟩ := hw
  exact hR.1 8 _ _ _ _ _ _ hT f2 dJ7_coderFromArrayLen_8 ⟨_, rfl, hw⟩
theorem xm_J7_coderFromArrayLen {l : Launch} {S : Adr} {A : Nat → Prop} (hD : FD xT S xcl A) {x0 : Nat} {x1 : Int32} {ν : XN} {Q : Int32 → XN → Prop} (hw : xw_J7_coderFromArrayLen x0 x1 ν Q) : xMet l S A 1 0 0 2 yJ7_coderFromArrayLen [.ref x0, .int x1] ν (pI Q) :=
  x_met (by decide +kernel) hD ⟨⟨by decide, by decide, by show _ = some 2; decide +kernel⟩, by decide, q677, q185⟩ (Nat.le_of_ble_eq_true rfl) (fun κ Z h hT hN hR => xt_J7_coderFromArrayLen h hT hN hR hw)
def xw_J6_init_2 (x0 : Nat) (x1 : Nat) (x2 : Int32) (x3 : Int32) (x4 : (Option Nat)) (ν : XN) (k n : Nat) (Q : XN → Prop) : Prop :=
  ((¬ x3 = 0 → (((1 : Int32) = 0 → (rk ν.2 x0 = 11 ∧ (∀ ν1, ν1 = (ν.1, tI ν.2 x0 1 (1 : Int32)) → (∃ k6 n7 k8 n9, k6 + k8 ≤ k ∧ n7 + n9 ≤ n ∧ xw_J7_toBytes x1 x2 x3 ν1 k6 n7 (fun r5 ν4 => (rk ν4.2 x0 = 11 ∧ (∀ ν12, ν12 = (ν4.1, tO ν4.2 x0 0 (some r5)) → Q ν12))))))) ∧ (¬ (1 : Int32) = 0 → (∃ k17 n18 k19 n20, k17 + k19 ≤ k ∧ n18 + n20 ≤ n ∧ xw_J7_compress x1 x2 x3 ν k17 n18 (fun r16 ν15 => (xw_J7_coderFromArrayLen r16 x3 ν15 (fun r24 ν23 => (rk ν23.2 x0 = 11 ∧ (narrow .byte (.int r24) = .int r24 ∧ (fits .byte (.int r24) = true ∧ (∀ ν25, ν25 = (ν23.1, tI ν23.2 x0 1 r24) → (rk ν25.2 x0 = 11 ∧ (∀ ν30, ν30 = (ν25.1, tO ν25.2 x0 0 (some r16)) → Q ν30))))))))))))) ∧ (x3 = 0 → False))
theorem xt_J6_init_2 {κ : Cx} {S : Adr} {A : Nat → Prop} {mc ms : Nat} {Z : State → Prop} {Q : XN → Prop} (h : XCx κ cJ6_init_2 RJ6 S A 6 mc ms) (hT : (cxT κ).sig.returnType = none) (hN : (cxT κ).name = "<init>") (hR : xRet κ S A mc ms Z cJ6_init_2 (pV Q)) {x0 : Nat} {x1 : Nat} {x2 : Int32} {x3 : Int32} {x4 : (Option Nat)} {ν : XN} {k n : Nat} (hw : xw_J6_init_2 x0 x1 x2 x3 x4 ν k n Q) : XG κ S A mc ms Z 0 (ν, k, n) [some (.ref x0), some (.ref x1), some (.int x2), some (.int x3), some (va_rf x4), none] [] := by
  unfold xw_J6_init_2 at hw
  refine g_aload_0 0 h.1 dJ6_init_2_0 ?_
  refine x_objInit 1 h (by decide) q626 (Nat.le_of_ble_eq_true rfl) dJ6_init_2_1 ?_
  refine g_iload_3 4 h.1 dJ6_init_2_4 ?_
  refine g_if_ne 5 27 h.1 dJ6_init_2_5 (by decide) (fun c => ?_) (fun c => ?_)
  · have hw := hw.1 c
    refine xs_J6_38 27 h dJ6_init_2_27 ?_
    refine g_if_eq 30 58 h.1 dJ6_init_2_30 (by decide) (fun c => ?_) (fun c => ?_)
    · have hw := hw.1 c
      refine g_aload_0 58 h.1 dJ6_init_2_58 ?_
      refine g_iconstv 59 _ ic_1 h.1 dJ6_init_2_59 ?_
      obtain ⟨f3, hw⟩ := hw
      refine xp_J6_15_10 60 rfl rfl hN f3 h dJ6_init_2_60 (fun ν1 e2 => ?_)
      have hw := hw ν1 e2
      refine g_aload_0 63 h.1 dJ6_init_2_63 ?_
      refine g_aload_1 64 h.1 dJ6_init_2_64 ?_
      refine g_iload_2 65 h.1 dJ6_init_2_65 ?_
      refine g_iload_3 66 h.1 dJ6_init_2_66 ?_
      obtain ⟨k6, n7, k8, n9, a10, a11, hw⟩ := hw
      refine xcS_A_3 67 h (xm_J7_toBytes h.2.2.1 hw) (by decide) a10 a11 q637 q678 (Nat.le_of_ble_eq_true rfl) dJ6_init_2_67 (fun r5 ν4 hw => ?_)
      obtain ⟨f14, hw⟩ := hw
      refine xp_J6_9_10 70 (some r5) hN f14 h dJ6_init_2_70 (fun ν12 e13 => ?_)
      have hw := hw ν12 e13
      exact hR.2.2.1 73 _ _ _ _ hT dJ6_init_2_73 ⟨rfl, hw⟩
    · have hw := hw.2 c
      refine g_aload_1 33 h.1 dJ6_init_2_33 ?_
      refine g_iload_2 34 h.1 dJ6_init_2_34 ?_
      refine g_iload_3 35 h.1 dJ6_init_2_35 ?_
      obtain ⟨k17, n18, k19, n20, a21, a22, hw⟩ := hw
      refine xcS_A_3 36 h (xm_J7_compress h.2.2.1 hw) (by decide) a21 a22 q631 q630 (Nat.le_of_ble_eq_true rfl) dJ6_init_2_36 (fun r16 ν15 hw => ?_)
      refine g_astore_5 39 h.1 (by cases x4 <;> rfl) dJ6_init_2_39 ?_
      refine g_aload_0 41 h.1 dJ6_init_2_41 ?_
      refine g_aload_5 42 h.1 dJ6_init_2_42 ?_
      refine g_iload_3 44 h.1 dJ6_init_2_44 ?_
      refine xcS_I_2 45 h (xm_J7_coderFromArrayLen h.2.2.1 hw) (by decide) (Nat.le_of_eq (Nat.zero_add _)) (Nat.le_of_eq (Nat.zero_add _)) q676 q675 (Nat.le_of_ble_eq_true rfl) dJ6_init_2_45 (fun r24 ν23 hw => ?_)
      obtain ⟨f27, hw⟩ := hw
      obtain ⟨f28, hw⟩ := hw
      obtain ⟨f29, hw⟩ := hw
      refine xp_J6_15_10 48 f28 f29 hN f27 h dJ6_init_2_48 (fun ν25 e26 => ?_)
      have hw := hw ν25 e26
      refine g_aload_0 51 h.1 dJ6_init_2_51 ?_
      refine g_aload_5 52 h.1 dJ6_init_2_52 ?_
      obtain ⟨f32, hw⟩ := hw
      refine xp_J6_9_10 54 (some r16) hN f32 h dJ6_init_2_54 (fun ν30 e31 => ?_)
      have hw := hw ν30 e31
      exact hR.2.2.1 57 _ _ _ _ hT dJ6_init_2_57 ⟨rfl, hw⟩
  · have hw := hw.2 c
    exact hw.elim
theorem xm_J6_init_2 {l : Launch} {S : Adr} {A : Nat → Prop} (hD : FD xT S xcl A) {x0 : Nat} {x1 : Nat} {x2 : Int32} {x3 : Int32} {x4 : (Option Nat)} {ν : XN} {k n : Nat} {Q : XN → Prop} (hw : xw_J6_init_2 x0 x1 x2 x3 x4 ν k n Q) : ∃ (bb : ByteArray) (L : Nat), xWd yJ6_init_2 bb L none 4 ∧ Met l yJ6_init_2 (ws_ yJ6_init_2 bb L none) (rmX 6 k n) (va_Pc [.ref x0, .ref x1, .int x2, .int x3, va_rf x4] (xPre S A ν)) (xQ S A (pV Q)) k n A :=
  by cases x4 <;> exact ⟨cJ6_init_2, 6, ⟨⟨by decide, by decide, by show _ = some 4; decide +kernel⟩, by decide, q625, q184⟩, x_start (by decide +kernel) hD ⟨⟨by decide, by decide, by show _ = some 4; decide +kernel⟩, by decide, q625, q184⟩ (Nat.le_of_ble_eq_true rfl) (fun κ Z h hT hN hR => xt_J6_init_2 h hT hN hR hw)⟩
def xw_J6_init (x0 : Nat) (x1 : Nat) (ν : XN) (k n : Nat) (Q : XN → Prop) : Prop :=
  (rc ν.2 x1 = 103 ∧ (∃ k3 n4 k5 n6, k3 + k5 ≤ k ∧ n4 + n6 ≤ n ∧ xw_J6_init_2 x0 x1 (0 : Int32) (Int32.ofNat (rn ν.2 x1)) none ν k3 n4 (fun ν2 => Q ν2)))
theorem xt_J6_init {κ : Cx} {S : Adr} {A : Nat → Prop} {mc ms : Nat} {Z : State → Prop} {Q : XN → Prop} (h : XCx κ cJ6_init RJ6 S A 7 mc ms) (hT : (cxT κ).sig.returnType = none) (hN : (cxT κ).name = "<init>") (hR : xRet κ S A mc ms Z cJ6_init (pV Q)) {x0 : Nat} {x1 : Nat} {ν : XN} {k n : Nat} (hw : xw_J6_init x0 x1 ν k n Q) : XG κ S A mc ms Z 0 (ν, k, n) [some (.ref x0), some (.ref x1)] [] := by
  unfold xw_J6_init at hw
  refine g_aload_0 0 h.1 dJ6_init_0 ?_
  refine g_aload_1 1 h.1 dJ6_init_1 ?_
  refine g_iconstv 2 _ ic_0 h.1 dJ6_init_2 ?_
  refine g_aload_1 3 h.1 dJ6_init_3 ?_
  obtain ⟨f1, hw⟩ := hw
  refine ra_alen3 4 f1 h dJ6_init_4 ?_
  refine g_null 5 h.1 dJ6_init_5 ?_
  obtain ⟨k3, n4, k5, n6, a7, a8, hw⟩ := hw
  refine xcI_V_4 6 h (xm_J6_init_2 h.2.2.1 hw) (by decide) a7 a8 rfl q624 q623 (Nat.le_of_ble_eq_true rfl) dJ6_init_6 (fun ν2 hw => ?_)
  exact hR.2.2.1 9 _ _ _ _ hT dJ6_init_9 ⟨rfl, hw⟩
theorem xm_J6_init {l : Launch} {S : Adr} {A : Nat → Prop} (hD : FD xT S xcl A) {x0 : Nat} {x1 : Nat} {ν : XN} {k n : Nat} {Q : XN → Prop} (hw : xw_J6_init x0 x1 ν k n Q) : ∃ (bb : ByteArray) (L : Nat), xWd yJ6_init bb L none 1 ∧ Met l yJ6_init (ws_ yJ6_init bb L none) (rmX 7 k n) (va_Pc [.ref x0, .ref x1] (xPre S A ν)) (xQ S A (pV Q)) k n A :=
  ⟨cJ6_init, 2, ⟨⟨by decide, by decide, by show _ = some 1; decide +kernel⟩, by decide, q622, q184⟩, x_start (by decide +kernel) hD ⟨⟨by decide, by decide, by show _ = some 1; decide +kernel⟩, by decide, q622, q184⟩ (Nat.le_of_ble_eq_true rfl) (fun κ Z h hT hN hR => xt_J6_init h hT hN hR hw)⟩
def xw_J6_valueOf (x0 : Nat) (ν : XN) (k n : Nat) (Q : Nat → XN → Prop) : Prop :=
  (∃ k5 n6, k5 + 1 ≤ k ∧ n6 + 4 ≤ n ∧ ∀ q1, rk ν.2 q1 = 0 → ∀ ν3, ν3 = (ν.1, tN ν.2 q1 11 0) → (∃ k10 n11 k12 n13, k10 + k12 ≤ k5 ∧ n11 + n13 ≤ n6 ∧ xw_J6_init q1 x0 ν3 k10 n11 (fun ν9 => Q q1 ν9)))
theorem xt_J6_valueOf {κ : Cx} {S : Adr} {A : Nat → Prop} {mc ms : Nat} {Z : State → Prop} {Q : Nat → XN → Prop} (h : XCx κ cJ6_valueOf RJ6 S A 8 mc ms) (hT : (cxT κ).sig.returnType = some (.object "java/lang/String")) (hN : (cxT κ).name = "valueOf") (hR : xRet κ S A mc ms Z cJ6_valueOf (pA Q)) {x0 : Nat} {ν : XN} {k n : Nat} (hw : xw_J6_valueOf x0 ν k n Q) : XG κ S A mc ms Z 0 (ν, k, n) [some (.ref x0)] [] := by
  unfold xw_J6_valueOf at hw
  obtain ⟨k5, n6, a7, a8, hw⟩ := hw
  refine xn_J6_10 0 a7 a8 h dJ6_valueOf_0 (fun q1 e2 ν3 e4 => ?_)
  have hw := hw q1 e2 ν3 e4
  refine g_dup 3 rfl h.1 dJ6_valueOf_3 ?_
  refine g_aload_0 4 h.1 dJ6_valueOf_4 ?_
  obtain ⟨k10, n11, k12, n13, a14, a15, hw⟩ := hw
  refine xcI_V_1 5 h (xm_J6_init h.2.2.1 hw) (by decide) a14 a15 rfl q621 q620 (Nat.le_of_ble_eq_true rfl) dJ6_valueOf_5 (fun ν9 hw => ?_)
  exact hR.2.2.2 8 (some q1) _ _ _ _ _ hT (by first | exact Or.inl ⟨_, rfl⟩ | exact Or.inr ⟨_, rfl⟩) dJ6_valueOf_8 ⟨_, rfl, hw⟩
theorem xm_J6_valueOf {l : Launch} {S : Adr} {A : Nat → Prop} (hD : FD xT S xcl A) {x0 : Nat} {ν : XN} {k n : Nat} {Q : Nat → XN → Prop} (hw : xw_J6_valueOf x0 ν k n Q) : xMet l S A 8 k n 1 yJ6_valueOf [.ref x0] ν (pA Q) :=
  x_met (by decide +kernel) hD ⟨⟨by decide, by decide, by show _ = some 1; decide +kernel⟩, by decide, q617, q184⟩ (Nat.le_of_ble_eq_true rfl) (fun κ Z h hT hN hR => xt_J6_valueOf h hT hN hR hw)
def xw_J10_signedHashCode_8 (x0 : Int32) (x1 : Nat) (x4 : Int32) (x5 : Int32) (ν : XN) (Q : Int32 → XN → Prop) : Prop :=
  ∀ X8 : Int32 → Nat → Int32 → Int32 → XN → Prop, (∀ (x0 : Int32) (x1 : Nat) (x4 : Int32) (x5 : Int32) (ν : XN), ((x4 ≤ x5 → Q x0 ν) ∧ (¬ x4 ≤ x5 → (rc ν.2 x1 = 102 ∧ (vp_in x5 (rn ν.2 x1) ∧ X8 (((31 : Int32) * x0) + ((rI ν.2 x1 (Int32.toNatClampNeg x5)) &&& (255 : Int32))) x1 x4 (x5 + 1) ν)))) → X8 x0 x1 x4 x5 ν) → X8 x0 x1 x4 x5 ν
theorem xt_J10_signedHashCode_8 {κ : Cx} {S : Adr} {A : Nat → Prop} {Z : State → Prop} {Q : Int32 → XN → Prop} (h : XCx κ cJ10_signedHashCode RJ10 S A 1 0 0) (hT : (cxT κ).sig.returnType = some .int) (hN : (cxT κ).name = "signedHashCode") (hR : xRet κ S A 0 0 Z cJ10_signedHashCode (pI Q)) {x0 : Int32} {x1 : Nat} {x4 : Int32} {x5 : Int32} {ν : XN} (hw : xw_J10_signedHashCode_8 x0 x1 x4 x5 ν Q) : XG κ S A 0 0 Z 8 (ν, 0, 0) [some (.int x0), some (.ref x1), none, none, some (.int x4), some (.int x5)] [] := by
  refine hw (fun x0 x1 x4 x5 ν => XG κ S A 0 0 Z 8 (ν, 0, 0) [some (.int x0), some (.ref x1), none, none, some (.int x4), some (.int x5)] []) ?_
  clear hw
  intro x0 x1 x4 x5 ν hw
  have hX8 : ∀ (x0 : Int32) (x1 : Nat) (x4 : Int32) (x5 : Int32) (ν : XN), XG κ S A 0 0 Z 8 (ν, 0, 0) [some (.int x0), some (.ref x1), none, none, some (.int x4), some (.int x5)] [] → XG κ S A 0 0 Z 8 (ν, 0, 0) [some (.int x0), some (.ref x1), none, none, some (.int x4), some (.int x5)] [] := fun _ _ _ _ _ hh => hh
  refine g_iload_5 8 h.1 dJ10_signedHashCode_8 ?_
  refine g_iload_4 10 h.1 dJ10_signedHashCode_10 ?_
  refine g_icmp_ge 12 35 h.1 dJ10_signedHashCode_12 (by decide) (fun c => ?_) (fun c => ?_)
  · have hw := hw.1 c
    refine g_iload_0 35 h.1 dJ10_signedHashCode_35 ?_
    exact hR.1 36 _ _ _ _ _ _ hT rfl dJ10_signedHashCode_36 ⟨_, rfl, hw⟩
  · have hw := hw.2 c
    refine g_bipush 15 _ bp_31 h.1 dJ10_signedHashCode_15 ?_
    refine g_iload_0 17 h.1 dJ10_signedHashCode_17 ?_
    refine g_imul 18 h.1 dJ10_signedHashCode_18 ?_
    refine g_aload_1 19 h.1 dJ10_signedHashCode_19 ?_
    refine g_iload_5 20 h.1 dJ10_signedHashCode_20 ?_
    obtain ⟨f1, hw⟩ := hw
    obtain ⟨f2, hw⟩ := hw
    refine ra_bald 22 f1 f2 h dJ10_signedHashCode_22 ?_
    refine g_sipush 23 _ sp_255 h.1 dJ10_signedHashCode_23 ?_
    refine g_iand 26 h.1 dJ10_signedHashCode_26 ?_
    refine g_iadd 27 h.1 dJ10_signedHashCode_27 ?_
    refine g_istore_0 28 h.1 dJ10_signedHashCode_28 ?_
    refine g_iinc_5 29 (x5 + 1) (congrArg _ ic_1) h.1 rfl dJ10_signedHashCode_29 ?_
    refine g_goto 32 8 h.1 dJ10_signedHashCode_32 (by decide) ?_
    exact g_le (hX8 _ _ _ _ _ hw) ⟨rfl, rfl, rfl, rfl, trivial⟩
def xw_J10_signedHashCode (x0 : Int32) (x1 : Nat) (x2 : Int32) (x3 : Int32) (ν : XN) (Q : Int32 → XN → Prop) : Prop :=
  xw_J10_signedHashCode_8 x0 x1 (x2 + x3) x2 ν Q
theorem xt_J10_signedHashCode {κ : Cx} {S : Adr} {A : Nat → Prop} {Z : State → Prop} {Q : Int32 → XN → Prop} (h : XCx κ cJ10_signedHashCode RJ10 S A 1 0 0) (hT : (cxT κ).sig.returnType = some .int) (hN : (cxT κ).name = "signedHashCode") (hR : xRet κ S A 0 0 Z cJ10_signedHashCode (pI Q)) {x0 : Int32} {x1 : Nat} {x2 : Int32} {x3 : Int32} {ν : XN} (hw : xw_J10_signedHashCode x0 x1 x2 x3 ν Q) : XG κ S A 0 0 Z 0 (ν, 0, 0) [some (.int x0), some (.ref x1), some (.int x2), some (.int x3), none, none] [] := by
  unfold xw_J10_signedHashCode at hw
  refine g_iload_2 0 h.1 dJ10_signedHashCode_0 ?_
  refine g_iload_3 1 h.1 dJ10_signedHashCode_1 ?_
  refine g_iadd 2 h.1 dJ10_signedHashCode_2 ?_
  refine g_istore_4 3 h.1 rfl dJ10_signedHashCode_3 ?_
  refine g_iload_2 5 h.1 dJ10_signedHashCode_5 ?_
  refine g_istore_5 6 h.1 rfl dJ10_signedHashCode_6 ?_
  exact g_le (xt_J10_signedHashCode_8 h hT hN hR hw) ⟨rfl, rfl, rfl, rfl, trivial⟩
theorem xm_J10_signedHashCode {l : Launch} {S : Adr} {A : Nat → Prop} (hD : FD xT S xcl A) {x0 : Int32} {x1 : Nat} {x2 : Int32} {x3 : Int32} {ν : XN} {Q : Int32 → XN → Prop} (hw : xw_J10_signedHashCode x0 x1 x2 x3 ν Q) : xMet l S A 1 0 0 4 yJ10_signedHashCode [.int x0, .ref x1, .int x2, .int x3] ν (pI Q) :=
  x_met (by decide +kernel) hD ⟨⟨by decide, by decide, by show _ = some 4; decide +kernel⟩, by decide, q741, q188⟩ (Nat.le_of_ble_eq_true rfl) (fun κ Z h hT hN hR => xt_J10_signedHashCode h hT hN hR hw)
def xw_J10_hashCode_2_8 (x0 : Int32) (x1 : Nat) (x4 : Int32) (x5 : Int32) (ν : XN) (Q : Int32 → XN → Prop) : Prop :=
  ∀ X8 : Int32 → Nat → Int32 → Int32 → XN → Prop, (∀ (x0 : Int32) (x1 : Nat) (x4 : Int32) (x5 : Int32) (ν : XN), ((x4 ≤ x5 → Q x0 ν) ∧ (¬ x4 ≤ x5 → (rc ν.2 x1 = 102 ∧ (vp_in x5 (rn ν.2 x1) ∧ X8 (((31 : Int32) * x0) + (rI ν.2 x1 (Int32.toNatClampNeg x5))) x1 x4 (x5 + 1) ν)))) → X8 x0 x1 x4 x5 ν) → X8 x0 x1 x4 x5 ν
theorem xt_J10_hashCode_2_8 {κ : Cx} {S : Adr} {A : Nat → Prop} {Z : State → Prop} {Q : Int32 → XN → Prop} (h : XCx κ cJ10_hashCode_2 RJ10 S A 1 0 0) (hT : (cxT κ).sig.returnType = some .int) (hN : (cxT κ).name = "hashCode") (hR : xRet κ S A 0 0 Z cJ10_hashCode_2 (pI Q)) {x0 : Int32} {x1 : Nat} {x4 : Int32} {x5 : Int32} {ν : XN} (hw : xw_J10_hashCode_2_8 x0 x1 x4 x5 ν Q) : XG κ S A 0 0 Z 8 (ν, 0, 0) [some (.int x0), some (.ref x1), none, none, some (.int x4), some (.int x5)] [] := by
  refine hw (fun x0 x1 x4 x5 ν => XG κ S A 0 0 Z 8 (ν, 0, 0) [some (.int x0), some (.ref x1), none, none, some (.int x4), some (.int x5)] []) ?_
  clear hw
  intro x0 x1 x4 x5 ν hw
  have hX8 : ∀ (x0 : Int32) (x1 : Nat) (x4 : Int32) (x5 : Int32) (ν : XN), XG κ S A 0 0 Z 8 (ν, 0, 0) [some (.int x0), some (.ref x1), none, none, some (.int x4), some (.int x5)] [] → XG κ S A 0 0 Z 8 (ν, 0, 0) [some (.int x0), some (.ref x1), none, none, some (.int x4), some (.int x5)] [] := fun _ _ _ _ _ hh => hh
  refine g_iload_5 8 h.1 dJ10_hashCode_2_8 ?_
  refine g_iload_4 10 h.1 dJ10_hashCode_2_10 ?_
  refine g_icmp_ge 12 31 h.1 dJ10_hashCode_2_12 (by decide) (fun c => ?_) (fun c => ?_)
  · have hw := hw.1 c
    refine g_iload_0 31 h.1 dJ10_hashCode_2_31 ?_
    exact hR.1 32 _ _ _ _ _ _ hT rfl dJ10_hashCode_2_32 ⟨_, rfl, hw⟩
  · have hw := hw.2 c
    refine g_bipush 15 _ bp_31 h.1 dJ10_hashCode_2_15 ?_
    refine g_iload_0 17 h.1 dJ10_hashCode_2_17 ?_
    refine g_imul 18 h.1 dJ10_hashCode_2_18 ?_
    refine g_aload_1 19 h.1 dJ10_hashCode_2_19 ?_
    refine g_iload_5 20 h.1 dJ10_hashCode_2_20 ?_
    obtain ⟨f1, hw⟩ := hw
    obtain ⟨f2, hw⟩ := hw
    refine ra_bald 22 f1 f2 h dJ10_hashCode_2_22 ?_
    refine g_iadd 23 h.1 dJ10_hashCode_2_23 ?_
    refine g_istore_0 24 h.1 dJ10_hashCode_2_24 ?_
    refine g_iinc_5 25 (x5 + 1) (congrArg _ ic_1) h.1 rfl dJ10_hashCode_2_25 ?_
    refine g_goto 28 8 h.1 dJ10_hashCode_2_28 (by decide) ?_
    exact g_le (hX8 _ _ _ _ _ hw) ⟨rfl, rfl, rfl, rfl, trivial⟩
def xw_J10_hashCode_2 (x0 : Int32) (x1 : Nat) (x2 : Int32) (x3 : Int32) (ν : XN) (Q : Int32 → XN → Prop) : Prop :=
  xw_J10_hashCode_2_8 x0 x1 (x2 + x3) x2 ν Q
theorem xt_J10_hashCode_2 {κ : Cx} {S : Adr} {A : Nat → Prop} {Z : State → Prop} {Q : Int32 → XN → Prop} (h : XCx κ cJ10_hashCode_2 RJ10 S A 1 0 0) (hT : (cxT κ).sig.returnType = some .int) (hN : (cxT κ).name = "hashCode") (hR : xRet κ S A 0 0 Z cJ10_hashCode_2 (pI Q)) {x0 : Int32} {x1 : Nat} {x2 : Int32} {x3 : Int32} {ν : XN} (hw : xw_J10_hashCode_2 x0 x1 x2 x3 ν Q) : XG κ S A 0 0 Z 0 (ν, 0, 0) [some (.int x0), some (.ref x1), some (.int x2), some (.int x3), none, none] [] := by
  unfold xw_J10_hashCode_2 at hw
  refine g_iload_2 0 h.1 dJ10_hashCode_2_0 ?_
  refine g_iload_3 1 h.1 dJ10_hashCode_2_1 ?_
  refine g_iadd 2 h.1 dJ10_hashCode_2_2 ?_
  refine g_istore_4 3 h.1 rfl dJ10_hashCode_2_3 ?_
  refine g_iload_2 5 h.1 dJ10_hashCode_2_5 ?_
  refine g_istore_5 6 h.1 rfl dJ10_hashCode_2_6 ?_
  exact g_le (xt_J10_hashCode_2_8 h hT hN hR hw) ⟨rfl, rfl, rfl, rfl, trivial⟩
theorem xm_J10_hashCode_2 {l : Launch} {S : Adr} {A : Nat → Prop} (hD : FD xT S xcl A) {x0 : Int32} {x1 : Nat} {x2 : Int32} {x3 : Int32} {ν : XN} {Q : Int32 → XN → Prop} (hw : xw_J10_hashCode_2 x0 x1 x2 x3 ν Q) : xMet l S A 1 0 0 4 yJ10_hashCode_2 [.int x0, .ref x1, .int x2, .int x3] ν (pI Q) :=
  x_met (by decide +kernel) hD ⟨⟨by decide, by decide, by show _ = some 4; decide +kernel⟩, by decide, q764, q188⟩ (Nat.le_of_ble_eq_true rfl) (fun κ Z h hT hN hR => xt_J10_hashCode_2 h hT hN hR hw)
def xw_J10_vectorizedHashCode_129 (x4 : Int32) (ν : XN) (Q : Int32 → XN → Prop) : Prop :=
  False
theorem xt_J10_vectorizedHashCode_129 {κ : Cx} {S : Adr} {A : Nat → Prop} {Z : State → Prop} {Q : Int32 → XN → Prop} (h : XCx κ cJ10_vectorizedHashCode RJ10 S A 2 0 0) (hT : (cxT κ).sig.returnType = some .int) (hN : (cxT κ).name = "vectorizedHashCode") (hR : xRet κ S A 0 0 Z cJ10_vectorizedHashCode (pI Q)) {x4 : Int32} {ν : XN} (hw : xw_J10_vectorizedHashCode_129 x4 ν Q) : XG κ S A 0 0 Z 129 (ν, 0, 0) [none, none, none, none, some (.int x4)] [] := by
  unfold xw_J10_vectorizedHashCode_129 at hw
  exact hw.elim
def xw_J10_vectorizedHashCode (x0 : Nat) (x1 : Int32) (x2 : Int32) (x3 : Int32) (x4 : Int32) (ν : XN) (Q : Int32 → XN → Prop) : Prop :=
  ((x4 = 4 → (rc ν.2 x0 = 102 ∧ (xw_J10_signedHashCode x3 x0 x1 x2 ν (fun r3 ν2 => Q r3 ν2)))) ∧ (¬ x4 = 4 → ((x4 = 5 → False) ∧ (¬ x4 = 5 → ((x4 = 6 → xw_J10_vectorizedHashCode_129 x4 ν Q) ∧ (¬ x4 = 6 → ((x4 = 7 → xw_J10_vectorizedHashCode_129 x4 ν Q) ∧ (¬ x4 = 7 → ((x4 = 8 → (rc ν.2 x0 = 102 ∧ (xw_J10_hashCode_2 x3 x0 x1 x2 ν (fun r6 ν5 => Q r6 ν5)))) ∧ (¬ x4 = 8 → ((x4 = 9 → False) ∧ (¬ x4 = 9 → ((x4 = 10 → False) ∧ (¬ x4 = 10 → xw_J10_vectorizedHashCode_129 x4 ν Q))))))))))))))
theorem xt_J10_vectorizedHashCode {κ : Cx} {S : Adr} {A : Nat → Prop} {Z : State → Prop} {Q : Int32 → XN → Prop} (h : XCx κ cJ10_vectorizedHashCode RJ10 S A 2 0 0) (hT : (cxT κ).sig.returnType = some .int) (hN : (cxT κ).name = "vectorizedHashCode") (hR : xRet κ S A 0 0 Z cJ10_vectorizedHashCode (pI Q)) {x0 : Nat} {x1 : Int32} {x2 : Int32} {x3 : Int32} {x4 : Int32} {ν : XN} (hw : xw_J10_vectorizedHashCode x0 x1 x2 x3 x4 ν Q) : XG κ S A 0 0 Z 0 (ν, 0, 0) [some (.ref x0), some (.int x1), some (.int x2), some (.int x3), some (.int x4)] [] := by
  unfold xw_J10_vectorizedHashCode at hw
  refine g_iload_4 0 h.1 dJ10_vectorizedHashCode_0 ?_
  rcases Classical.em (x4 = 4) with c0 | c0
  · have hw := hw.1 c0
    refine g_tabIn 2 44 42 h.1 dJ10_vectorizedHashCode_2 (by rw [c0]; decide) (by rw [c0]; decide) (by rw [c0]; decide) (by decide) ?_
    refine g_iload_3 44 h.1 dJ10_vectorizedHashCode_44 ?_
    refine g_aload_0 45 h.1 dJ10_vectorizedHashCode_45 ?_
    obtain ⟨f1, hw⟩ := hw
    refine x_castB 46 f1 h q738 dJ10_vectorizedHashCode_46 ?_
    refine g_iload_1 49 h.1 dJ10_vectorizedHashCode_49 ?_
    refine g_iload_2 50 h.1 dJ10_vectorizedHashCode_50 ?_
    refine xcS_I_4 51 h (xm_J10_signedHashCode h.2.2.1 hw) (by decide) (Nat.le_of_eq (Nat.zero_add _)) (Nat.le_of_eq (Nat.zero_add _)) q740 q739 (Nat.le_of_ble_eq_true rfl) dJ10_vectorizedHashCode_51 (fun r3 ν2 hw => ?_)
    refine g_goto 54 157 h.1 dJ10_vectorizedHashCode_54 (by decide) ?_
    exact hR.1 157 _ _ _ _ _ _ hT rfl dJ10_vectorizedHashCode_157 ⟨_, rfl, hw⟩
  · have hw := hw.2 c0
    rcases Classical.em (x4 = 5) with c1 | c1
    · have hw := hw.1 c1
      refine g_tabIn 2 57 55 h.1 dJ10_vectorizedHashCode_2 (by rw [c1]; decide) (by rw [c1]; decide) (by rw [c1]; decide) (by decide) ?_
      exact hw.elim
    · have hw := hw.2 c1
      rcases Classical.em (x4 = 6) with c2 | c2
      · have hw := hw.1 c2
        refine g_tabIn 2 129 127 h.1 dJ10_vectorizedHashCode_2 (by rw [c2]; decide) (by rw [c2]; decide) (by rw [c2]; decide) (by decide) ?_
        exact g_le (xt_J10_vectorizedHashCode_129 h hT hN hR hw) ⟨rfl, trivial⟩
      · have hw := hw.2 c2
        rcases Classical.em (x4 = 7) with c3 | c3
        · have hw := hw.1 c3
          refine g_tabIn 2 129 127 h.1 dJ10_vectorizedHashCode_2 (by rw [c3]; decide) (by rw [c3]; decide) (by rw [c3]; decide) (by decide) ?_
          exact g_le (xt_J10_vectorizedHashCode_129 h hT hN hR hw) ⟨rfl, trivial⟩
        · have hw := hw.2 c3
          rcases Classical.em (x4 = 8) with c4 | c4
          · have hw := hw.1 c4
            refine g_tabIn 2 90 88 h.1 dJ10_vectorizedHashCode_2 (by rw [c4]; decide) (by rw [c4]; decide) (by rw [c4]; decide) (by decide) ?_
            refine g_iload_3 90 h.1 dJ10_vectorizedHashCode_90 ?_
            refine g_aload_0 91 h.1 dJ10_vectorizedHashCode_91 ?_
            obtain ⟨f4, hw⟩ := hw
            refine x_castB 92 f4 h q738 dJ10_vectorizedHashCode_92 ?_
            refine g_iload_1 95 h.1 dJ10_vectorizedHashCode_95 ?_
            refine g_iload_2 96 h.1 dJ10_vectorizedHashCode_96 ?_
            refine xcS_I_4 97 h (xm_J10_hashCode_2 h.2.2.1 hw) (by decide) (Nat.le_of_eq (Nat.zero_add _)) (Nat.le_of_eq (Nat.zero_add _)) q763 q762 (Nat.le_of_ble_eq_true rfl) dJ10_vectorizedHashCode_97 (fun r6 ν5 hw => ?_)
            refine g_goto 100 157 h.1 dJ10_vectorizedHashCode_100 (by decide) ?_
            exact hR.1 157 _ _ _ _ _ _ hT rfl dJ10_vectorizedHashCode_157 ⟨_, rfl, hw⟩
          · have hw := hw.2 c4
            rcases Classical.em (x4 = 9) with c5 | c5
            · have hw := hw.1 c5
              refine g_tabIn 2 103 101 h.1 dJ10_vectorizedHashCode_2 (by rw [c5]; decide) (by rw [c5]; decide) (by rw [c5]; decide) (by decide) ?_
              exact hw.elim
            · have hw := hw.2 c5
              rcases Classical.em (x4 = 10) with c6 | c6
              · have hw := hw.1 c6
                refine g_tabIn 2 116 114 h.1 dJ10_vectorizedHashCode_2 (by rw [c6]; decide) (by rw [c6]; decide) (by rw [c6]; decide) (by decide) ?_
                exact hw.elim
              · have hw := hw.2 c6
                refine g_tabOut 2 129 h.1 dJ10_vectorizedHashCode_2 (tabOut_4_10 c0 c1 c2 c3 c4 c5 c6) (by decide) ?_
                exact g_le (xt_J10_vectorizedHashCode_129 h hT hN hR hw) ⟨rfl, trivial⟩
theorem xm_J10_vectorizedHashCode {l : Launch} {S : Adr} {A : Nat → Prop} (hD : FD xT S xcl A) {x0 : Nat} {x1 : Int32} {x2 : Int32} {x3 : Int32} {x4 : Int32} {ν : XN} {Q : Int32 → XN → Prop} (hw : xw_J10_vectorizedHashCode x0 x1 x2 x3 x4 ν Q) : xMet l S A 2 0 0 5 yJ10_vectorizedHashCode [.ref x0, .int x1, .int x2, .int x3, .int x4] ν (pI Q) :=
  x_met (by decide +kernel) hD ⟨⟨by decide, by decide, by show _ = some 5; decide +kernel⟩, by decide, q737, q188⟩ (Nat.le_of_ble_eq_true rfl) (fun κ Z h hT hN hR => xt_J10_vectorizedHashCode h hT hN hR hw)
def xw_J7_hashCode (x0 : Nat) (ν : XN) (Q : Int32 → XN → Prop) : Prop :=
  (rc ν.2 x0 = 102 ∧ (((Int32.ofNat (rn ν.2 x0)) = 0 → Q (0 : Int32) ν) ∧ (¬ (Int32.ofNat (rn ν.2 x0)) = 0 → (((Int32.ofNat (rn ν.2 x0)) = 2 → (xw_J7_getChar x0 (0 : Int32) ν (fun r3 ν2 => Q r3 ν2))) ∧ (¬ (Int32.ofNat (rn ν.2 x0)) = 2 → (rc ν.2 x0 = 102 ∧ (xw_J10_vectorizedHashCode x0 (0 : Int32) ((Int32.ofNat (rn ν.2 x0)) >>> ((1 : Int32) &&& 31)) (0 : Int32) (5 : Int32) ν (fun r6 ν5 => Q r6 ν5))))))))
theorem xt_J7_hashCode {κ : Cx} {S : Adr} {A : Nat → Prop} {Z : State → Prop} {Q : Int32 → XN → Prop} (h : XCx κ cJ7_hashCode RJ7 S A 3 0 0) (hT : (cxT κ).sig.returnType = some .int) (hN : (cxT κ).name = "hashCode") (hR : xRet κ S A 0 0 Z cJ7_hashCode (pI Q)) {x0 : Nat} {ν : XN} (hw : xw_J7_hashCode x0 ν Q) : XG κ S A 0 0 Z 0 (ν, 0, 0) [some (.ref x0)] [] := by
  unfold xw_J7_hashCode at hw
  refine g_aload_0 0 h.1 dJ7_hashCode_0 ?_
  obtain ⟨f1, hw⟩ := hw
  refine ra_alen2 1 f1 h dJ7_hashCode_1 ?_
  rcases Classical.em ((Int32.ofNat (rn ν.2 x0)) = 0) with c0 | c0
  · have hw := hw.1 c0
    refine g_lookup 2 28 26 h.1 dJ7_hashCode_2 (by decide) (by rw [c0]; decide) (by decide) ?_
    refine g_iconstv 28 _ ic_0 h.1 dJ7_hashCode_28 ?_
    refine g_goto 29 51 h.1 dJ7_hashCode_29 (by decide) ?_
    exact hR.1 51 _ _ _ _ _ _ hT rfl dJ7_hashCode_51 ⟨_, rfl, hw⟩
  · have hw := hw.2 c0
    rcases Classical.em ((Int32.ofNat (rn ν.2 x0)) = 2) with c1 | c1
    · have hw := hw.1 c1
      refine g_lookup 2 32 30 h.1 dJ7_hashCode_2 (by decide) (by rw [c1]; decide) (by decide) ?_
      refine g_aload_0 32 h.1 dJ7_hashCode_32 ?_
      refine g_iconstv 33 _ ic_0 h.1 dJ7_hashCode_33 ?_
      refine xcS_I_2 34 h (xm_J7_getChar h.2.2.1 hw) (by decide) (Nat.le_of_eq (Nat.zero_add _)) (Nat.le_of_eq (Nat.zero_add _)) q659 q658 (Nat.le_of_ble_eq_true rfl) dJ7_hashCode_34 (fun r3 ν2 hw => ?_)
      refine g_goto 37 51 h.1 dJ7_hashCode_37 (by decide) ?_
      exact hR.1 51 _ _ _ _ _ _ hT rfl dJ7_hashCode_51 ⟨_, rfl, hw⟩
    · have hw := hw.2 c1
      refine g_lookup 2 40 38 h.1 dJ7_hashCode_2 (by decide) (by rw [show (#[(0, 26), (2, 30)] : Array (Int × Int)).toList = [(0, 26), (2, 30)] from rfl, lv_osw c0 (show (0 : Int32).toInt = 0 by decide), lv_osw c1 (show (2 : Int32).toInt = 2 by decide)]; rfl) (by decide) ?_
      refine g_aload_0 40 h.1 dJ7_hashCode_40 ?_
      refine g_iconstv 41 _ ic_0 h.1 dJ7_hashCode_41 ?_
      refine g_aload_0 42 h.1 dJ7_hashCode_42 ?_
      obtain ⟨f4, hw⟩ := hw
      refine ra_alen2 43 f4 h dJ7_hashCode_43 ?_
      refine g_iconstv 44 _ ic_1 h.1 dJ7_hashCode_44 ?_
      refine g_ishr 45 h.1 dJ7_hashCode_45 ?_
      refine g_iconstv 46 _ ic_0 h.1 dJ7_hashCode_46 ?_
      refine g_iconstv 47 _ ic_5 h.1 dJ7_hashCode_47 ?_
      refine xcS_I_5 48 h (xm_J10_vectorizedHashCode h.2.2.1 hw) (by decide) (Nat.le_of_eq (Nat.zero_add _)) (Nat.le_of_eq (Nat.zero_add _)) q736 q776 (Nat.le_of_ble_eq_true rfl) dJ7_hashCode_48 (fun r6 ν5 hw => ?_)
      exact hR.1 51 _ _ _ _ _ _ hT rfl dJ7_hashCode_51 ⟨_, rfl, hw⟩
theorem xm_J7_hashCode {l : Launch} {S : Adr} {A : Nat → Prop} (hD : FD xT S xcl A) {x0 : Nat} {ν : XN} {Q : Int32 → XN → Prop} (hw : xw_J7_hashCode x0 ν Q) : xMet l S A 3 0 0 1 yJ7_hashCode [.ref x0] ν (pI Q) :=
  x_met (by decide +kernel) hD ⟨⟨by decide, by decide, by show _ = some 1; decide +kernel⟩, by decide, q775, q185⟩ (Nat.le_of_ble_eq_true rfl) (fun κ Z h hT hN hR => xt_J7_hashCode h hT hN hR hw)
def xw_J9_hashCode (x0 : Nat) (ν : XN) (Q : Int32 → XN → Prop) : Prop :=
  (rc ν.2 x0 = 102 ∧ (((Int32.ofNat (rn ν.2 x0)) = 0 → Q (0 : Int32) ν) ∧ (¬ (Int32.ofNat (rn ν.2 x0)) = 0 → (((Int32.ofNat (rn ν.2 x0)) = 1 → (rc ν.2 x0 = 102 ∧ (vp_in (0 : Int32) (rn ν.2 x0) ∧ Q ((rI ν.2 x0 (Int32.toNatClampNeg (0 : Int32))) &&& (255 : Int32)) ν))) ∧ (¬ (Int32.ofNat (rn ν.2 x0)) = 1 → (rc ν.2 x0 = 102 ∧ (xw_J10_vectorizedHashCode x0 (0 : Int32) (Int32.ofNat (rn ν.2 x0)) (0 : Int32) (4 : Int32) ν (fun r6 ν5 => Q r6 ν5))))))))
theorem xt_J9_hashCode {κ : Cx} {S : Adr} {A : Nat → Prop} {Z : State → Prop} {Q : Int32 → XN → Prop} (h : XCx κ cJ9_hashCode RJ9 S A 3 0 0) (hT : (cxT κ).sig.returnType = some .int) (hN : (cxT κ).name = "hashCode") (hR : xRet κ S A 0 0 Z cJ9_hashCode (pI Q)) {x0 : Nat} {ν : XN} (hw : xw_J9_hashCode x0 ν Q) : XG κ S A 0 0 Z 0 (ν, 0, 0) [some (.ref x0)] [] := by
  unfold xw_J9_hashCode at hw
  refine g_aload_0 0 h.1 dJ9_hashCode_0 ?_
  obtain ⟨f1, hw⟩ := hw
  refine ra_alen2 1 f1 h dJ9_hashCode_1 ?_
  rcases Classical.em ((Int32.ofNat (rn ν.2 x0)) = 0) with c0 | c0
  · have hw := hw.1 c0
    refine g_lookup 2 28 26 h.1 dJ9_hashCode_2 (by decide) (by rw [c0]; decide) (by decide) ?_
    refine g_iconstv 28 _ ic_0 h.1 dJ9_hashCode_28 ?_
    refine g_goto 29 51 h.1 dJ9_hashCode_29 (by decide) ?_
    exact hR.1 51 _ _ _ _ _ _ hT rfl dJ9_hashCode_51 ⟨_, rfl, hw⟩
  · have hw := hw.2 c0
    rcases Classical.em ((Int32.ofNat (rn ν.2 x0)) = 1) with c1 | c1
    · have hw := hw.1 c1
      refine g_lookup 2 32 30 h.1 dJ9_hashCode_2 (by decide) (by rw [c1]; decide) (by decide) ?_
      refine g_aload_0 32 h.1 dJ9_hashCode_32 ?_
      refine g_iconstv 33 _ ic_0 h.1 dJ9_hashCode_33 ?_
      obtain ⟨f2, hw⟩ := hw
      obtain ⟨f3, hw⟩ := hw
      refine ra_bald 34 f2 f3 h dJ9_hashCode_34 ?_
      refine g_sipush 35 _ sp_255 h.1 dJ9_hashCode_35 ?_
      refine g_iand 38 h.1 dJ9_hashCode_38 ?_
      refine g_goto 39 51 h.1 dJ9_hashCode_39 (by decide) ?_
      exact hR.1 51 _ _ _ _ _ _ hT rfl dJ9_hashCode_51 ⟨_, rfl, hw⟩
    · have hw := hw.2 c1
      refine g_lookup 2 42 40 h.1 dJ9_hashCode_2 (by decide) (by rw [show (#[(0, 26), (1, 30)] : Array (Int × Int)).toList = [(0, 26), (1, 30)] from rfl, lv_osw c0 (show (0 : Int32).toInt = 0 by decide), lv_osw c1 (show (1 : Int32).toInt = 1 by decide)]; rfl) (by decide) ?_
      refine g_aload_0 42 h.1 dJ9_hashCode_42 ?_
      refine g_iconstv 43 _ ic_0 h.1 dJ9_hashCode_43 ?_
      refine g_aload_0 44 h.1 dJ9_hashCode_44 ?_
      obtain ⟨f4, hw⟩ := hw
      refine ra_alen2 45 f4 h dJ9_hashCode_45 ?_
      refine g_iconstv 46 _ ic_0 h.1 dJ9_hashCode_46 ?_
      refine g_iconstv 47 _ ic_4 h.1 dJ9_hashCode_47 ?_
      refine xcS_I_5 48 h (xm_J10_vectorizedHashCode h.2.2.1 hw) (by decide) (Nat.le_of_eq (Nat.zero_add _)) (Nat.le_of_eq (Nat.zero_add _)) q736 q735 (Nat.le_of_ble_eq_true rfl) dJ9_hashCode_48 (fun r6 ν5 hw => ?_)
      exact hR.1 51 _ _ _ _ _ _ hT rfl dJ9_hashCode_51 ⟨_, rfl, hw⟩
theorem xm_J9_hashCode {l : Launch} {S : Adr} {A : Nat → Prop} (hD : FD xT S xcl A) {x0 : Nat} {ν : XN} {Q : Int32 → XN → Prop} (hw : xw_J9_hashCode x0 ν Q) : xMet l S A 3 0 0 1 yJ9_hashCode [.ref x0] ν (pI Q) :=
  x_met (by decide +kernel) hD ⟨⟨by decide, by decide, by show _ = some 1; decide +kernel⟩, by decide, q734, q187⟩ (Nat.le_of_ble_eq_true rfl) (fun κ Z h hT hN hR => xt_J9_hashCode h hT hN hR hw)
def xw_J6_hashCode_40 (x0 : Nat) (y0 : Int32) (ν : XN) (Q : Int32 → XN → Prop) : Prop :=
  ((¬ y0 = 0 → (rk ν.2 x0 = 11 ∧ (∀ ν16, ν16 = (ν.1, tI ν.2 x0 2 y0) → Q y0 ν16))) ∧ (y0 = 0 → (rk ν.2 x0 = 11 ∧ (∀ ν19, ν19 = (ν.1, tI ν.2 x0 3 (1 : Int32)) → Q y0 ν19))))
theorem xt_J6_hashCode_40 {κ : Cx} {S : Adr} {A : Nat → Prop} {Z : State → Prop} {Q : Int32 → XN → Prop} (h : XCx κ cJ6_hashCode RJ6 S A 4 0 0) (hT : (cxT κ).sig.returnType = some .int) (hN : (cxT κ).name = "hashCode") (hR : xRet κ S A 0 0 Z cJ6_hashCode (pI Q)) {x0 : Nat} {y0 : Int32} {ν : XN} (hw : xw_J6_hashCode_40 x0 y0 ν Q) : XG κ S A 0 0 Z 40 (ν, 0, 0) [some (.ref x0), none] [.int y0] := by
  unfold xw_J6_hashCode_40 at hw
  refine g_istore_1 40 h.1 rfl dJ6_hashCode_40 ?_
  refine g_iload_1 41 h.1 dJ6_hashCode_41 ?_
  refine g_if_ne 42 53 h.1 dJ6_hashCode_42 (by decide) (fun c => ?_) (fun c => ?_)
  · have hw := hw.1 c
    refine g_aload_0 53 h.1 dJ6_hashCode_53 ?_
    refine g_iload_1 54 h.1 dJ6_hashCode_54 ?_
    obtain ⟨f18, hw⟩ := hw
    refine xp_J6_19_10 55 f18 h dJ6_hashCode_55 (fun ν16 e17 => ?_)
    have hw := hw ν16 e17
    refine g_iload_1 58 h.1 dJ6_hashCode_58 ?_
    exact hR.1 59 _ _ _ _ _ _ hT rfl dJ6_hashCode_59 ⟨_, rfl, hw⟩
  · have hw := hw.2 c
    refine g_aload_0 45 h.1 dJ6_hashCode_45 ?_
    refine g_iconstv 46 _ ic_1 h.1 dJ6_hashCode_46 ?_
    obtain ⟨f21, hw⟩ := hw
    refine xp_J6_23_10 47 rfl rfl f21 h dJ6_hashCode_47 (fun ν19 e20 => ?_)
    have hw := hw ν19 e20
    refine g_goto 50 58 h.1 dJ6_hashCode_50 (by decide) ?_
    refine g_iload_1 58 h.1 dJ6_hashCode_58 ?_
    exact hR.1 59 _ _ _ _ _ _ hT rfl dJ6_hashCode_59 ⟨_, rfl, hw⟩
def xw_J6_hashCode (x0 : Nat) (ν : XN) (Q : Int32 → XN → Prop) : Prop :=
  (rc ν.2 x0 = 11 ∧ ((¬ (rI ν.2 x0 2) = 0 → Q (rI ν.2 x0 2) ν) ∧ ((rI ν.2 x0 2) = 0 → (rc ν.2 x0 = 11 ∧ ((¬ (rI ν.2 x0 3) = 0 → Q (rI ν.2 x0 2) ν) ∧ ((rI ν.2 x0 3) = 0 → (rc ν.2 x0 = 11 ∧ (xw_J6_isLatin1 x0 ν (fun r4 ν3 => ((r4 = 0 → (rc ν3.2 x0 = 11 ∧ (∃ b7, (rO ν3.2 x0 0) = some b7 ∧ (xw_J7_hashCode b7 ν3 (fun r10 ν9 => xw_J6_hashCode_40 x0 r10 ν9 Q))))) ∧ (¬ r4 = 0 → (rc ν3.2 x0 = 11 ∧ (∃ b12, (rO ν3.2 x0 0) = some b12 ∧ (xw_J9_hashCode b12 ν3 (fun r15 ν14 => xw_J6_hashCode_40 x0 r15 ν14 Q)))))))))))))))
theorem xt_J6_hashCode {κ : Cx} {S : Adr} {A : Nat → Prop} {Z : State → Prop} {Q : Int32 → XN → Prop} (h : XCx κ cJ6_hashCode RJ6 S A 4 0 0) (hT : (cxT κ).sig.returnType = some .int) (hN : (cxT κ).name = "hashCode") (hR : xRet κ S A 0 0 Z cJ6_hashCode (pI Q)) {x0 : Nat} {ν : XN} (hw : xw_J6_hashCode x0 ν Q) : XG κ S A 0 0 Z 0 (ν, 0, 0) [some (.ref x0), none] [] := by
  unfold xw_J6_hashCode at hw
  refine g_aload_0 0 h.1 dJ6_hashCode_0 ?_
  obtain ⟨f1, hw⟩ := hw
  refine xg_J6_19_10 1 f1 h dJ6_hashCode_1 ?_
  refine g_istore_1 4 h.1 rfl dJ6_hashCode_4 ?_
  refine g_iload_1 5 h.1 dJ6_hashCode_5 ?_
  refine g_if_ne 6 58 h.1 dJ6_hashCode_6 (by decide) (fun c => ?_) (fun c => ?_)
  · have hw := hw.1 c
    refine g_iload_1 58 h.1 dJ6_hashCode_58 ?_
    exact hR.1 59 _ _ _ _ _ _ hT rfl dJ6_hashCode_59 ⟨_, rfl, hw⟩
  · have hw := hw.2 c
    refine g_aload_0 9 h.1 dJ6_hashCode_9 ?_
    obtain ⟨f2, hw⟩ := hw
    refine xg_J6_23_10 10 f2 h dJ6_hashCode_10 ?_
    refine g_if_ne 13 58 h.1 dJ6_hashCode_13 (by decide) (fun c => ?_) (fun c => ?_)
    · have hw := hw.1 c
      refine g_iload_1 58 h.1 dJ6_hashCode_58 ?_
      exact hR.1 59 _ _ _ _ _ _ hT rfl dJ6_hashCode_59 ⟨_, rfl, hw⟩
    · have hw := hw.2 c
      refine g_aload_0 16 h.1 dJ6_hashCode_16 ?_
      obtain ⟨f5, hw⟩ := hw
      refine xcV_I_0 17 h (xm_J6_isLatin1 h.2.2.1 hw) (by decide) (Nat.le_of_eq (Nat.zero_add _)) (Nat.le_of_eq (Nat.zero_add _)) q729 q730 (fun H hI => x_recvR h f5 rfl hI) q728 (Nat.le_of_ble_eq_true rfl) dJ6_hashCode_17 (fun r4 ν3 hw => ?_)
      refine g_if_eq 20 33 h.1 dJ6_hashCode_20 (by decide) (fun c => ?_) (fun c => ?_)
      · have hw := hw.1 c
        refine g_aload_0 33 h.1 dJ6_hashCode_33 ?_
        obtain ⟨f6, hw⟩ := hw
        refine xg_J6_9_10 34 f6 h dJ6_hashCode_34 ?_
        obtain ⟨b7, e8, hw⟩ := hw
        rw [e8]
        refine xcS_I_1 37 h (xm_J7_hashCode h.2.2.1 hw) (by decide) (Nat.le_of_eq (Nat.zero_add _)) (Nat.le_of_eq (Nat.zero_add _)) q774 q773 (Nat.le_of_ble_eq_true rfl) dJ6_hashCode_37 (fun r10 ν9 hw => ?_)
        exact g_le (xt_J6_hashCode_40 h hT hN hR hw) ⟨rfl, trivial⟩
      · have hw := hw.2 c
        refine g_aload_0 23 h.1 dJ6_hashCode_23 ?_
        obtain ⟨f11, hw⟩ := hw
        refine xg_J6_9_10 24 f11 h dJ6_hashCode_24 ?_
        obtain ⟨b12, e13, hw⟩ := hw
        rw [e13]
        refine xcS_I_1 27 h (xm_J9_hashCode h.2.2.1 hw) (by decide) (Nat.le_of_eq (Nat.zero_add _)) (Nat.le_of_eq (Nat.zero_add _)) q733 q732 (Nat.le_of_ble_eq_true rfl) dJ6_hashCode_27 (fun r15 ν14 hw => ?_)
        refine g_goto 30 40 h.1 dJ6_hashCode_30 (by decide) ?_
        exact g_le (xt_J6_hashCode_40 h hT hN hR hw) ⟨rfl, trivial⟩
theorem xm_J6_hashCode {l : Launch} {S : Adr} {A : Nat → Prop} (hD : FD xT S xcl A) {x0 : Nat} {ν : XN} {Q : Int32 → XN → Prop} (hw : xw_J6_hashCode x0 ν Q) : xMet l S A 4 0 0 0 yJ6_hashCode [.ref x0] ν (pI Q) :=
  x_met (by decide +kernel) hD ⟨⟨by decide, by decide, by show _ = some 0; decide +kernel⟩, by decide, q727, q184⟩ (Nat.le_of_ble_eq_true rfl) (fun κ Z h hT hN hR => xt_J6_hashCode h hT hN hR hw)
def xw_X1_init_50 (x0 : Nat) (x1 : Int32) (ν : XN) (k n : Nat) (Q : XN → Prop) : Prop :=
  ∀ X50 : Nat → Int32 → XN → Nat → Nat → Prop, (∀ (x0 : Nat) (x1 : Int32) (ν : XN) (k n : Nat), (((64 : Int32) ≤ x1 → Q ν) ∧ (¬ (64 : Int32) ≤ x1 → (rc ν.2 x0 = 2 ∧ (∃ b69, (rO ν.2 x0 4) = some b69 ∧ (rk ν.2 b69 = 101 ∧ (vp_in x1 (rn ν.2 b69) ∧ (∀ ν71, ν71 = (ν.1, tI ν.2 b69 (Int32.toNatClampNeg x1) (50 : Int32)) → X50 x0 (x1 + 1) ν71 k n))))))) → X50 x0 x1 ν k n) → X50 x0 x1 ν k n
theorem xt_X1_init_50 {κ : Cx} {S : Adr} {A : Nat → Prop} {mc ms : Nat} {Z : State → Prop} {Q : XN → Prop} (h : XCx κ cX1_init RX1 S A 4 mc ms) (hT : (cxT κ).sig.returnType = none) (hN : (cxT κ).name = "<init>") (hR : xRet κ S A mc ms Z cX1_init (pV Q)) {x0 : Nat} {x1 : Int32} {ν : XN} {k n : Nat} (hw : xw_X1_init_50 x0 x1 ν k n Q) : XG κ S A mc ms Z 50 (ν, k, n) [some (.ref x0), some (.int x1)] [] := by
  refine hw (fun x0 x1 ν k n => XG κ S A mc ms Z 50 (ν, k, n) [some (.ref x0), some (.int x1)] []) ?_
  clear hw
  intro x0 x1 ν k n hw
  have hX50 : ∀ (x0 : Nat) (x1 : Int32) (ν : XN) (k n : Nat), XG κ S A mc ms Z 50 (ν, k, n) [some (.ref x0), some (.int x1)] [] → XG κ S A mc ms Z 50 (ν, k, n) [some (.ref x0), some (.int x1)] [] := fun _ _ _ _ _ hh => hh
  refine g_iload_1 50 h.1 dX1_init_50 ?_
  refine g_bipush 51 _ bp_64 h.1 dX1_init_51 ?_
  refine g_icmp_ge 53 70 h.1 dX1_init_53 (by decide) (fun c => ?_) (fun c => ?_)
  · have hw := hw.1 c
    exact hR.2.2.1 70 _ _ _ _ hT dX1_init_70 ⟨rfl, hw⟩
  · have hw := hw.2 c
    refine g_aload_0 56 h.1 dX1_init_56 ?_
    obtain ⟨f68, hw⟩ := hw
    refine xg_X1_9_1 57 f68 h dX1_init_57 ?_
    refine g_iload_1 60 h.1 dX1_init_60 ?_
    refine g_bipush 61 _ bp_50 h.1 dX1_init_61 ?_
    obtain ⟨b69, e70, hw⟩ := hw
    rw [e70]
    obtain ⟨f73, hw⟩ := hw
    obtain ⟨f74, hw⟩ := hw
    refine ra_iast 63 f73 f74 h dX1_init_63 (fun ν71 e72 => ?_)
    have hw := hw ν71 e72
    refine g_iinc_1 64 (x1 + 1) (congrArg _ ic_1) h.1 rfl dX1_init_64 ?_
    refine g_goto 67 50 h.1 dX1_init_67 (by decide) ?_
    exact g_le (hX50 _ _ _ _ _ hw) ⟨rfl, rfl, trivial⟩
def xw_X1_init (x0 : Nat) (ν : XN) (k n : Nat) (Q : XN → Prop) : Prop :=
  (¬ (64 : Int32) < 0 ∧ (Int32.toNatClampNeg (64 : Int32) ≤ 100000000 ∧ (∃ k7 n8, k7 + 1 ≤ k ∧ n8 + (Int32.toNatClampNeg (64 : Int32)) ≤ n ∧ ∀ q3, rk ν.2 q3 = 0 → ∀ ν5, ν5 = (ν.1, tN ν.2 q3 101 (Int32.toNatClampNeg (64 : Int32))) → (rk ν5.2 x0 = 2 ∧ (∀ ν11, ν11 = (ν5.1, tO ν5.2 x0 4 (some q3)) → (∃ k18 n19, k18 + 1 ≤ k7 ∧ n19 + 3 ≤ n8 ∧ ∀ q14, rk ν11.2 q14 = 0 → ∀ ν16, ν16 = (ν11.1, tN ν11.2 q14 7 0) → (∃ k23 n24 k25 n26, k23 + k25 ≤ k18 ∧ n24 + n26 ≤ n19 ∧ xw_J2_init q14 (2 : Int32) ν16 k23 n24 (fun ν22 => (rk ν22.2 x0 = 2 ∧ (∀ ν29, ν29 = (ν22.1, tO ν22.2 x0 5 (some q14)) → (∃ k36 n37, k36 + 1 ≤ k25 ∧ n37 + 3 ≤ n26 ∧ ∀ q32, rk ν29.2 q32 = 0 → ∀ ν34, ν34 = (ν29.1, tN ν29.2 q32 7 0) → (∃ k41 n42 k43 n44, k41 + k43 ≤ k36 ∧ n42 + n44 ≤ n37 ∧ xw_J2_init q32 (4 : Int32) ν34 k41 n42 (fun ν40 => (rk ν40.2 x0 = 2 ∧ (∀ ν47, ν47 = (ν40.1, tO ν40.2 x0 6 (some q32)) → (∃ k54 n55, k54 + 1 ≤ k43 ∧ n55 + 3 ≤ n44 ∧ ∀ q50, rk ν47.2 q50 = 0 → ∀ ν52, ν52 = (ν47.1, tN ν47.2 q50 7 0) → (∃ k59 n60 k61 n62, k59 + k61 ≤ k54 ∧ n60 + n62 ≤ n55 ∧ xw_J2_init q50 (4 : Int32) ν52 k59 n60 (fun ν58 => (rk ν58.2 x0 = 2 ∧ (∀ ν65, ν65 = (ν58.1, tO ν58.2 x0 7 (some q50)) → xw_X1_init_50 x0 (0 : Int32) ν65 k61 n62 Q))))))))))))))))))))
theorem xt_X1_init {κ : Cx} {S : Adr} {A : Nat → Prop} {mc ms : Nat} {Z : State → Prop} {Q : XN → Prop} (h : XCx κ cX1_init RX1 S A 4 mc ms) (hT : (cxT κ).sig.returnType = none) (hN : (cxT κ).name = "<init>") (hR : xRet κ S A mc ms Z cX1_init (pV Q)) {x0 : Nat} {ν : XN} {k n : Nat} (hw : xw_X1_init x0 ν k n Q) : XG κ S A mc ms Z 0 (ν, k, n) [some (.ref x0), none] [] := by
  unfold xw_X1_init at hw
  refine g_aload_0 0 h.1 dX1_init_0 ?_
  refine x_objInit 1 h (by decide) q224 (Nat.le_of_ble_eq_true rfl) dX1_init_1 ?_
  refine g_aload_0 4 h.1 dX1_init_4 ?_
  refine g_bipush 5 _ bp_64 h.1 dX1_init_5 ?_
  obtain ⟨f1, hw⟩ := hw
  obtain ⟨f2, hw⟩ := hw
  obtain ⟨k7, n8, a9, a10, hw⟩ := hw
  refine x_newaI 7 f1 rfl f2 h a9 a10 dX1_init_7 (fun q3 e4 ν5 e6 => ?_)
  have hw := hw q3 e4 ν5 e6
  obtain ⟨f13, hw⟩ := hw
  refine xp_X1_9_1 9 (some q3) hN f13 h dX1_init_9 (fun ν11 e12 => ?_)
  have hw := hw ν11 e12
  refine g_aload_0 12 h.1 dX1_init_12 ?_
  obtain ⟨k18, n19, a20, a21, hw⟩ := hw
  refine xn_X1_15 13 a20 a21 h dX1_init_13 (fun q14 e15 ν16 e17 => ?_)
  have hw := hw q14 e15 ν16 e17
  refine g_dup 16 rfl h.1 dX1_init_16 ?_
  refine g_iconstv 17 _ ic_2 h.1 dX1_init_17 ?_
  obtain ⟨k23, n24, k25, n26, a27, a28, hw⟩ := hw
  refine xcI_V_1 18 h (xm_J2_init h.2.2.1 hw) (by decide) a27 a28 rfl q228 q227 (Nat.le_of_ble_eq_true rfl) dX1_init_18 (fun ν22 hw => ?_)
  obtain ⟨f31, hw⟩ := hw
  refine xp_X1_20_1 21 (some q14) hN f31 h dX1_init_21 (fun ν29 e30 => ?_)
  have hw := hw ν29 e30
  refine g_aload_0 24 h.1 dX1_init_24 ?_
  obtain ⟨k36, n37, a38, a39, hw⟩ := hw
  refine xn_X1_15 25 a38 a39 h dX1_init_25 (fun q32 e33 ν34 e35 => ?_)
  have hw := hw q32 e33 ν34 e35
  refine g_dup 28 rfl h.1 dX1_init_28 ?_
  refine g_iconstv 29 _ ic_4 h.1 dX1_init_29 ?_
  obtain ⟨k41, n42, k43, n44, a45, a46, hw⟩ := hw
  refine xcI_V_1 30 h (xm_J2_init h.2.2.1 hw) (by decide) a45 a46 rfl q228 q227 (Nat.le_of_ble_eq_true rfl) dX1_init_30 (fun ν40 hw => ?_)
  obtain ⟨f49, hw⟩ := hw
  refine xp_X1_24_1 33 (some q32) hN f49 h dX1_init_33 (fun ν47 e48 => ?_)
  have hw := hw ν47 e48
  refine g_aload_0 36 h.1 dX1_init_36 ?_
  obtain ⟨k54, n55, a56, a57, hw⟩ := hw
  refine xn_X1_15 37 a56 a57 h dX1_init_37 (fun q50 e51 ν52 e53 => ?_)
  have hw := hw q50 e51 ν52 e53
  refine g_dup 40 rfl h.1 dX1_init_40 ?_
  refine g_iconstv 41 _ ic_4 h.1 dX1_init_41 ?_
  obtain ⟨k59, n60, k61, n62, a63, a64, hw⟩ := hw
  refine xcI_V_1 42 h (xm_J2_init h.2.2.1 hw) (by decide) a63 a64 rfl q228 q227 (Nat.le_of_ble_eq_true rfl) dX1_init_42 (fun ν58 hw => ?_)
  obtain ⟨f67, hw⟩ := hw
  refine xp_X1_27_1 45 (some q50) hN f67 h dX1_init_45 (fun ν65 e66 => ?_)
  have hw := hw ν65 e66
  refine g_iconstv 48 _ ic_0 h.1 dX1_init_48 ?_
  refine g_istore_1 49 h.1 rfl dX1_init_49 ?_
  exact g_le (xt_X1_init_50 h hT hN hR hw) ⟨rfl, rfl, trivial⟩
theorem xm_X1_init {l : Launch} {S : Adr} {A : Nat → Prop} (hD : FD xT S xcl A) {x0 : Nat} {ν : XN} {k n : Nat} {Q : XN → Prop} (hw : xw_X1_init x0 ν k n Q) : ∃ (bb : ByteArray) (L : Nat), xWd yX1_init bb L none 0 ∧ Met l yX1_init (ws_ yX1_init bb L none) (rmX 4 k n) (va_Pc [.ref x0] (xPre S A ν)) (xQ S A (pV Q)) k n A :=
  ⟨cX1_init, 2, ⟨⟨by decide, by decide, by show _ = some 0; decide +kernel⟩, by decide, q223, q172⟩, x_start (plainFor_of_name (by decide)) hD ⟨⟨by decide, by decide, by show _ = some 0; decide +kernel⟩, by decide, q223, q172⟩ (Nat.le_of_ble_eq_true rfl) (fun κ Z h hT hN hR => xt_X1_init h hT hN hR hw)⟩
def xw_X11_init (x0 : Nat) (ν : XN) (k n : Nat) (Q : XN → Prop) : Prop :=
  (xw_X10_init x0 ν (fun ν1 => (∃ k6 n7, k6 + 1 ≤ k ∧ n7 + 3 ≤ n ∧ ∀ q2, rk ν1.2 q2 = 0 → ∀ ν4, ν4 = (ν1.1, tN ν1.2 q2 7 0) → (∃ k11 n12 k13 n14, k11 + k13 ≤ k6 ∧ n12 + n14 ≤ n7 ∧ xw_J2_init q2 (2 : Int32) ν4 k11 n12 (fun ν10 => (rk ν10.2 x0 = 12 ∧ (∀ ν17, ν17 = (ν10.1, tO ν10.2 x0 0 (some q2)) → (∃ k24 n25, k24 + 1 ≤ k13 ∧ n25 + 4 ≤ n14 ∧ ∀ q20, rk ν17.2 q20 = 0 → ∀ ν22, ν22 = (ν17.1, tN ν17.2 q20 17 0) → (∃ k29 n30 k31 n32, k29 + k31 ≤ k24 ∧ n30 + n32 ≤ n25 ∧ xw_J15_init q20 ν22 k29 n30 (fun ν28 => (rk ν28.2 x0 = 12 ∧ (∀ ν35, ν35 = (ν28.1, tO ν28.2 x0 1 (some q20)) → Q ν35))))))))))))
theorem xt_X11_init {κ : Cx} {S : Adr} {A : Nat → Prop} {mc ms : Nat} {Z : State → Prop} {Q : XN → Prop} (h : XCx κ cX11_init RX11 S A 5 mc ms) (hT : (cxT κ).sig.returnType = none) (hN : (cxT κ).name = "<init>") (hR : xRet κ S A mc ms Z cX11_init (pV Q)) {x0 : Nat} {ν : XN} {k n : Nat} (hw : xw_X11_init x0 ν k n Q) : XG κ S A mc ms Z 0 (ν, k, n) [some (.ref x0)] [] := by
  unfold xw_X11_init at hw
  refine g_aload_0 0 h.1 dX11_init_0 ?_
  refine xcIN_V_0 1 h (xm_X10_init h.2.2.1 hw) (by decide) (Nat.le_of_eq (Nat.zero_add _)) (Nat.le_of_eq (Nat.zero_add _)) rfl q1028 q1027 (Nat.le_of_ble_eq_true rfl) dX11_init_1 (fun ν1 hw => ?_)
  refine g_aload_0 4 h.1 dX11_init_4 ?_
  obtain ⟨k6, n7, a8, a9, hw⟩ := hw
  refine xn_X11_7 5 a8 a9 h dX11_init_5 (fun q2 e3 ν4 e5 => ?_)
  have hw := hw q2 e3 ν4 e5
  refine g_dup 8 rfl h.1 dX11_init_8 ?_
  refine g_iconstv 9 _ ic_2 h.1 dX11_init_9 ?_
  obtain ⟨k11, n12, k13, n14, a15, a16, hw⟩ := hw
  refine xcI_V_1 10 h (xm_J2_init h.2.2.1 hw) (by decide) a15 a16 rfl q228 q1032 (Nat.le_of_ble_eq_true rfl) dX11_init_10 (fun ν10 hw => ?_)
  obtain ⟨f19, hw⟩ := hw
  refine xp_X11_12_11 13 (some q2) hN f19 h dX11_init_13 (fun ν17 e18 => ?_)
  have hw := hw ν17 e18
  refine g_aload_0 16 h.1 dX11_init_16 ?_
  obtain ⟨k24, n25, a26, a27, hw⟩ := hw
  refine xn_X11_18 17 a26 a27 h dX11_init_17 (fun q20 e21 ν22 e23 => ?_)
  have hw := hw q20 e21 ν22 e23
  refine g_dup 20 rfl h.1 dX11_init_20 ?_
  obtain ⟨k29, n30, k31, n32, a33, a34, hw⟩ := hw
  refine xcI_V_0 21 h (xm_J15_init h.2.2.1 hw) (by decide) a33 a34 rfl q1036 q1035 (Nat.le_of_ble_eq_true rfl) dX11_init_21 (fun ν28 hw => ?_)
  obtain ⟨f37, hw⟩ := hw
  refine xp_X11_21_11 24 (some q20) hN f37 h dX11_init_24 (fun ν35 e36 => ?_)
  have hw := hw ν35 e36
  exact hR.2.2.1 27 _ _ _ _ hT dX11_init_27 ⟨rfl, hw⟩
theorem xm_X11_init {l : Launch} {S : Adr} {A : Nat → Prop} (hD : FD xT S xcl A) {x0 : Nat} {ν : XN} {k n : Nat} {Q : XN → Prop} (hw : xw_X11_init x0 ν k n Q) : ∃ (bb : ByteArray) (L : Nat), xWd yX11_init bb L none 0 ∧ Met l yX11_init (ws_ yX11_init bb L none) (rmX 5 k n) (va_Pc [.ref x0] (xPre S A ν)) (xQ S A (pV Q)) k n A :=
  ⟨cX11_init, 1, ⟨⟨by decide, by decide, by show _ = some 0; decide +kernel⟩, by decide, q1026, q197⟩, x_start (plainFor_of_name (by decide)) hD ⟨⟨by decide, by decide, by show _ = some 0; decide +kernel⟩, by decide, q1026, q197⟩ (Nat.le_of_ble_eq_true rfl) (fun κ Z h hT hN hR => xt_X11_init h hT hN hR hw)⟩
def xw_X11_add (x0 : Nat) (x1 : Int32) (x2 : Nat) (ν : XN) (k n : Nat) (Q : XN → Prop) : Prop :=
  (rc ν.2 x0 = 12 ∧ (∃ b2, (rO ν.2 x0 1) = some b2 ∧ (rc ν.2 b2 = 17 ∧ (∃ k7 n8 k9 n10, k7 + k9 ≤ k ∧ n8 + n10 ≤ n ∧ xw_J15_append b2 x1 ν k7 n8 (fun r5 ν4 => (rc ν4.2 x0 = 12 ∧ (∃ b14, (rO ν4.2 x0 0) = some b14 ∧ (rc ν4.2 b14 = 7 ∧ (∃ k19 n20 k21 n22, k19 + k21 ≤ k9 ∧ n20 + n22 ≤ n10 ∧ xw_J2_add b14 x2 ν4 k19 n20 (fun r17 ν16 => Q ν16))))))))))
theorem xt_X11_add {κ : Cx} {S : Adr} {A : Nat → Prop} {mc ms : Nat} {Z : State → Prop} {Q : XN → Prop} (h : XCx κ cX11_add RX11 S A 9 mc ms) (hT : (cxT κ).sig.returnType = none) (hN : (cxT κ).name = "add") (hR : xRet κ S A mc ms Z cX11_add (pV Q)) {x0 : Nat} {x1 : Int32} {x2 : Nat} {ν : XN} {k n : Nat} (hw : xw_X11_add x0 x1 x2 ν k n Q) : XG κ S A mc ms Z 0 (ν, k, n) [some (.ref x0), some (.int x1), some (.ref x2)] [] := by
  unfold xw_X11_add at hw
  refine g_aload_0 0 h.1 dX11_add_0 ?_
  obtain ⟨f1, hw⟩ := hw
  refine xg_X11_21_11 1 f1 h dX11_add_1 ?_
  refine g_iload_1 4 h.1 dX11_add_4 ?_
  obtain ⟨b2, e3, hw⟩ := hw
  rw [e3]
  obtain ⟨f6, hw⟩ := hw
  obtain ⟨k7, n8, k9, n10, a11, a12, hw⟩ := hw
  refine xcV_A_1 5 h (xm_J15_append h.2.2.1 hw) (by decide) a11 a12 q1146 q1147 (fun H hI => x_recvR h f6 rfl hI) q1145 (Nat.le_of_ble_eq_true rfl) dX11_add_5 (fun r5 ν4 hw => ?_)
  refine g_pop 8 rfl h.1 dX11_add_8 ?_
  refine g_aload_0 9 h.1 dX11_add_9 ?_
  obtain ⟨f13, hw⟩ := hw
  refine xg_X11_12_11 10 f13 h dX11_add_10 ?_
  refine g_aload_2 13 h.1 dX11_add_13 ?_
  obtain ⟨b14, e15, hw⟩ := hw
  rw [e15]
  obtain ⟨f18, hw⟩ := hw
  obtain ⟨k19, n20, k21, n22, a23, a24, hw⟩ := hw
  refine xcF_I_1 14 h h.2.1.2.2.1.2.2.1 (xm_J2_add h.2.2.1 hw) (by decide) a23 a24 ⟨by decide, by decide, by show _ = some 1; decide +kernel⟩ q864 q862 f18 q1201 (Nat.le_of_ble_eq_true rfl) dX11_add_14 (fun r17 ν16 hw => ?_)
  refine g_pop 19 rfl h.1 dX11_add_19 ?_
  exact hR.2.2.1 20 _ _ _ _ hT dX11_add_20 ⟨rfl, hw⟩
theorem xm_X11_add {l : Launch} {S : Adr} {A : Nat → Prop} (hD : FD xT S xcl A) {x0 : Nat} {x1 : Int32} {x2 : Nat} {ν : XN} {k n : Nat} {Q : XN → Prop} (hw : xw_X11_add x0 x1 x2 ν k n Q) : xMet l S A 9 k n 2 yX11_add [.ref x0, .int x1, .ref x2] ν (pV Q) :=
  x_met (plainFor_of_name (by decide)) hD ⟨⟨by decide, by decide, by show _ = some 2; decide +kernel⟩, by decide, q1144, q197⟩ (Nat.le_of_ble_eq_true rfl) (fun κ Z h hT hN hR => xt_X11_add h hT hN hR hw)
def xw_X17_init (x0 : Nat) (x1 : Int32) (ν : XN) (k n : Nat) (Q : XN → Prop) : Prop :=
  (xw_X16_init x0 ν (fun ν1 => (∃ k6 n7, k6 + 1 ≤ k ∧ n7 + 3 ≤ n ∧ ∀ q2, rk ν1.2 q2 = 0 → ∀ ν4, ν4 = (ν1.1, tN ν1.2 q2 7 0) → (∃ k11 n12 k13 n14, k11 + k13 ≤ k6 ∧ n12 + n14 ≤ n7 ∧ xw_J2_init q2 (2 : Int32) ν4 k11 n12 (fun ν10 => (rk ν10.2 x0 = 18 ∧ (∀ ν17, ν17 = (ν10.1, tO ν10.2 x0 0 (some q2)) → (rk ν17.2 x0 = 18 ∧ (narrow .boolean (.int x1) = .int x1 ∧ (fits .boolean (.int x1) = true ∧ (∀ ν20, ν20 = (ν17.1, tI ν17.2 x0 1 x1) → Q ν20)))))))))))
theorem xt_X17_init {κ : Cx} {S : Adr} {A : Nat → Prop} {mc ms : Nat} {Z : State → Prop} {Q : XN → Prop} (h : XCx κ cX17_init RX17 S A 4 mc ms) (hT : (cxT κ).sig.returnType = none) (hN : (cxT κ).name = "<init>") (hR : xRet κ S A mc ms Z cX17_init (pV Q)) {x0 : Nat} {x1 : Int32} {ν : XN} {k n : Nat} (hw : xw_X17_init x0 x1 ν k n Q) : XG κ S A mc ms Z 0 (ν, k, n) [some (.ref x0), some (.int x1)] [] := by
  unfold xw_X17_init at hw
  refine g_aload_0 0 h.1 dX17_init_0 ?_
  refine xcIN_V_0 1 h (xm_X16_init h.2.2.1 hw) (by decide) (Nat.le_of_eq (Nat.zero_add _)) (Nat.le_of_eq (Nat.zero_add _)) rfl q1216 q1215 (Nat.le_of_ble_eq_true rfl) dX17_init_1 (fun ν1 hw => ?_)
  refine g_aload_0 4 h.1 dX17_init_4 ?_
  obtain ⟨k6, n7, a8, a9, hw⟩ := hw
  refine xn_X17_7 5 a8 a9 h dX17_init_5 (fun q2 e3 ν4 e5 => ?_)
  have hw := hw q2 e3 ν4 e5
  refine g_dup 8 rfl h.1 dX17_init_8 ?_
  refine g_iconstv 9 _ ic_2 h.1 dX17_init_9 ?_
  obtain ⟨k11, n12, k13, n14, a15, a16, hw⟩ := hw
  refine xcI_V_1 10 h (xm_J2_init h.2.2.1 hw) (by decide) a15 a16 rfl q228 q1220 (Nat.le_of_ble_eq_true rfl) dX17_init_10 (fun ν10 hw => ?_)
  obtain ⟨f19, hw⟩ := hw
  refine xp_X17_12_17 13 (some q2) hN f19 h dX17_init_13 (fun ν17 e18 => ?_)
  have hw := hw ν17 e18
  refine g_aload_0 16 h.1 dX17_init_16 ?_
  refine g_iload_1 17 h.1 dX17_init_17 ?_
  obtain ⟨f22, hw⟩ := hw
  obtain ⟨f23, hw⟩ := hw
  obtain ⟨f24, hw⟩ := hw
  refine xp_X17_18_17 18 f23 f24 hN f22 h dX17_init_18 (fun ν20 e21 => ?_)
  have hw := hw ν20 e21
  exact hR.2.2.1 21 _ _ _ _ hT dX17_init_21 ⟨rfl, hw⟩
theorem xm_X17_init {l : Launch} {S : Adr} {A : Nat → Prop} (hD : FD xT S xcl A) {x0 : Nat} {x1 : Int32} {ν : XN} {k n : Nat} {Q : XN → Prop} (hw : xw_X17_init x0 x1 ν k n Q) : ∃ (bb : ByteArray) (L : Nat), xWd yX17_init bb L none 1 ∧ Met l yX17_init (ws_ yX17_init bb L none) (rmX 4 k n) (va_Pc [.ref x0, .int x1] (xPre S A ν)) (xQ S A (pV Q)) k n A :=
  ⟨cX17_init, 2, ⟨⟨by decide, by decide, by show _ = some 1; decide +kernel⟩, by decide, q1214, q205⟩, x_start (plainFor_of_name (by decide)) hD ⟨⟨by decide, by decide, by show _ = some 1; decide +kernel⟩, by decide, q1214, q205⟩ (Nat.le_of_ble_eq_true rfl) (fun κ Z h hT hN hR => xt_X17_init h hT hN hR hw)⟩
