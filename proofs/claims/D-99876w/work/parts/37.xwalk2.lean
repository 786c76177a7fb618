/-! THE READER, walked (written by gen_xw.py) -/
def xw_X2_byteAt (x1 : Int32) (ν : XN) (Q : Int32 → XN → Prop) : Prop :=
  ((x1 < 0 → Q (-1 : Int32) ν) ∧ (¬ x1 < 0 → (((fI ν.1 1 1) ≤ x1 → Q (-1 : Int32) ν) ∧ (¬ (fI ν.1 1 1) ≤ x1 → (vp_in x1 1600 ∧ Q ((fA ν.1 0 (Int32.toNatClampNeg x1)) &&& (255 : Int32)) ν)))))
theorem xt_X2_byteAt {κ : Cx} {S : Adr} {A : Nat → Prop} {Z : State → Prop} {Q : Int32 → XN → Prop} (h : XCx κ cX2_byteAt RX2 S A 1 0 0) (hT : (cxT κ).sig.returnType = some .int) (hN : (cxT κ).name = "byteAt") (hR : xRet κ S A 0 0 Z cX2_byteAt (pI Q)) {x1 : Int32} {ν : XN} (hw : xw_X2_byteAt x1 ν Q) : XG κ S A 0 0 Z 0 (ν, 0, 0) [some (.ref (S.2.1 1)), some (.int x1)] [] := by
  unfold xw_X2_byteAt at hw
  refine g_iload_1 0 h.1 dX2_byteAt_0 ?_
  refine g_if_lt 1 28 h.1 dX2_byteAt_1 (by decide) (fun c => ?_) (fun c => ?_)
  · have hw := hw.1 c
    refine g_iconstv 28 _ ic_m1 h.1 dX2_byteAt_28 ?_
    exact hR.1 29 _ _ _ _ _ _ hT rfl dX2_byteAt_29 ⟨_, rfl, hw⟩
  · have hw := hw.2 c
    refine g_iload_1 4 h.1 dX2_byteAt_4 ?_
    refine g_aload_0 5 h.1 dX2_byteAt_5 ?_
    refine xg_X2_29_2 6 h dX2_byteAt_6 ?_
    refine g_icmp_ge 9 28 h.1 dX2_byteAt_9 (by decide) (fun c => ?_) (fun c => ?_)
    · have hw := hw.1 c
      refine g_iconstv 28 _ ic_m1 h.1 dX2_byteAt_28 ?_
      exact hR.1 29 _ _ _ _ _ _ hT rfl dX2_byteAt_29 ⟨_, rfl, hw⟩
    · have hw := hw.2 c
      refine g_aload_0 12 h.1 dX2_byteAt_12 ?_
      refine xg_X2_3_2 13 h dX2_byteAt_13 ?_
      refine xg_X2_32_0 16 h dX2_byteAt_16 ?_
      refine g_iload_1 19 h.1 dX2_byteAt_19 ?_
      obtain ⟨f1, hw⟩ := hw
      refine xa_bald 20 rfl f1 h dX2_byteAt_20 ?_
      refine g_sipush 21 _ sp_255 h.1 dX2_byteAt_21 ?_
      refine g_iand 24 h.1 dX2_byteAt_24 ?_
      refine g_goto 25 29 h.1 dX2_byteAt_25 (by decide) ?_
      exact hR.1 29 _ _ _ _ _ _ hT rfl dX2_byteAt_29 ⟨_, rfl, hw⟩
theorem xm_X2_byteAt {l : Launch} {S : Adr} {A : Nat → Prop} (hD : FD xT S xcl A) {x1 : Int32} {ν : XN} {Q : Int32 → XN → Prop} (hw : xw_X2_byteAt x1 ν Q) : xMet l S A 1 0 0 1 yX2_byteAt [.ref (S.2.1 1), .int x1] ν (pI Q) :=
  x_met (plainFor_of_name (by decide)) hD ⟨⟨by decide, by decide, by show _ = some 1; decide +kernel⟩, by decide, q600, q176⟩ (Nat.le_of_ble_eq_true rfl) (fun κ Z h hT hN hR => xt_X2_byteAt h hT hN hR hw)
def xw_X2_here_26 (X0 : XN → Prop) (ν : XN) (Q : Int32 → XN → Prop) : Prop :=
  (∀ ν7, ν7 = (sI ν.1 1 2 ((fI ν.1 1 2) + (1 : Int32)), ν.2) → X0 ν7)
theorem xt_X2_here_26 {κ : Cx} {S : Adr} {A : Nat → Prop} {Z : State → Prop} {Q : Int32 → XN → Prop} (h : XCx κ cX2_here RX2 S A 2 0 0) (hT : (cxT κ).sig.returnType = some .int) (hN : (cxT κ).name = "here") (hR : xRet κ S A 0 0 Z cX2_here (pI Q)) {X0 : XN → Prop} (hX0 : ∀ (ν : XN), X0 ν → XG κ S A 0 0 Z 0 (ν, 0, 0) [some (.ref (S.2.1 1))] []) {ν : XN} (hw : xw_X2_here_26 X0 ν Q) : XG κ S A 0 0 Z 26 (ν, 0, 0) [some (.ref (S.2.1 1))] [] := by
  unfold xw_X2_here_26 at hw
  refine g_aload_0 26 h.1 dX2_here_26 ?_
  refine g_dup 27 rfl h.1 dX2_here_27 ?_
  refine xg_X2_36_2 28 h dX2_here_28 ?_
  refine g_iconstv 31 _ ic_1 h.1 dX2_here_31 ?_
  refine g_iadd 32 h.1 dX2_here_32 ?_
  refine xp_X2_36_2 33 h dX2_here_33 (fun ν7 e8 => ?_)
  have hw := hw ν7 e8
  refine g_goto 36 0 h.1 dX2_here_36 (by decide) ?_
  exact g_le (hX0 _ hw) ⟨rfl, trivial⟩
def xw_X2_here_0 (ν : XN) (Q : Int32 → XN → Prop) : Prop :=
  ∀ X0 : XN → Prop, (∀ (ν : XN), (xw_X2_byteAt (fI ν.1 1 2) ν (fun r2 ν1 => ((r2 = (32 : Int32) → xw_X2_here_26 X0 ν1 Q) ∧ (¬ r2 = (32 : Int32) → (xw_X2_byteAt (fI ν1.1 1 2) ν1 (fun r4 ν3 => ((¬ r4 = (10 : Int32) → (xw_X2_byteAt (fI ν3.1 1 2) ν3 (fun r6 ν5 => Q r6 ν5))) ∧ (r4 = (10 : Int32) → xw_X2_here_26 X0 ν3 Q)))))))) → X0 ν) → X0 ν
theorem xt_X2_here_0 {κ : Cx} {S : Adr} {A : Nat → Prop} {Z : State → Prop} {Q : Int32 → XN → Prop} (h : XCx κ cX2_here RX2 S A 2 0 0) (hT : (cxT κ).sig.returnType = some .int) (hN : (cxT κ).name = "here") (hR : xRet κ S A 0 0 Z cX2_here (pI Q)) {ν : XN} (hw : xw_X2_here_0 ν Q) : XG κ S A 0 0 Z 0 (ν, 0, 0) [some (.ref (S.2.1 1))] [] := by
  refine hw (fun ν => XG κ S A 0 0 Z 0 (ν, 0, 0) [some (.ref (S.2.1 1))] []) ?_
  clear hw
  intro ν hw
  have hX0 : ∀ (ν : XN), XG κ S A 0 0 Z 0 (ν, 0, 0) [some (.ref (S.2.1 1))] [] → XG κ S A 0 0 Z 0 (ν, 0, 0) [some (.ref (S.2.1 1))] [] := fun _ hh => hh
  refine g_aload_0 0 h.1 dX2_here_0 ?_
  refine g_aload_0 1 h.1 dX2_here_1 ?_
  refine xg_X2_36_2 2 h dX2_here_2 ?_
  refine xcV_I_1 5 h (xm_X2_byteAt h.2.2.1 hw) (by decide) (Nat.le_of_eq (Nat.zero_add _)) (Nat.le_of_eq (Nat.zero_add _)) q599 qs7 (fun H hI => x_recvK h rfl rfl hI) q597 (Nat.le_of_ble_eq_true rfl) dX2_here_5 (fun r2 ν1 hw => ?_)
  refine g_bipush 8 _ bp_32 h.1 dX2_here_8 ?_
  refine g_icmp_eq 10 26 h.1 dX2_here_10 (by decide) (fun c => ?_) (fun c => ?_)
  · have hw := hw.1 c
    exact g_le (xt_X2_here_26 h hT hN hR hX0 hw) ⟨rfl, trivial⟩
  · have hw := hw.2 c
    refine g_aload_0 13 h.1 dX2_here_13 ?_
    refine g_aload_0 14 h.1 dX2_here_14 ?_
    refine xg_X2_36_2 15 h dX2_here_15 ?_
    refine xcV_I_1 18 h (xm_X2_byteAt h.2.2.1 hw) (by decide) (Nat.le_of_eq (Nat.zero_add _)) (Nat.le_of_eq (Nat.zero_add _)) q599 qs7 (fun H hI => x_recvK h rfl rfl hI) q597 (Nat.le_of_ble_eq_true rfl) dX2_here_18 (fun r4 ν3 hw => ?_)
    refine g_bipush 21 _ bp_10 h.1 dX2_here_21 ?_
    refine g_icmp_ne 23 39 h.1 dX2_here_23 (by decide) (fun c => ?_) (fun c => ?_)
    · have hw := hw.1 c
      refine g_aload_0 39 h.1 dX2_here_39 ?_
      refine g_aload_0 40 h.1 dX2_here_40 ?_
      refine xg_X2_36_2 41 h dX2_here_41 ?_
      refine xcV_I_1 44 h (xm_X2_byteAt h.2.2.1 hw) (by decide) (Nat.le_of_eq (Nat.zero_add _)) (Nat.le_of_eq (Nat.zero_add _)) q599 qs7 (fun H hI => x_recvK h rfl rfl hI) q597 (Nat.le_of_ble_eq_true rfl) dX2_here_44 (fun r6 ν5 hw => ?_)
      exact hR.1 47 _ _ _ _ _ _ hT rfl dX2_here_47 ⟨_, rfl, hw⟩
    · have hw := hw.2 c
      exact g_le (xt_X2_here_26 h hT hN hR hX0 hw) ⟨rfl, trivial⟩
def xw_X2_here (ν : XN) (Q : Int32 → XN → Prop) : Prop :=
  xw_X2_here_0 ν Q
theorem xt_X2_here {κ : Cx} {S : Adr} {A : Nat → Prop} {Z : State → Prop} {Q : Int32 → XN → Prop} (h : XCx κ cX2_here RX2 S A 2 0 0) (hT : (cxT κ).sig.returnType = some .int) (hN : (cxT κ).name = "here") (hR : xRet κ S A 0 0 Z cX2_here (pI Q)) {ν : XN} (hw : xw_X2_here ν Q) : XG κ S A 0 0 Z 0 (ν, 0, 0) [some (.ref (S.2.1 1))] [] := by
  unfold xw_X2_here at hw
  exact g_le (xt_X2_here_0 h hT hN hR hw) ⟨rfl, trivial⟩
theorem xm_X2_here {l : Launch} {S : Adr} {A : Nat → Prop} (hD : FD xT S xcl A) {ν : XN} {Q : Int32 → XN → Prop} (hw : xw_X2_here ν Q) : xMet l S A 2 0 0 0 yX2_here [.ref (S.2.1 1)] ν (pI Q) :=
  x_met (plainFor_of_name (by decide)) hD ⟨⟨by decide, by decide, by show _ = some 0; decide +kernel⟩, by decide, q596, q176⟩ (Nat.le_of_ble_eq_true rfl) (fun κ Z h hT hN hR => xt_X2_here h hT hN hR hw)
def xw_X2_wrong (x1 : Int32) (x2 : Int32) (ν : XN) (Q : Nat → XN → Prop) : Prop :=
  (∀ ν1, ν1 = (sI ν.1 2 6 x1, ν.2) → (∀ ν3, ν3 = (sI ν1.1 2 7 x2, ν1.2) → Q 2 ν3))
theorem xt_X2_wrong {κ : Cx} {S : Adr} {A : Nat → Prop} {Z : State → Prop} {Q : Nat → XN → Prop} (h : XCx κ cX2_wrong RX2 S A 1 0 0) (hT : (cxT κ).sig.returnType = some (.object "ShrugHills$Fault")) (hN : (cxT κ).name = "wrong") (hR : xRet κ S A 0 0 Z cX2_wrong (pK S Q)) {x1 : Int32} {x2 : Int32} {ν : XN} (hw : xw_X2_wrong x1 x2 ν Q) : XG κ S A 0 0 Z 0 (ν, 0, 0) [some (.ref (S.2.1 1)), some (.int x1), some (.int x2)] [] := by
  unfold xw_X2_wrong at hw
  refine g_aload_0 0 h.1 dX2_wrong_0 ?_
  refine xg_X2_18_2 1 h dX2_wrong_1 ?_
  refine g_iload_1 4 h.1 dX2_wrong_4 ?_
  refine xp_X2_22_3 5 h dX2_wrong_5 (fun ν1 e2 => ?_)
  have hw := hw ν1 e2
  refine g_aload_0 8 h.1 dX2_wrong_8 ?_
  refine xg_X2_18_2 9 h dX2_wrong_9 ?_
  refine g_iload_2 12 h.1 dX2_wrong_12 ?_
  refine xp_X2_26_3 13 h dX2_wrong_13 (fun ν3 e4 => ?_)
  have hw := hw ν3 e4
  refine g_aload_0 16 h.1 dX2_wrong_16 ?_
  refine xg_X2_18_2 17 h dX2_wrong_17 ?_
  exact hR.2.2.2 20 (some (S.2.1 2)) _ _ _ _ _ hT (by first | exact Or.inl ⟨_, rfl⟩ | exact Or.inr ⟨_, rfl⟩) dX2_wrong_20 ⟨_, rfl, hw⟩
theorem xm_X2_wrong {l : Launch} {S : Adr} {A : Nat → Prop} (hD : FD xT S xcl A) {x1 : Int32} {x2 : Int32} {ν : XN} {Q : Nat → XN → Prop} (hw : xw_X2_wrong x1 x2 ν Q) : xMet l S A 1 0 0 2 yX2_wrong [.ref (S.2.1 1), .int x1, .int x2] ν (pK S Q) :=
  x_met (plainFor_of_name (by decide)) hD ⟨⟨by decide, by decide, by show _ = some 2; decide +kernel⟩, by decide, q607, q176⟩ (Nat.le_of_ble_eq_true rfl) (fun κ Z h hT hN hR => xt_X2_wrong h hT hN hR hw)
def xw_X2_parted_32 (ν : XN) (Q : XN → Prop) (E : XN → Prop) : Prop :=
  (xw_X2_wrong (1 : Int32) (fI ν.1 1 2) ν (fun r10 ν9 => (r10 = 2 ∧ E ν9)))
theorem xt_X2_parted_32 {κ : Cx} {S : Adr} {A : Nat → Prop} {Z : State → Prop} {Q : XN → Prop} (h : XCx κ cX2_parted RX2 S A 2 0 0) (hT : (cxT κ).sig.returnType = none) (hN : (cxT κ).name = "parted") (hR : xRet κ S A 0 0 Z cX2_parted (pV Q)) {E : XN → Prop} (hO : xOut κ S A 0 0 Z E) {ν : XN} (hw : xw_X2_parted_32 ν Q E) : XG κ S A 0 0 Z 32 (ν, 0, 0) [some (.ref (S.2.1 1))] [] := by
  unfold xw_X2_parted_32 at hw
  refine g_aload_0 32 h.1 dX2_parted_32 ?_
  refine g_iconstv 33 _ ic_1 h.1 dX2_parted_33 ?_
  refine g_aload_0 34 h.1 dX2_parted_34 ?_
  refine xg_X2_36_2 35 h dX2_parted_35 ?_
  refine xcV_K_2 38 h (xm_X2_wrong h.2.2.1 hw) (by decide) (Nat.le_of_eq (Nat.zero_add _)) (Nat.le_of_eq (Nat.zero_add _)) q606 qs8 (fun H hI => x_recvK h rfl rfl hI) q604 (Nat.le_of_ble_eq_true rfl) dX2_parted_38 (fun r10 ν9 hw => ?_)
  obtain ⟨f11, hw⟩ := hw
  subst f11
  exact x_athrow 41 h dX2_parted_41 (hO _ _ _ _ _ hw)
def xw_X2_parted (ν : XN) (Q : XN → Prop) (E : XN → Prop) : Prop :=
  (xw_X2_byteAt ((fI ν.1 1 2) - (1 : Int32)) ν (fun r2 ν1 => (xw_X0_isLetter r2 ν1 (fun r4 ν3 => ((¬ r4 = 0 → xw_X2_parted_32 ν3 Q E) ∧ (r4 = 0 → (xw_X2_byteAt ((fI ν3.1 1 2) - (1 : Int32)) ν3 (fun r6 ν5 => (xw_X0_isDigit r6 ν5 (fun r8 ν7 => ((r8 = 0 → Q ν7) ∧ (¬ r8 = 0 → xw_X2_parted_32 ν7 Q E))))))))))))
theorem xt_X2_parted {κ : Cx} {S : Adr} {A : Nat → Prop} {Z : State → Prop} {Q : XN → Prop} (h : XCx κ cX2_parted RX2 S A 2 0 0) (hT : (cxT κ).sig.returnType = none) (hN : (cxT κ).name = "parted") (hR : xRet κ S A 0 0 Z cX2_parted (pV Q)) {E : XN → Prop} (hO : xOut κ S A 0 0 Z E) {ν : XN} (hw : xw_X2_parted ν Q E) : XG κ S A 0 0 Z 0 (ν, 0, 0) [some (.ref (S.2.1 1))] [] := by
  unfold xw_X2_parted at hw
  refine g_aload_0 0 h.1 dX2_parted_0 ?_
  refine g_aload_0 1 h.1 dX2_parted_1 ?_
  refine xg_X2_36_2 2 h dX2_parted_2 ?_
  refine g_iconstv 5 _ ic_1 h.1 dX2_parted_5 ?_
  refine g_isub 6 h.1 dX2_parted_6 ?_
  refine xcV_I_1 7 h (xm_X2_byteAt h.2.2.1 hw) (by decide) (Nat.le_of_eq (Nat.zero_add _)) (Nat.le_of_eq (Nat.zero_add _)) q599 qs7 (fun H hI => x_recvK h rfl rfl hI) q597 (Nat.le_of_ble_eq_true rfl) dX2_parted_7 (fun r2 ν1 hw => ?_)
  refine xcSN_I_1 10 h (xm_X0_isLetter h.2.2.1 hw) (by decide) (Nat.le_of_eq (Nat.zero_add _)) (Nat.le_of_eq (Nat.zero_add _)) q602 q601 (Nat.le_of_ble_eq_true rfl) dX2_parted_10 (fun r4 ν3 hw => ?_)
  refine g_if_ne 13 32 h.1 dX2_parted_13 (by decide) (fun c => ?_) (fun c => ?_)
  · have hw := hw.1 c
    exact g_le (xt_X2_parted_32 h hT hN hR hO hw) ⟨rfl, trivial⟩
  · have hw := hw.2 c
    refine g_aload_0 16 h.1 dX2_parted_16 ?_
    refine g_aload_0 17 h.1 dX2_parted_17 ?_
    refine xg_X2_36_2 18 h dX2_parted_18 ?_
    refine g_iconstv 21 _ ic_1 h.1 dX2_parted_21 ?_
    refine g_isub 22 h.1 dX2_parted_22 ?_
    refine xcV_I_1 23 h (xm_X2_byteAt h.2.2.1 hw) (by decide) (Nat.le_of_eq (Nat.zero_add _)) (Nat.le_of_eq (Nat.zero_add _)) q599 qs7 (fun H hI => x_recvK h rfl rfl hI) q597 (Nat.le_of_ble_eq_true rfl) dX2_parted_23 (fun r6 ν5 hw => ?_)
    refine xcSN_I_1 26 h (xm_X0_isDigit h.2.2.1 hw) (by decide) (Nat.le_of_eq (Nat.zero_add _)) (Nat.le_of_eq (Nat.zero_add _)) q613 q612 (Nat.le_of_ble_eq_true rfl) dX2_parted_26 (fun r8 ν7 hw => ?_)
    refine g_if_eq 29 42 h.1 dX2_parted_29 (by decide) (fun c => ?_) (fun c => ?_)
    · have hw := hw.1 c
      exact hR.2.2.1 42 _ _ _ _ hT dX2_parted_42 ⟨rfl, hw⟩
    · have hw := hw.2 c
      exact g_le (xt_X2_parted_32 h hT hN hR hO hw) ⟨rfl, trivial⟩
theorem xm_X2_parted {l : Launch} {S : Adr} {A : Nat → Prop} (hD : FD xT S xcl A) {ν : XN} {Q : XN → Prop} {E : XN → Prop} (hw : xw_X2_parted ν Q E) : xMetX l S A 2 0 0 0 yX2_parted [.ref (S.2.1 1)] ν (pV Q) E :=
  x_startX (by decide) hD ⟨⟨by decide, by decide, by show _ = some 0; decide +kernel⟩, by decide, q611, q176⟩ (Nat.le_of_ble_eq_true rfl) (fun κ Z h hT hN hR hO => xt_X2_parted h hT hN hR hO hw)
def xw_X2_word_2_76 (x1 : Nat) (x2 : Int32) (ν : XN) (k n : Nat) (Q : Nat → XN → Prop) (E : XN → Prop) : Prop :=
  ∀ X76 : Nat → Int32 → XN → Nat → Nat → Prop, (∀ (x1 : Nat) (x2 : Int32) (ν : XN) (k n : Nat), (((fI ν.1 1 2) ≤ x2 → (∃ k29 n30 k31 n32, k29 + k31 ≤ k ∧ n30 + n32 ≤ n ∧ xw_J6_valueOf x1 ν k29 n30 (fun r28 ν27 => Q r28 ν27))) ∧ (¬ (fI ν.1 1 2) ≤ x2 → (vp_in x2 1600 ∧ (rk ν.2 x1 = 103 ∧ (vp_in (x2 - (fI ν.1 1 3)) (rn ν.2 x1) ∧ (∀ ν36, ν36 = (ν.1, tI ν.2 x1 (Int32.toNatClampNeg (x2 - (fI ν.1 1 3))) (vp_nar .char (UInt32.toInt32 (Int32.toUInt32 (fA ν.1 0 (Int32.toNatClampNeg x2)) % 65536)))) → X76 x1 (x2 + 1) ν36 k n)))))) → X76 x1 x2 ν k n) → X76 x1 x2 ν k n
theorem xt_X2_word_2_76 {κ : Cx} {S : Adr} {A : Nat → Prop} {mc ms : Nat} {Z : State → Prop} {Q : Nat → XN → Prop} (h : XCx κ cX2_word_2 RX2 S A 9 mc ms) (hT : (cxT κ).sig.returnType = some (.object "java/lang/String")) (hN : (cxT κ).name = "word") (hR : xRet κ S A mc ms Z cX2_word_2 (pA Q)) {E : XN → Prop} (hO : xOut κ S A mc ms Z E) {x1 : Nat} {x2 : Int32} {ν : XN} {k n : Nat} (hw : xw_X2_word_2_76 x1 x2 ν k n Q E) : XG κ S A mc ms Z 76 (ν, k, n) [some (.ref (S.2.1 1)), some (.ref x1), some (.int x2)] [] := by
  refine hw (fun x1 x2 ν k n => XG κ S A mc ms Z 76 (ν, k, n) [some (.ref (S.2.1 1)), some (.ref x1), some (.int x2)] []) ?_
  clear hw
  intro x1 x2 ν k n hw
  have hX76 : ∀ (x1 : Nat) (x2 : Int32) (ν : XN) (k n : Nat), XG κ S A mc ms Z 76 (ν, k, n) [some (.ref (S.2.1 1)), some (.ref x1), some (.int x2)] [] → XG κ S A mc ms Z 76 (ν, k, n) [some (.ref (S.2.1 1)), some (.ref x1), some (.int x2)] [] := fun _ _ _ _ _ hh => hh
  refine g_iload_2 76 h.1 dX2_word_2_76 ?_
  refine g_aload_0 77 h.1 dX2_word_2_77 ?_
  refine xg_X2_36_2 78 h dX2_word_2_78 ?_
  refine g_icmp_ge 81 108 h.1 dX2_word_2_81 (by decide) (fun c => ?_) (fun c => ?_)
  · have hw := hw.1 c
    refine g_aload_1 108 h.1 dX2_word_2_108 ?_
    obtain ⟨k29, n30, k31, n32, a33, a34, hw⟩ := hw
    refine xcS_A_1 109 h (xm_J6_valueOf h.2.2.1 hw) (by decide) a33 a34 q616 q615 (Nat.le_of_ble_eq_true rfl) dX2_word_2_109 (fun r28 ν27 hw => ?_)
    exact hR.2.2.2 112 (some r28) _ _ _ _ _ hT (by first | exact Or.inl ⟨_, rfl⟩ | exact Or.inr ⟨_, rfl⟩) dX2_word_2_112 ⟨_, rfl, hw⟩
  · have hw := hw.2 c
    refine g_aload_1 84 h.1 dX2_word_2_84 ?_
    refine g_iload_2 85 h.1 dX2_word_2_85 ?_
    refine g_aload_0 86 h.1 dX2_word_2_86 ?_
    refine xg_X2_61_2 87 h dX2_word_2_87 ?_
    refine g_isub 90 h.1 dX2_word_2_90 ?_
    refine g_aload_0 91 h.1 dX2_word_2_91 ?_
    refine xg_X2_3_2 92 h dX2_word_2_92 ?_
    refine xg_X2_32_0 95 h dX2_word_2_95 ?_
    refine g_iload_2 98 h.1 dX2_word_2_98 ?_
    obtain ⟨f35, hw⟩ := hw
    refine xa_bald 99 rfl f35 h dX2_word_2_99 ?_
    refine g_i2c 100 h.1 dX2_word_2_100 ?_
    obtain ⟨f38, hw⟩ := hw
    obtain ⟨f39, hw⟩ := hw
    refine ra_cast 101 f38 f39 h dX2_word_2_101 (fun ν36 e37 => ?_)
    have hw := hw ν36 e37
    refine g_iinc_2 102 (x2 + 1) (congrArg _ ic_1) h.1 rfl dX2_word_2_102 ?_
    refine g_goto 105 76 h.1 dX2_word_2_105 (by decide) ?_
    exact g_le (hX76 _ _ _ _ _ hw) ⟨rfl, rfl, rfl, trivial⟩
def xw_X2_word_2_32 (ν : XN) (k n : Nat) (Q : Nat → XN → Prop) (E : XN → Prop) : Prop :=
  ∀ X32 : XN → Nat → Nat → Prop, (∀ (ν : XN) (k n : Nat), (xw_X2_byteAt (fI ν.1 1 2) ν (fun r12 ν11 => (xw_X0_isLetter r12 ν11 (fun r14 ν13 => ((r14 = 0 → (¬ ((fI ν13.1 1 2) - (fI ν13.1 1 3)) < 0 ∧ (Int32.toNatClampNeg ((fI ν13.1 1 2) - (fI ν13.1 1 3)) ≤ 100000000 ∧ (∃ k21 n22, k21 + 1 ≤ k ∧ n22 + (Int32.toNatClampNeg ((fI ν13.1 1 2) - (fI ν13.1 1 3))) ≤ n ∧ ∀ q17, rk ν13.2 q17 = 0 → ∀ ν19, ν19 = (ν13.1, tN ν13.2 q17 103 (Int32.toNatClampNeg ((fI ν13.1 1 2) - (fI ν13.1 1 3)))) → xw_X2_word_2_76 q17 (fI ν19.1 1 3) ν19 k21 n22 Q E)))) ∧ (¬ r14 = 0 → (∀ ν25, ν25 = (sI ν13.1 1 2 ((fI ν13.1 1 2) + (1 : Int32)), ν13.2) → X32 ν25 k n))))))) → X32 ν k n) → X32 ν k n
theorem xt_X2_word_2_32 {κ : Cx} {S : Adr} {A : Nat → Prop} {mc ms : Nat} {Z : State → Prop} {Q : Nat → XN → Prop} (h : XCx κ cX2_word_2 RX2 S A 9 mc ms) (hT : (cxT κ).sig.returnType = some (.object "java/lang/String")) (hN : (cxT κ).name = "word") (hR : xRet κ S A mc ms Z cX2_word_2 (pA Q)) {E : XN → Prop} (hO : xOut κ S A mc ms Z E) {ν : XN} {k n : Nat} (hw : xw_X2_word_2_32 ν k n Q E) : XG κ S A mc ms Z 32 (ν, k, n) [some (.ref (S.2.1 1)), none, none] [] := by
  refine hw (fun ν k n => XG κ S A mc ms Z 32 (ν, k, n) [some (.ref (S.2.1 1)), none, none] []) ?_
  clear hw
  intro ν k n hw
  have hX32 : ∀ (ν : XN) (k n : Nat), XG κ S A mc ms Z 32 (ν, k, n) [some (.ref (S.2.1 1)), none, none] [] → XG κ S A mc ms Z 32 (ν, k, n) [some (.ref (S.2.1 1)), none, none] [] := fun _ _ _ hh => hh
  refine g_aload_0 32 h.1 dX2_word_2_32 ?_
  refine g_aload_0 33 h.1 dX2_word_2_33 ?_
  refine xg_X2_36_2 34 h dX2_word_2_34 ?_
  refine xcV_I_1 37 h (xm_X2_byteAt h.2.2.1 hw) (by decide) (Nat.le_of_eq (Nat.zero_add _)) (Nat.le_of_eq (Nat.zero_add _)) q599 qs7 (fun H hI => x_recvK h rfl rfl hI) q597 (Nat.le_of_ble_eq_true rfl) dX2_word_2_37 (fun r12 ν11 hw => ?_)
  refine xcSN_I_1 40 h (xm_X0_isLetter h.2.2.1 hw) (by decide) (Nat.le_of_eq (Nat.zero_add _)) (Nat.le_of_eq (Nat.zero_add _)) q602 q601 (Nat.le_of_ble_eq_true rfl) dX2_word_2_40 (fun r14 ν13 hw => ?_)
  refine g_if_eq 43 59 h.1 dX2_word_2_43 (by decide) (fun c => ?_) (fun c => ?_)
  · have hw := hw.1 c
    refine g_aload_0 59 h.1 dX2_word_2_59 ?_
    refine xg_X2_36_2 60 h dX2_word_2_60 ?_
    refine g_aload_0 63 h.1 dX2_word_2_63 ?_
    refine xg_X2_61_2 64 h dX2_word_2_64 ?_
    refine g_isub 67 h.1 dX2_word_2_67 ?_
    obtain ⟨f15, hw⟩ := hw
    obtain ⟨f16, hw⟩ := hw
    obtain ⟨k21, n22, a23, a24, hw⟩ := hw
    refine x_newaC 68 f15 rfl f16 h a23 a24 dX2_word_2_68 (fun q17 e18 ν19 e20 => ?_)
    have hw := hw q17 e18 ν19 e20
    refine g_astore_1 70 h.1 rfl dX2_word_2_70 ?_
    refine g_aload_0 71 h.1 dX2_word_2_71 ?_
    refine xg_X2_61_2 72 h dX2_word_2_72 ?_
    refine g_istore_2 75 h.1 rfl dX2_word_2_75 ?_
    exact g_le (xt_X2_word_2_76 h hT hN hR hO hw) ⟨rfl, rfl, rfl, trivial⟩
  · have hw := hw.2 c
    refine g_aload_0 46 h.1 dX2_word_2_46 ?_
    refine g_dup 47 rfl h.1 dX2_word_2_47 ?_
    refine xg_X2_36_2 48 h dX2_word_2_48 ?_
    refine g_iconstv 51 _ ic_1 h.1 dX2_word_2_51 ?_
    refine g_iadd 52 h.1 dX2_word_2_52 ?_
    refine xp_X2_36_2 53 h dX2_word_2_53 (fun ν25 e26 => ?_)
    have hw := hw ν25 e26
    refine g_goto 56 32 h.1 dX2_word_2_56 (by decide) ?_
    exact g_le (hX32 _ _ _ hw) ⟨rfl, trivial⟩
def xw_X2_word_2 (ν : XN) (k n : Nat) (Q : Nat → XN → Prop) (E : XN → Prop) : Prop :=
  (xw_X2_here ν (fun r2 ν1 => (xw_X0_isLetter r2 ν1 (fun r4 ν3 => ((¬ r4 = 0 → (xw_X2_parted ν3 (fun ν5 => (∀ ν6, ν6 = (sI ν5.1 1 3 (fI ν5.1 1 2), ν5.2) → xw_X2_word_2_32 ν6 k n Q E)) E)) ∧ (r4 = 0 → (xw_X2_wrong (1 : Int32) (fI ν3.1 1 2) ν3 (fun r9 ν8 => (r9 = 2 ∧ E ν8)))))))))
theorem xt_X2_word_2 {κ : Cx} {S : Adr} {A : Nat → Prop} {mc ms : Nat} {Z : State → Prop} {Q : Nat → XN → Prop} (h : XCx κ cX2_word_2 RX2 S A 9 mc ms) (hT : (cxT κ).sig.returnType = some (.object "java/lang/String")) (hN : (cxT κ).name = "word") (hR : xRet κ S A mc ms Z cX2_word_2 (pA Q)) {E : XN → Prop} (hO : xOut κ S A mc ms Z E) {ν : XN} {k n : Nat} (hw : xw_X2_word_2 ν k n Q E) : XG κ S A mc ms Z 0 (ν, k, n) [some (.ref (S.2.1 1)), none, none] [] := by
  unfold xw_X2_word_2 at hw
  refine g_aload_0 0 h.1 dX2_word_2_0 ?_
  refine xcV_I_0 1 h (xm_X2_here h.2.2.1 hw) (by decide) (Nat.le_of_eq (Nat.zero_add _)) (Nat.le_of_eq (Nat.zero_add _)) q595 qs6 (fun H hI => x_recvK h rfl rfl hI) q593 (Nat.le_of_ble_eq_true rfl) dX2_word_2_1 (fun r2 ν1 hw => ?_)
  refine xcSN_I_1 4 h (xm_X0_isLetter h.2.2.1 hw) (by decide) (Nat.le_of_eq (Nat.zero_add _)) (Nat.le_of_eq (Nat.zero_add _)) q602 q601 (Nat.le_of_ble_eq_true rfl) dX2_word_2_4 (fun r4 ν3 hw => ?_)
  refine g_if_ne 7 20 h.1 dX2_word_2_7 (by decide) (fun c => ?_) (fun c => ?_)
  · have hw := hw.1 c
    refine g_aload_0 20 h.1 dX2_word_2_20 ?_
    refine xcX_V_0 21 h (xm_X2_parted h.2.2.1 hw) (by decide) (Nat.le_of_eq (Nat.zero_add _)) (Nat.le_of_eq (Nat.zero_add _)) q610 qs9 (fun H hI => x_recvK h rfl rfl hI) q608 (Nat.le_of_ble_eq_true rfl) dX2_word_2_21 (fun ν5 hw => ?_) (fun _ he => hO _ _ _ _ _ he)
    refine g_aload_0 24 h.1 dX2_word_2_24 ?_
    refine g_aload_0 25 h.1 dX2_word_2_25 ?_
    refine xg_X2_36_2 26 h dX2_word_2_26 ?_
    refine xp_X2_61_2 29 h dX2_word_2_29 (fun ν6 e7 => ?_)
    have hw := hw ν6 e7
    exact g_le (xt_X2_word_2_32 h hT hN hR hO hw) ⟨rfl, trivial⟩
  · have hw := hw.2 c
    refine g_aload_0 10 h.1 dX2_word_2_10 ?_
    refine g_iconstv 11 _ ic_1 h.1 dX2_word_2_11 ?_
    refine g_aload_0 12 h.1 dX2_word_2_12 ?_
    refine xg_X2_36_2 13 h dX2_word_2_13 ?_
    refine xcV_K_2 16 h (xm_X2_wrong h.2.2.1 hw) (by decide) (Nat.le_of_eq (Nat.zero_add _)) (Nat.le_of_eq (Nat.zero_add _)) q606 qs8 (fun H hI => x_recvK h rfl rfl hI) q604 (Nat.le_of_ble_eq_true rfl) dX2_word_2_16 (fun r9 ν8 hw => ?_)
    obtain ⟨f10, hw⟩ := hw
    subst f10
    exact x_athrow 19 h dX2_word_2_19 (hO _ _ _ _ _ hw)
theorem xm_X2_word_2 {l : Launch} {S : Adr} {A : Nat → Prop} (hD : FD xT S xcl A) {ν : XN} {k n : Nat} {Q : Nat → XN → Prop} {E : XN → Prop} (hw : xw_X2_word_2 ν k n Q E) : xMetX l S A 9 k n 0 yX2_word_2 [.ref (S.2.1 1)] ν (pA Q) E :=
  x_startX (by decide) hD ⟨⟨by decide, by decide, by show _ = some 0; decide +kernel⟩, by decide, q592, q176⟩ (Nat.le_of_ble_eq_true rfl) (fun κ Z h hT hN hR hO => xt_X2_word_2 h hT hN hR hO hw)
def xw_X2_word (x1 : Nat) (ν : XN) (k n : Nat) (Q : XN → Prop) (E : XN → Prop) : Prop :=
  (∃ k3 n4 k5 n6, k3 + k5 ≤ k ∧ n4 + n6 ≤ n ∧ xw_X2_word_2 ν k3 n4 (fun r2 ν1 => (rc ν1.2 r2 = 11 ∧ (xw_J6_equals r2 x1 ν1 (fun r10 ν9 => ((¬ r10 = 0 → Q ν9) ∧ (r10 = 0 → (xw_X2_wrong (1 : Int32) (fI ν9.1 1 3) ν9 (fun r13 ν12 => (r13 = 2 ∧ E ν12))))))))) E)
theorem xt_X2_word {κ : Cx} {S : Adr} {A : Nat → Prop} {mc ms : Nat} {Z : State → Prop} {Q : XN → Prop} (h : XCx κ cX2_word RX2 S A 10 mc ms) (hT : (cxT κ).sig.returnType = none) (hN : (cxT κ).name = "word") (hR : xRet κ S A mc ms Z cX2_word (pV Q)) {E : XN → Prop} (hO : xOut κ S A mc ms Z E) {x1 : Nat} {ν : XN} {k n : Nat} (hw : xw_X2_word x1 ν k n Q E) : XG κ S A mc ms Z 0 (ν, k, n) [some (.ref (S.2.1 1)), some (.ref x1)] [] := by
  unfold xw_X2_word at hw
  refine g_aload_0 0 h.1 dX2_word_0 ?_
  obtain ⟨k3, n4, k5, n6, a7, a8, hw⟩ := hw
  refine xcX_A_0 1 h (xm_X2_word_2 h.2.2.1 hw) (by decide) a7 a8 q591 qs5 (fun H hI => x_recvK h rfl rfl hI) q589 (Nat.le_of_ble_eq_true rfl) dX2_word_1 (fun r2 ν1 hw => ?_) (fun _ he => hO _ _ _ _ _ he)
  refine g_aload_1 4 h.1 dX2_word_4 ?_
  obtain ⟨f11, hw⟩ := hw
  refine xcV_I_1 5 h (xm_J6_equals h.2.2.1 hw) (by decide) (Nat.le_of_eq (Nat.zero_add _)) (Nat.le_of_eq (Nat.zero_add _)) q694 q695 (fun H hI => x_recvR h f11 rfl hI) q693 (Nat.le_of_ble_eq_true rfl) dX2_word_5 (fun r10 ν9 hw => ?_)
  refine g_if_ne 8 21 h.1 dX2_word_8 (by decide) (fun c => ?_) (fun c => ?_)
  · have hw := hw.1 c
    exact hR.2.2.1 21 _ _ _ _ hT dX2_word_21 ⟨rfl, hw⟩
  · have hw := hw.2 c
    refine g_aload_0 11 h.1 dX2_word_11 ?_
    refine g_iconstv 12 _ ic_1 h.1 dX2_word_12 ?_
    refine g_aload_0 13 h.1 dX2_word_13 ?_
    refine xg_X2_61_2 14 h dX2_word_14 ?_
    refine xcV_K_2 17 h (xm_X2_wrong h.2.2.1 hw) (by decide) (Nat.le_of_eq (Nat.zero_add _)) (Nat.le_of_eq (Nat.zero_add _)) q606 qs8 (fun H hI => x_recvK h rfl rfl hI) q604 (Nat.le_of_ble_eq_true rfl) dX2_word_17 (fun r13 ν12 hw => ?_)
    obtain ⟨f14, hw⟩ := hw
    subst f14
    exact x_athrow 20 h dX2_word_20 (hO _ _ _ _ _ hw)
theorem xm_X2_word {l : Launch} {S : Adr} {A : Nat → Prop} (hD : FD xT S xcl A) {x1 : Nat} {ν : XN} {k n : Nat} {Q : XN → Prop} {E : XN → Prop} (hw : xw_X2_word x1 ν k n Q E) : xMetX l S A 10 k n 1 yX2_word [.ref (S.2.1 1), .ref x1] ν (pV Q) E :=
  x_startX (by decide) hD ⟨⟨by decide, by decide, by show _ = some 1; decide +kernel⟩, by decide, q588, q176⟩ (Nat.le_of_ble_eq_true rfl) (fun κ Z h hT hN hR hO => xt_X2_word h hT hN hR hO hw)
def xw_X2_number_34 (x1 : Int32) (x2 : Int32) (x3 : Int32) (ν : XN) (Q : Int32 → XN → Prop) (E : XN → Prop) : Prop :=
  ∀ X34 : Int32 → Int32 → Int32 → XN → Prop, (∀ (x1 : Int32) (x2 : Int32) (x3 : Int32) (ν : XN), (xw_X2_byteAt (fI ν.1 1 2) ν (fun r12 ν11 => (xw_X0_isDigit r12 ν11 (fun r14 ν13 => ((r14 = 0 → (xw_X0_is x3 x1 x2 ν13 (fun r16 ν15 => ((¬ r16 = 0 → Q x3 ν15) ∧ (r16 = 0 → (xw_X2_wrong (2 : Int32) (fI ν15.1 1 3) ν15 (fun r18 ν17 => (r18 = 2 ∧ E ν17)))))))) ∧ (¬ r14 = 0 → ((¬ ((fI ν13.1 1 2) - (fI ν13.1 1 3)) = (4 : Int32) → (xw_X2_byteAt (fI ν13.1 1 2) ν13 (fun r21 ν20 => (∀ ν22, ν22 = (sI ν20.1 1 2 ((fI ν20.1 1 2) + (1 : Int32)), ν20.2) → X34 x1 x2 ((((10 : Int32) * x3) + r21) - (48 : Int32)) ν22)))) ∧ (((fI ν13.1 1 2) - (fI ν13.1 1 3)) = (4 : Int32) → (xw_X2_wrong (1 : Int32) (fI ν13.1 1 2) ν13 (fun r25 ν24 => (r25 = 2 ∧ E ν24))))))))))) → X34 x1 x2 x3 ν) → X34 x1 x2 x3 ν
theorem xt_X2_number_34 {κ : Cx} {S : Adr} {A : Nat → Prop} {Z : State → Prop} {Q : Int32 → XN → Prop} (h : XCx κ cX2_number RX2 S A 3 0 0) (hT : (cxT κ).sig.returnType = some .int) (hN : (cxT κ).name = "number") (hR : xRet κ S A 0 0 Z cX2_number (pI Q)) {E : XN → Prop} (hO : xOut κ S A 0 0 Z E) {x1 : Int32} {x2 : Int32} {x3 : Int32} {ν : XN} (hw : xw_X2_number_34 x1 x2 x3 ν Q E) : XG κ S A 0 0 Z 34 (ν, 0, 0) [some (.ref (S.2.1 1)), some (.int x1), some (.int x2), some (.int x3)] [] := by
  refine hw (fun x1 x2 x3 ν => XG κ S A 0 0 Z 34 (ν, 0, 0) [some (.ref (S.2.1 1)), some (.int x1), some (.int x2), some (.int x3)] []) ?_
  clear hw
  intro x1 x2 x3 ν hw
  have hX34 : ∀ (x1 : Int32) (x2 : Int32) (x3 : Int32) (ν : XN), XG κ S A 0 0 Z 34 (ν, 0, 0) [some (.ref (S.2.1 1)), some (.int x1), some (.int x2), some (.int x3)] [] → XG κ S A 0 0 Z 34 (ν, 0, 0) [some (.ref (S.2.1 1)), some (.int x1), some (.int x2), some (.int x3)] [] := fun _ _ _ _ hh => hh
  refine g_aload_0 34 h.1 dX2_number_34 ?_
  refine g_aload_0 35 h.1 dX2_number_35 ?_
  refine xg_X2_36_2 36 h dX2_number_36 ?_
  refine xcV_I_1 39 h (xm_X2_byteAt h.2.2.1 hw) (by decide) (Nat.le_of_eq (Nat.zero_add _)) (Nat.le_of_eq (Nat.zero_add _)) q599 qs7 (fun H hI => x_recvK h rfl rfl hI) q597 (Nat.le_of_ble_eq_true rfl) dX2_number_39 (fun r12 ν11 hw => ?_)
  refine xcSN_I_1 42 h (xm_X0_isDigit h.2.2.1 hw) (by decide) (Nat.le_of_eq (Nat.zero_add _)) (Nat.le_of_eq (Nat.zero_add _)) q613 q612 (Nat.le_of_ble_eq_true rfl) dX2_number_42 (fun r14 ν13 hw => ?_)
  refine g_if_eq 45 101 h.1 dX2_number_45 (by decide) (fun c => ?_) (fun c => ?_)
  · have hw := hw.1 c
    refine g_iload_3 101 h.1 dX2_number_101 ?_
    refine g_iload_1 102 h.1 dX2_number_102 ?_
    refine g_iload_2 103 h.1 dX2_number_103 ?_
    refine xcSN_I_3 104 h (xm_X0_is h.2.2.1 hw) (by decide) (Nat.le_of_eq (Nat.zero_add _)) (Nat.le_of_eq (Nat.zero_add _)) q705 q704 (Nat.le_of_ble_eq_true rfl) dX2_number_104 (fun r16 ν15 hw => ?_)
    refine g_if_ne 107 120 h.1 dX2_number_107 (by decide) (fun c => ?_) (fun c => ?_)
    · have hw := hw.1 c
      refine g_iload_3 120 h.1 dX2_number_120 ?_
      exact hR.1 121 _ _ _ _ _ _ hT rfl dX2_number_121 ⟨_, rfl, hw⟩
    · have hw := hw.2 c
      refine g_aload_0 110 h.1 dX2_number_110 ?_
      refine g_iconstv 111 _ ic_2 h.1 dX2_number_111 ?_
      refine g_aload_0 112 h.1 dX2_number_112 ?_
      refine xg_X2_61_2 113 h dX2_number_113 ?_
      refine xcV_K_2 116 h (xm_X2_wrong h.2.2.1 hw) (by decide) (Nat.le_of_eq (Nat.zero_add _)) (Nat.le_of_eq (Nat.zero_add _)) q606 qs8 (fun H hI => x_recvK h rfl rfl hI) q604 (Nat.le_of_ble_eq_true rfl) dX2_number_116 (fun r18 ν17 hw => ?_)
      obtain ⟨f19, hw⟩ := hw
      subst f19
      exact x_athrow 119 h dX2_number_119 (hO _ _ _ _ _ hw)
  · have hw := hw.2 c
    refine g_aload_0 48 h.1 dX2_number_48 ?_
    refine xg_X2_36_2 49 h dX2_number_49 ?_
    refine g_aload_0 52 h.1 dX2_number_52 ?_
    refine xg_X2_61_2 53 h dX2_number_53 ?_
    refine g_isub 56 h.1 dX2_number_56 ?_
    refine g_iconstv 57 _ ic_4 h.1 dX2_number_57 ?_
    refine g_icmp_ne 58 71 h.1 dX2_number_58 (by decide) (fun c => ?_) (fun c => ?_)
    · have hw := hw.1 c
      refine g_bipush 71 _ bp_10 h.1 dX2_number_71 ?_
      refine g_iload_3 73 h.1 dX2_number_73 ?_
      refine g_imul 74 h.1 dX2_number_74 ?_
      refine g_aload_0 75 h.1 dX2_number_75 ?_
      refine g_aload_0 76 h.1 dX2_number_76 ?_
      refine xg_X2_36_2 77 h dX2_number_77 ?_
      refine xcV_I_1 80 h (xm_X2_byteAt h.2.2.1 hw) (by decide) (Nat.le_of_eq (Nat.zero_add _)) (Nat.le_of_eq (Nat.zero_add _)) q599 qs7 (fun H hI => x_recvK h rfl rfl hI) q597 (Nat.le_of_ble_eq_true rfl) dX2_number_80 (fun r21 ν20 hw => ?_)
      refine g_iadd 83 h.1 dX2_number_83 ?_
      refine g_bipush 84 _ bp_48 h.1 dX2_number_84 ?_
      refine g_isub 86 h.1 dX2_number_86 ?_
      refine g_istore_3 87 h.1 rfl dX2_number_87 ?_
      refine g_aload_0 88 h.1 dX2_number_88 ?_
      refine g_dup 89 rfl h.1 dX2_number_89 ?_
      refine xg_X2_36_2 90 h dX2_number_90 ?_
      refine g_iconstv 93 _ ic_1 h.1 dX2_number_93 ?_
      refine g_iadd 94 h.1 dX2_number_94 ?_
      refine xp_X2_36_2 95 h dX2_number_95 (fun ν22 e23 => ?_)
      have hw := hw ν22 e23
      refine g_goto 98 34 h.1 dX2_number_98 (by decide) ?_
      exact g_le (hX34 _ _ _ _ hw) ⟨rfl, rfl, rfl, rfl, trivial⟩
    · have hw := hw.2 c
      refine g_aload_0 61 h.1 dX2_number_61 ?_
      refine g_iconstv 62 _ ic_1 h.1 dX2_number_62 ?_
      refine g_aload_0 63 h.1 dX2_number_63 ?_
      refine xg_X2_36_2 64 h dX2_number_64 ?_
      refine xcV_K_2 67 h (xm_X2_wrong h.2.2.1 hw) (by decide) (Nat.le_of_eq (Nat.zero_add _)) (Nat.le_of_eq (Nat.zero_add _)) q606 qs8 (fun H hI => x_recvK h rfl rfl hI) q604 (Nat.le_of_ble_eq_true rfl) dX2_number_67 (fun r25 ν24 hw => ?_)
      obtain ⟨f26, hw⟩ := hw
      subst f26
      exact x_athrow 70 h dX2_number_70 (hO _ _ _ _ _ hw)
def xw_X2_number (x1 : Int32) (x2 : Int32) (ν : XN) (Q : Int32 → XN → Prop) (E : XN → Prop) : Prop :=
  (xw_X2_here ν (fun r2 ν1 => (xw_X0_isDigit r2 ν1 (fun r4 ν3 => ((¬ r4 = 0 → (xw_X2_parted ν3 (fun ν5 => (∀ ν6, ν6 = (sI ν5.1 1 3 (fI ν5.1 1 2), ν5.2) → xw_X2_number_34 x1 x2 (0 : Int32) ν6 Q E)) E)) ∧ (r4 = 0 → (xw_X2_wrong (1 : Int32) (fI ν3.1 1 2) ν3 (fun r9 ν8 => (r9 = 2 ∧ E ν8)))))))))
theorem xt_X2_number {κ : Cx} {S : Adr} {A : Nat → Prop} {Z : State → Prop} {Q : Int32 → XN → Prop} (h : XCx κ cX2_number RX2 S A 3 0 0) (hT : (cxT κ).sig.returnType = some .int) (hN : (cxT κ).name = "number") (hR : xRet κ S A 0 0 Z cX2_number (pI Q)) {E : XN → Prop} (hO : xOut κ S A 0 0 Z E) {x1 : Int32} {x2 : Int32} {ν : XN} (hw : xw_X2_number x1 x2 ν Q E) : XG κ S A 0 0 Z 0 (ν, 0, 0) [some (.ref (S.2.1 1)), some (.int x1), some (.int x2), none] [] := by
  unfold xw_X2_number at hw
  refine g_aload_0 0 h.1 dX2_number_0 ?_
  refine xcV_I_0 1 h (xm_X2_here h.2.2.1 hw) (by decide) (Nat.le_of_eq (Nat.zero_add _)) (Nat.le_of_eq (Nat.zero_add _)) q595 qs6 (fun H hI => x_recvK h rfl rfl hI) q593 (Nat.le_of_ble_eq_true rfl) dX2_number_1 (fun r2 ν1 hw => ?_)
  refine xcSN_I_1 4 h (xm_X0_isDigit h.2.2.1 hw) (by decide) (Nat.le_of_eq (Nat.zero_add _)) (Nat.le_of_eq (Nat.zero_add _)) q613 q612 (Nat.le_of_ble_eq_true rfl) dX2_number_4 (fun r4 ν3 hw => ?_)
  refine g_if_ne 7 20 h.1 dX2_number_7 (by decide) (fun c => ?_) (fun c => ?_)
  · have hw := hw.1 c
    refine g_aload_0 20 h.1 dX2_number_20 ?_
    refine xcX_V_0 21 h (xm_X2_parted h.2.2.1 hw) (by decide) (Nat.le_of_eq (Nat.zero_add _)) (Nat.le_of_eq (Nat.zero_add _)) q610 qs9 (fun H hI => x_recvK h rfl rfl hI) q608 (Nat.le_of_ble_eq_true rfl) dX2_number_21 (fun ν5 hw => ?_) (fun _ he => hO _ _ _ _ _ he)
    refine g_aload_0 24 h.1 dX2_number_24 ?_
    refine g_aload_0 25 h.1 dX2_number_25 ?_
    refine xg_X2_36_2 26 h dX2_number_26 ?_
    refine xp_X2_61_2 29 h dX2_number_29 (fun ν6 e7 => ?_)
    have hw := hw ν6 e7
    refine g_iconstv 32 _ ic_0 h.1 dX2_number_32 ?_
    refine g_istore_3 33 h.1 rfl dX2_number_33 ?_
    exact g_le (xt_X2_number_34 h hT hN hR hO hw) ⟨rfl, rfl, rfl, rfl, trivial⟩
  · have hw := hw.2 c
    refine g_aload_0 10 h.1 dX2_number_10 ?_
    refine g_iconstv 11 _ ic_1 h.1 dX2_number_11 ?_
    refine g_aload_0 12 h.1 dX2_number_12 ?_
    refine xg_X2_36_2 13 h dX2_number_13 ?_
    refine xcV_K_2 16 h (xm_X2_wrong h.2.2.1 hw) (by decide) (Nat.le_of_eq (Nat.zero_add _)) (Nat.le_of_eq (Nat.zero_add _)) q606 qs8 (fun H hI => x_recvK h rfl rfl hI) q604 (Nat.le_of_ble_eq_true rfl) dX2_number_16 (fun r9 ν8 hw => ?_)
    obtain ⟨f10, hw⟩ := hw
    subst f10
    exact x_athrow 19 h dX2_number_19 (hO _ _ _ _ _ hw)
theorem xm_X2_number {l : Launch} {S : Adr} {A : Nat → Prop} (hD : FD xT S xcl A) {x1 : Int32} {x2 : Int32} {ν : XN} {Q : Int32 → XN → Prop} {E : XN → Prop} (hw : xw_X2_number x1 x2 ν Q E) : xMetX l S A 3 0 0 2 yX2_number [.ref (S.2.1 1), .int x1, .int x2] ν (pI Q) E :=
  x_startX (by decide) hD ⟨⟨by decide, by decide, by show _ = some 2; decide +kernel⟩, by decide, q703, q176⟩ (Nat.le_of_ble_eq_true rfl) (fun κ Z h hT hN hR hO => xt_X2_number h hT hN hR hO hw)
def xw_X2_number_2 (x1 : Nat) (x2 : Int32) (x3 : Int32) (ν : XN) (k n : Nat) (Q : Int32 → XN → Prop) (E : XN → Prop) : Prop :=
  (∃ k2 n3 k4 n5, k2 + k4 ≤ k ∧ n3 + n5 ≤ n ∧ xw_X2_word x1 ν k2 n3 (fun ν1 => (xw_X2_number x2 x3 ν1 (fun r9 ν8 => Q r9 ν8) E)) E)
theorem xt_X2_number_2 {κ : Cx} {S : Adr} {A : Nat → Prop} {mc ms : Nat} {Z : State → Prop} {Q : Int32 → XN → Prop} (h : XCx κ cX2_number_2 RX2 S A 11 mc ms) (hT : (cxT κ).sig.returnType = some .int) (hN : (cxT κ).name = "number") (hR : xRet κ S A mc ms Z cX2_number_2 (pI Q)) {E : XN → Prop} (hO : xOut κ S A mc ms Z E) {x1 : Nat} {x2 : Int32} {x3 : Int32} {ν : XN} {k n : Nat} (hw : xw_X2_number_2 x1 x2 x3 ν k n Q E) : XG κ S A mc ms Z 0 (ν, k, n) [some (.ref (S.2.1 1)), some (.ref x1), some (.int x2), some (.int x3)] [] := by
  unfold xw_X2_number_2 at hw
  refine g_aload_0 0 h.1 dX2_number_2_0 ?_
  refine g_aload_1 1 h.1 dX2_number_2_1 ?_
  obtain ⟨k2, n3, k4, n5, a6, a7, hw⟩ := hw
  refine xcX_V_1 2 h (xm_X2_word h.2.2.1 hw) (by decide) a6 a7 q587 qs4 (fun H hI => x_recvK h rfl rfl hI) q585 (Nat.le_of_ble_eq_true rfl) dX2_number_2_2 (fun ν1 hw => ?_) (fun _ he => hO _ _ _ _ _ he)
  refine g_aload_0 5 h.1 dX2_number_2_5 ?_
  refine g_iload_2 6 h.1 dX2_number_2_6 ?_
  refine g_iload_3 7 h.1 dX2_number_2_7 ?_
  refine xcX_I_2 8 h (xm_X2_number h.2.2.1 hw) (by decide) (Nat.le_of_eq (Nat.zero_add _)) (Nat.le_of_eq (Nat.zero_add _)) q702 qs10 (fun H hI => x_recvK h rfl rfl hI) q700 (Nat.le_of_ble_eq_true rfl) dX2_number_2_8 (fun r9 ν8 hw => ?_) (fun _ he => hO _ _ _ _ _ he)
  exact hR.1 11 _ _ _ _ _ _ hT rfl dX2_number_2_11 ⟨_, rfl, hw⟩
theorem xm_X2_number_2 {l : Launch} {S : Adr} {A : Nat → Prop} (hD : FD xT S xcl A) {x1 : Nat} {x2 : Int32} {x3 : Int32} {ν : XN} {k n : Nat} {Q : Int32 → XN → Prop} {E : XN → Prop} (hw : xw_X2_number_2 x1 x2 x3 ν k n Q E) : xMetX l S A 11 k n 3 yX2_number_2 [.ref (S.2.1 1), .ref x1, .int x2, .int x3] ν (pI Q) E :=
  x_startX (by decide) hD ⟨⟨by decide, by decide, by show _ = some 3; decide +kernel⟩, by decide, q711, q176⟩ (Nat.le_of_ble_eq_true rfl) (fun κ Z h hT hN hR hO => xt_X2_number_2 h hT hN hR hO hw)
def xw_X2_must (x1 : Int32) (ν : XN) (Q : XN → Prop) (E : XN → Prop) : Prop :=
  (xw_X2_here ν (fun r2 ν1 => ((r2 = x1 → (∀ ν3, ν3 = (sI ν1.1 1 2 ((fI ν1.1 1 2) + (1 : Int32)), ν1.2) → Q ν3)) ∧ (¬ r2 = x1 → (xw_X2_wrong (1 : Int32) (fI ν1.1 1 2) ν1 (fun r6 ν5 => (r6 = 2 ∧ E ν5)))))))
theorem xt_X2_must {κ : Cx} {S : Adr} {A : Nat → Prop} {Z : State → Prop} {Q : XN → Prop} (h : XCx κ cX2_must RX2 S A 3 0 0) (hT : (cxT κ).sig.returnType = none) (hN : (cxT κ).name = "must") (hR : xRet κ S A 0 0 Z cX2_must (pV Q)) {E : XN → Prop} (hO : xOut κ S A 0 0 Z E) {x1 : Int32} {ν : XN} (hw : xw_X2_must x1 ν Q E) : XG κ S A 0 0 Z 0 (ν, 0, 0) [some (.ref (S.2.1 1)), some (.int x1)] [] := by
  unfold xw_X2_must at hw
  refine g_aload_0 0 h.1 dX2_must_0 ?_
  refine xcV_I_0 1 h (xm_X2_here h.2.2.1 hw) (by decide) (Nat.le_of_eq (Nat.zero_add _)) (Nat.le_of_eq (Nat.zero_add _)) q595 qs6 (fun H hI => x_recvK h rfl rfl hI) q593 (Nat.le_of_ble_eq_true rfl) dX2_must_1 (fun r2 ν1 hw => ?_)
  refine g_iload_1 4 h.1 dX2_must_4 ?_
  refine g_icmp_eq 5 18 h.1 dX2_must_5 (by decide) (fun c => ?_) (fun c => ?_)
  · have hw := hw.1 c
    refine g_aload_0 18 h.1 dX2_must_18 ?_
    refine g_dup 19 rfl h.1 dX2_must_19 ?_
    refine xg_X2_36_2 20 h dX2_must_20 ?_
    refine g_iconstv 23 _ ic_1 h.1 dX2_must_23 ?_
    refine g_iadd 24 h.1 dX2_must_24 ?_
    refine xp_X2_36_2 25 h dX2_must_25 (fun ν3 e4 => ?_)
    have hw := hw ν3 e4
    exact hR.2.2.1 28 _ _ _ _ hT dX2_must_28 ⟨rfl, hw⟩
  · have hw := hw.2 c
    refine g_aload_0 8 h.1 dX2_must_8 ?_
    refine g_iconstv 9 _ ic_1 h.1 dX2_must_9 ?_
    refine g_aload_0 10 h.1 dX2_must_10 ?_
    refine xg_X2_36_2 11 h dX2_must_11 ?_
    refine xcV_K_2 14 h (xm_X2_wrong h.2.2.1 hw) (by decide) (Nat.le_of_eq (Nat.zero_add _)) (Nat.le_of_eq (Nat.zero_add _)) q606 qs8 (fun H hI => x_recvK h rfl rfl hI) q604 (Nat.le_of_ble_eq_true rfl) dX2_must_14 (fun r6 ν5 hw => ?_)
    obtain ⟨f7, hw⟩ := hw
    subst f7
    exact x_athrow 17 h dX2_must_17 (hO _ _ _ _ _ hw)
theorem xm_X2_must {l : Launch} {S : Adr} {A : Nat → Prop} (hD : FD xT S xcl A) {x1 : Int32} {ν : XN} {Q : XN → Prop} {E : XN → Prop} (hw : xw_X2_must x1 ν Q E) : xMetX l S A 3 0 0 1 yX2_must [.ref (S.2.1 1), .int x1] ν (pV Q) E :=
  x_startX (by decide) hD ⟨⟨by decide, by decide, by show _ = some 1; decide +kernel⟩, by decide, q715, q176⟩ (Nat.le_of_ble_eq_true rfl) (fun κ Z h hT hN hR hO => xt_X2_must h hT hN hR hO hw)
def xw_X2_most (x1 : Int32) (x2 : Int32) (ν : XN) (Q : XN → Prop) (E : XN → Prop) : Prop :=
  ((x1 = 0 → Q ν) ∧ (¬ x1 = 0 → (xw_X2_wrong (5 : Int32) x2 ν (fun r2 ν1 => (r2 = 2 ∧ E ν1)))))
theorem xt_X2_most {κ : Cx} {S : Adr} {A : Nat → Prop} {Z : State → Prop} {Q : XN → Prop} (h : XCx κ cX2_most RX2 S A 2 0 0) (hT : (cxT κ).sig.returnType = none) (hN : (cxT κ).name = "most") (hR : xRet κ S A 0 0 Z cX2_most (pV Q)) {E : XN → Prop} (hO : xOut κ S A 0 0 Z E) {x1 : Int32} {x2 : Int32} {ν : XN} (hw : xw_X2_most x1 x2 ν Q E) : XG κ S A 0 0 Z 0 (ν, 0, 0) [some (.ref (S.2.1 1)), some (.int x1), some (.int x2)] [] := by
  unfold xw_X2_most at hw
  refine g_iload_1 0 h.1 dX2_most_0 ?_
  refine g_if_eq 1 11 h.1 dX2_most_1 (by decide) (fun c => ?_) (fun c => ?_)
  · have hw := hw.1 c
    exact hR.2.2.1 11 _ _ _ _ hT dX2_most_11 ⟨rfl, hw⟩
  · have hw := hw.2 c
    refine g_aload_0 4 h.1 dX2_most_4 ?_
    refine g_iconstv 5 _ ic_5 h.1 dX2_most_5 ?_
    refine g_iload_2 6 h.1 dX2_most_6 ?_
    refine xcV_K_2 7 h (xm_X2_wrong h.2.2.1 hw) (by decide) (Nat.le_of_eq (Nat.zero_add _)) (Nat.le_of_eq (Nat.zero_add _)) q606 qs8 (fun H hI => x_recvK h rfl rfl hI) q604 (Nat.le_of_ble_eq_true rfl) dX2_most_7 (fun r2 ν1 hw => ?_)
    obtain ⟨f3, hw⟩ := hw
    subst f3
    exact x_athrow 10 h dX2_most_10 (hO _ _ _ _ _ hw)
theorem xm_X2_most {l : Launch} {S : Adr} {A : Nat → Prop} (hD : FD xT S xcl A) {x1 : Int32} {x2 : Int32} {ν : XN} {Q : XN → Prop} {E : XN → Prop} (hw : xw_X2_most x1 x2 ν Q E) : xMetX l S A 2 0 0 2 yX2_most [.ref (S.2.1 1), .int x1, .int x2] ν (pV Q) E :=
  x_startX (by decide) hD ⟨⟨by decide, by decide, by show _ = some 2; decide +kernel⟩, by decide, q719, q176⟩ (Nat.le_of_ble_eq_true rfl) (fun κ Z h hT hN hR hO => xt_X2_most h hT hN hR hO hw)
def xw_X2_cell (ν : XN) (Q : Int32 → XN → Prop) (E : XN → Prop) : Prop :=
  (∃ b1, fR ν.1 1 6 = .ref b1 ∧ (rc ν.2 b1 = 2 ∧ (xw_X2_number (0 : Int32) ((rI ν.2 b1 1) - (1 : Int32)) ν (fun r5 ν4 => (∃ b6, fR ν4.1 1 6 = .ref b6 ∧ (rc ν4.2 b6 = 2 ∧ (xw_X2_number (0 : Int32) ((rI ν4.2 b6 2) - (1 : Int32)) ν4 (fun r10 ν9 => Q (((8 : Int32) * r10) + r5) ν9) E)))) E)))
theorem xt_X2_cell {κ : Cx} {S : Adr} {A : Nat → Prop} {Z : State → Prop} {Q : Int32 → XN → Prop} (h : XCx κ cX2_cell RX2 S A 4 0 0) (hT : (cxT κ).sig.returnType = some .int) (hN : (cxT κ).name = "cell") (hR : xRet κ S A 0 0 Z cX2_cell (pI Q)) {E : XN → Prop} (hO : xOut κ S A 0 0 Z E) {ν : XN} (hw : xw_X2_cell ν Q E) : XG κ S A 0 0 Z 0 (ν, 0, 0) [some (.ref (S.2.1 1)), none] [] := by
  unfold xw_X2_cell at hw
  refine g_aload_0 0 h.1 dX2_cell_0 ?_
  refine g_iconstv 1 _ ic_0 h.1 dX2_cell_1 ?_
  refine g_aload_0 2 h.1 dX2_cell_2 ?_
  refine xg_X2_103_2 3 h dX2_cell_3 ?_
  obtain ⟨b1, e2, hw⟩ := hw
  rw [e2]
  obtain ⟨f3, hw⟩ := hw
  refine xg_X2_118_1 6 f3 h dX2_cell_6 ?_
  refine g_iconstv 9 _ ic_1 h.1 dX2_cell_9 ?_
  refine g_isub 10 h.1 dX2_cell_10 ?_
  refine xcX_I_2 11 h (xm_X2_number h.2.2.1 hw) (by decide) (Nat.le_of_eq (Nat.zero_add _)) (Nat.le_of_eq (Nat.zero_add _)) q702 qs10 (fun H hI => x_recvK h rfl rfl hI) q700 (Nat.le_of_ble_eq_true rfl) dX2_cell_11 (fun r5 ν4 hw => ?_) (fun _ he => hO _ _ _ _ _ he)
  refine g_istore_1 14 h.1 rfl dX2_cell_14 ?_
  refine g_bipush 15 _ bp_8 h.1 dX2_cell_15 ?_
  refine g_aload_0 17 h.1 dX2_cell_17 ?_
  refine g_iconstv 18 _ ic_0 h.1 dX2_cell_18 ?_
  refine g_aload_0 19 h.1 dX2_cell_19 ?_
  refine xg_X2_103_2 20 h dX2_cell_20 ?_
  obtain ⟨b6, e7, hw⟩ := hw
  rw [e7]
  obtain ⟨f8, hw⟩ := hw
  refine xg_X2_121_1 23 f8 h dX2_cell_23 ?_
  refine g_iconstv 26 _ ic_1 h.1 dX2_cell_26 ?_
  refine g_isub 27 h.1 dX2_cell_27 ?_
  refine xcX_I_2 28 h (xm_X2_number h.2.2.1 hw) (by decide) (Nat.le_of_eq (Nat.zero_add _)) (Nat.le_of_eq (Nat.zero_add _)) q702 qs10 (fun H hI => x_recvK h rfl rfl hI) q700 (Nat.le_of_ble_eq_true rfl) dX2_cell_28 (fun r10 ν9 hw => ?_) (fun _ he => hO _ _ _ _ _ he)
  refine g_imul 31 h.1 dX2_cell_31 ?_
  refine g_iload_1 32 h.1 dX2_cell_32 ?_
  refine g_iadd 33 h.1 dX2_cell_33 ?_
  exact hR.1 34 _ _ _ _ _ _ hT rfl dX2_cell_34 ⟨_, rfl, hw⟩
theorem xm_X2_cell {l : Launch} {S : Adr} {A : Nat → Prop} (hD : FD xT S xcl A) {ν : XN} {Q : Int32 → XN → Prop} {E : XN → Prop} (hw : xw_X2_cell ν Q E) : xMetX l S A 4 0 0 0 yX2_cell [.ref (S.2.1 1)] ν (pI Q) E :=
  x_startX (by decide) hD ⟨⟨by decide, by decide, by show _ = some 0; decide +kernel⟩, by decide, q785, q176⟩ (Nat.le_of_ble_eq_true rfl) (fun κ Z h hT hN hR hO => xt_X2_cell h hT hN hR hO hw)
def xw_X2_name (ν : XN) (k n : Nat) (Q : Nat → XN → Prop) (E : XN → Prop) : Prop :=
  (∃ k3 n4 k5 n6, k3 + k5 ≤ k ∧ n4 + n6 ≤ n ∧ xw_X2_word_2 ν k3 n4 (fun r2 ν1 => (∀ b9, fR ν1.1 901 0 = .ref b9 → (xw_X0_find r2 b9 ν1 (fun r12 ν11 => ((r12 = (-1 : Int32) → (rc ν11.2 r2 = 11 ∧ (xw_J6_length r2 ν11 (fun r14 ν13 => ((r14 ≤ (6 : Int32) → Q r2 ν13) ∧ (¬ r14 ≤ (6 : Int32) → (xw_X2_wrong (1 : Int32) ((fI ν13.1 1 3) + (6 : Int32)) ν13 (fun r17 ν16 => (r17 = 2 ∧ E ν16))))))))) ∧ (¬ r12 = (-1 : Int32) → (xw_X2_wrong (1 : Int32) (fI ν11.1 1 3) ν11 (fun r20 ν19 => (r20 = 2 ∧ E ν19))))))))) E)
theorem xt_X2_name {κ : Cx} {S : Adr} {A : Nat → Prop} {mc ms : Nat} {Z : State → Prop} {Q : Nat → XN → Prop} (h : XCx κ cX2_name RX2 S A 10 mc ms) (hT : (cxT κ).sig.returnType = some (.object "java/lang/String")) (hN : (cxT κ).name = "name") (hR : xRet κ S A mc ms Z cX2_name (pA Q)) {E : XN → Prop} (hO : xOut κ S A mc ms Z E) {ν : XN} {k n : Nat} (hw : xw_X2_name ν k n Q E) : XG κ S A mc ms Z 0 (ν, k, n) [some (.ref (S.2.1 1)), none] [] := by
  unfold xw_X2_name at hw
  refine g_aload_0 0 h.1 dX2_name_0 ?_
  obtain ⟨k3, n4, k5, n6, a7, a8, hw⟩ := hw
  refine xcX_A_0 1 h (xm_X2_word_2 h.2.2.1 hw) (by decide) a7 a8 q591 qs5 (fun H hI => x_recvK h rfl rfl hI) q589 (Nat.le_of_ble_eq_true rfl) dX2_name_1 (fun r2 ν1 hw => ?_) (fun _ he => hO _ _ _ _ _ he)
  refine g_astore_1 4 h.1 rfl dX2_name_4 ?_
  refine g_aload_1 5 h.1 dX2_name_5 ?_
  refine xs_X2_78 6 h dX2_name_6 (fun b9 e10 => ?_)
  have hw := hw b9 e10
  refine xcSN_I_2 9 h (xm_X0_find h.2.2.1 hw) (by decide) (Nat.le_of_eq (Nat.zero_add _)) (Nat.le_of_eq (Nat.zero_add _)) q809 q808 (Nat.le_of_ble_eq_true rfl) dX2_name_9 (fun r12 ν11 hw => ?_)
  refine g_iconstv 12 _ ic_m1 h.1 dX2_name_12 ?_
  refine g_icmp_eq 13 26 h.1 dX2_name_13 (by decide) (fun c => ?_) (fun c => ?_)
  · have hw := hw.1 c
    refine g_aload_1 26 h.1 dX2_name_26 ?_
    obtain ⟨f15, hw⟩ := hw
    refine xcV_I_0 27 h (xm_J6_length h.2.2.1 hw) (by decide) (Nat.le_of_eq (Nat.zero_add _)) (Nat.le_of_eq (Nat.zero_add _)) q813 q814 (fun H hI => x_recvR h f15 rfl hI) q812 (Nat.le_of_ble_eq_true rfl) dX2_name_27 (fun r14 ν13 hw => ?_)
    refine g_bipush 30 _ bp_6 h.1 dX2_name_30 ?_
    refine g_icmp_le 32 48 h.1 dX2_name_32 (by decide) (fun c => ?_) (fun c => ?_)
    · have hw := hw.1 c
      refine g_aload_1 48 h.1 dX2_name_48 ?_
      exact hR.2.2.2 49 (some r2) _ _ _ _ _ hT (by first | exact Or.inl ⟨_, rfl⟩ | exact Or.inr ⟨_, rfl⟩) dX2_name_49 ⟨_, rfl, hw⟩
    · have hw := hw.2 c
      refine g_aload_0 35 h.1 dX2_name_35 ?_
      refine g_iconstv 36 _ ic_1 h.1 dX2_name_36 ?_
      refine g_aload_0 37 h.1 dX2_name_37 ?_
      refine xg_X2_61_2 38 h dX2_name_38 ?_
      refine g_bipush 41 _ bp_6 h.1 dX2_name_41 ?_
      refine g_iadd 43 h.1 dX2_name_43 ?_
      refine xcV_K_2 44 h (xm_X2_wrong h.2.2.1 hw) (by decide) (Nat.le_of_eq (Nat.zero_add _)) (Nat.le_of_eq (Nat.zero_add _)) q606 qs8 (fun H hI => x_recvK h rfl rfl hI) q604 (Nat.le_of_ble_eq_true rfl) dX2_name_44 (fun r17 ν16 hw => ?_)
      obtain ⟨f18, hw⟩ := hw
      subst f18
      exact x_athrow 47 h dX2_name_47 (hO _ _ _ _ _ hw)
  · have hw := hw.2 c
    refine g_aload_0 16 h.1 dX2_name_16 ?_
    refine g_iconstv 17 _ ic_1 h.1 dX2_name_17 ?_
    refine g_aload_0 18 h.1 dX2_name_18 ?_
    refine xg_X2_61_2 19 h dX2_name_19 ?_
    refine xcV_K_2 22 h (xm_X2_wrong h.2.2.1 hw) (by decide) (Nat.le_of_eq (Nat.zero_add _)) (Nat.le_of_eq (Nat.zero_add _)) q606 qs8 (fun H hI => x_recvK h rfl rfl hI) q604 (Nat.le_of_ble_eq_true rfl) dX2_name_22 (fun r20 ν19 hw => ?_)
    obtain ⟨f21, hw⟩ := hw
    subst f21
    exact x_athrow 25 h dX2_name_25 (hO _ _ _ _ _ hw)
theorem xm_X2_name {l : Launch} {S : Adr} {A : Nat → Prop} (hD : FD xT S xcl A) {ν : XN} {k n : Nat} {Q : Nat → XN → Prop} {E : XN → Prop} (hw : xw_X2_name ν k n Q E) : xMetX l S A 10 k n 0 yX2_name [.ref (S.2.1 1)] ν (pA Q) E :=
  x_startX (by decide) hD ⟨⟨by decide, by decide, by show _ = some 0; decide +kernel⟩, by decide, q805, q176⟩ (Nat.le_of_ble_eq_true rfl) (fun κ Z h hT hN hR hO => xt_X2_name h hT hN hR hO hw)
def xw_X2_fresh (ν : XN) (k n : Nat) (Q : Nat → XN → Prop) (E : XN → Prop) : Prop :=
  (∃ k3 n4 k5 n6, k3 + k5 ≤ k ∧ n4 + n6 ≤ n ∧ xw_X2_name ν k3 n4 (fun r2 ν1 => (∃ b9, fR ν1.1 1 6 = .ref b9 ∧ (rc ν1.2 b9 = 2 ∧ (xw_X1_isNamed b9 r2 ν1 (fun r12 ν11 => ((r12 = 0 → Q r2 ν11) ∧ (¬ r12 = 0 → (xw_X2_wrong (3 : Int32) (fI ν11.1 1 3) ν11 (fun r15 ν14 => (r15 = 2 ∧ E ν14)))))))))) E)
theorem xt_X2_fresh {κ : Cx} {S : Adr} {A : Nat → Prop} {mc ms : Nat} {Z : State → Prop} {Q : Nat → XN → Prop} (h : XCx κ cX2_fresh RX2 S A 11 mc ms) (hT : (cxT κ).sig.returnType = some (.object "java/lang/String")) (hN : (cxT κ).name = "fresh") (hR : xRet κ S A mc ms Z cX2_fresh (pA Q)) {E : XN → Prop} (hO : xOut κ S A mc ms Z E) {ν : XN} {k n : Nat} (hw : xw_X2_fresh ν k n Q E) : XG κ S A mc ms Z 0 (ν, k, n) [some (.ref (S.2.1 1)), none] [] := by
  unfold xw_X2_fresh at hw
  refine g_aload_0 0 h.1 dX2_fresh_0 ?_
  obtain ⟨k3, n4, k5, n6, a7, a8, hw⟩ := hw
  refine xcX_A_0 1 h (xm_X2_name h.2.2.1 hw) (by decide) a7 a8 q804 qs17 (fun H hI => x_recvK h rfl rfl hI) q802 (Nat.le_of_ble_eq_true rfl) dX2_fresh_1 (fun r2 ν1 hw => ?_) (fun _ he => hO _ _ _ _ _ he)
  refine g_astore_1 4 h.1 rfl dX2_fresh_4 ?_
  refine g_aload_0 5 h.1 dX2_fresh_5 ?_
  refine xg_X2_103_2 6 h dX2_fresh_6 ?_
  obtain ⟨b9, e10, hw⟩ := hw
  rw [e10]
  refine g_aload_1 9 h.1 dX2_fresh_9 ?_
  obtain ⟨f13, hw⟩ := hw
  refine xcV_I_1 10 h (xm_X1_isNamed h.2.2.1 hw) (by decide) (Nat.le_of_eq (Nat.zero_add _)) (Nat.le_of_eq (Nat.zero_add _)) q821 q822 (fun H hI => x_recvR h f13 rfl hI) q820 (Nat.le_of_ble_eq_true rfl) dX2_fresh_10 (fun r12 ν11 hw => ?_)
  refine g_if_eq 13 26 h.1 dX2_fresh_13 (by decide) (fun c => ?_) (fun c => ?_)
  · have hw := hw.1 c
    refine g_aload_1 26 h.1 dX2_fresh_26 ?_
    exact hR.2.2.2 27 (some r2) _ _ _ _ _ hT (by first | exact Or.inl ⟨_, rfl⟩ | exact Or.inr ⟨_, rfl⟩) dX2_fresh_27 ⟨_, rfl, hw⟩
  · have hw := hw.2 c
    refine g_aload_0 16 h.1 dX2_fresh_16 ?_
    refine g_iconstv 17 _ ic_3 h.1 dX2_fresh_17 ?_
    refine g_aload_0 18 h.1 dX2_fresh_18 ?_
    refine xg_X2_61_2 19 h dX2_fresh_19 ?_
    refine xcV_K_2 22 h (xm_X2_wrong h.2.2.1 hw) (by decide) (Nat.le_of_eq (Nat.zero_add _)) (Nat.le_of_eq (Nat.zero_add _)) q606 qs8 (fun H hI => x_recvK h rfl rfl hI) q604 (Nat.le_of_ble_eq_true rfl) dX2_fresh_22 (fun r15 ν14 hw => ?_)
    obtain ⟨f16, hw⟩ := hw
    subst f16
    exact x_athrow 25 h dX2_fresh_25 (hO _ _ _ _ _ hw)
theorem xm_X2_fresh {l : Launch} {S : Adr} {A : Nat → Prop} (hD : FD xT S xcl A) {ν : XN} {k n : Nat} {Q : Nat → XN → Prop} {E : XN → Prop} (hw : xw_X2_fresh ν k n Q E) : xMetX l S A 11 k n 0 yX2_fresh [.ref (S.2.1 1)] ν (pA Q) E :=
  x_startX (by decide) hD ⟨⟨by decide, by decide, by show _ = some 0; decide +kernel⟩, by decide, q801, q176⟩ (Nat.le_of_ble_eq_true rfl) (fun κ Z h hT hN hR hO => xt_X2_fresh h hT hN hR hO hw)
def xw_X2_person_23 (x1 : Int32) (y0 : Int32) (ν : XN) (k n : Nat) (Q : XN → Prop) (E : XN → Prop) : Prop :=
  (xw_X2_most y0 x1 ν (fun ν9 => (∃ k12 n13 k14 n15, k12 + k14 ≤ k ∧ n13 + n15 ≤ n ∧ xw_X2_fresh ν9 k12 n13 (fun r11 ν10 => (∀ b18, fR ν10.1 900 2 = .ref b18 → (∃ k21 n22 k23 n24, k21 + k23 ≤ k14 ∧ n22 + n24 ≤ n15 ∧ xw_X2_word b18 ν10 k21 n22 (fun ν20 => (xw_X2_cell ν20 (fun r28 ν27 => (∃ b29, fR ν27.1 1 6 = .ref b29 ∧ (rc ν27.2 b29 = 2 ∧ (xw_X1_isTaken b29 r28 ν27 (fun r32 ν31 => ((r32 = 0 → (∃ b34, fR ν31.1 1 6 = .ref b34 ∧ (rc ν31.2 b34 = 2 ∧ (∃ k41 n42, k41 + 1 ≤ k23 ∧ n42 + 4 ≤ n24 ∧ ∀ q37, rk ν31.2 q37 = 0 → ∀ ν39, ν39 = (ν31.1, tN ν31.2 q37 9 0) → (∀ b45, fR ν39.1 900 3 = .ref b45 → (∃ k49 n50 k51 n52, k49 + k51 ≤ k41 ∧ n50 + n52 ≤ n42 ∧ xw_X2_number_2 b45 (0 : Int32) (9 : Int32) ν39 k49 n50 (fun r48 ν47 => (xw_X8_init q37 r11 r28 r48 ν47 (fun ν55 => (∃ b56, (rO ν31.2 b34 6) = some b56 ∧ (rc ν55.2 b56 = 7 ∧ (∃ k61 n62 k63 n64, k61 + k63 ≤ k51 ∧ n62 + n64 ≤ n52 ∧ xw_J2_add b56 q37 ν55 k61 n62 (fun r59 ν58 => Q ν58))))))) E)))))) ∧ (¬ r32 = 0 → (xw_X2_wrong (2 : Int32) (fI ν31.1 1 3) ν31 (fun r68 ν67 => (r68 = 2 ∧ E ν67)))))))))) E)) E))) E)) E)
theorem xt_X2_person_23 {κ : Cx} {S : Adr} {A : Nat → Prop} {mc ms : Nat} {Z : State → Prop} {Q : XN → Prop} (h : XCx κ cX2_person RX2 S A 12 mc ms) (hT : (cxT κ).sig.returnType = none) (hN : (cxT κ).name = "person") (hR : xRet κ S A mc ms Z cX2_person (pV Q)) {E : XN → Prop} (hO : xOut κ S A mc ms Z E) {x1 : Int32} {y0 : Int32} {ν : XN} {k n : Nat} (hw : xw_X2_person_23 x1 y0 ν k n Q E) : XG κ S A mc ms Z 23 (ν, k, n) [some (.ref (S.2.1 1)), some (.int x1), none, none] [.int y0, .ref (S.2.1 1)] := by
  unfold xw_X2_person_23 at hw
  refine g_iload_1 23 h.1 dX2_person_23 ?_
  refine xcX_V_2 24 h (xm_X2_most h.2.2.1 hw) (by decide) (Nat.le_of_eq (Nat.zero_add _)) (Nat.le_of_eq (Nat.zero_add _)) q718 qs13 (fun H hI => x_recvK h rfl rfl hI) q716 (Nat.le_of_ble_eq_true rfl) dX2_person_24 (fun ν9 hw => ?_) (fun _ he => hO _ _ _ _ _ he)
  refine g_aload_0 27 h.1 dX2_person_27 ?_
  obtain ⟨k12, n13, k14, n15, a16, a17, hw⟩ := hw
  refine xcX_A_0 28 h (xm_X2_fresh h.2.2.1 hw) (by decide) a16 a17 q800 qs16 (fun H hI => x_recvK h rfl rfl hI) q798 (Nat.le_of_ble_eq_true rfl) dX2_person_28 (fun r11 ν10 hw => ?_) (fun _ he => hO _ _ _ _ _ he)
  refine g_astore_2 31 h.1 rfl dX2_person_31 ?_
  refine g_aload_0 32 h.1 dX2_person_32 ?_
  refine x_ldcS 33 2 rfl h dX2_person_33 (fun b18 e19 => ?_)
  have hw := hw b18 e19
  obtain ⟨k21, n22, k23, n24, a25, a26, hw⟩ := hw
  refine xcX_V_1 35 h (xm_X2_word h.2.2.1 hw) (by decide) a25 a26 q587 qs4 (fun H hI => x_recvK h rfl rfl hI) q585 (Nat.le_of_ble_eq_true rfl) dX2_person_35 (fun ν20 hw => ?_) (fun _ he => hO _ _ _ _ _ he)
  refine g_aload_0 38 h.1 dX2_person_38 ?_
  refine xcX_I_0 39 h (xm_X2_cell h.2.2.1 hw) (by decide) (Nat.le_of_eq (Nat.zero_add _)) (Nat.le_of_eq (Nat.zero_add _)) q784 qs15 (fun H hI => x_recvK h rfl rfl hI) q782 (Nat.le_of_ble_eq_true rfl) dX2_person_39 (fun r28 ν27 hw => ?_) (fun _ he => hO _ _ _ _ _ he)
  refine g_istore_3 42 h.1 rfl dX2_person_42 ?_
  refine g_aload_0 43 h.1 dX2_person_43 ?_
  refine xg_X2_103_2 44 h dX2_person_44 ?_
  obtain ⟨b29, e30, hw⟩ := hw
  rw [e30]
  refine g_iload_3 47 h.1 dX2_person_47 ?_
  obtain ⟨f33, hw⟩ := hw
  refine xcV_I_1 48 h (xm_X1_isTaken h.2.2.1 hw) (by decide) (Nat.le_of_eq (Nat.zero_add _)) (Nat.le_of_eq (Nat.zero_add _)) q940 q941 (fun H hI => x_recvR h f33 rfl hI) q939 (Nat.le_of_ble_eq_true rfl) dX2_person_48 (fun r32 ν31 hw => ?_)
  refine g_if_eq 51 64 h.1 dX2_person_51 (by decide) (fun c => ?_) (fun c => ?_)
  · have hw := hw.1 c
    refine g_aload_0 64 h.1 dX2_person_64 ?_
    refine xg_X2_103_2 65 h dX2_person_65 ?_
    obtain ⟨b34, e35, hw⟩ := hw
    rw [e35]
    obtain ⟨f36, hw⟩ := hw
    refine xg_X2_154_1 68 f36 h dX2_person_68 ?_
    obtain ⟨k41, n42, a43, a44, hw⟩ := hw
    refine xn_X2_172 71 a43 a44 h dX2_person_71 (fun q37 e38 ν39 e40 => ?_)
    have hw := hw q37 e38 ν39 e40
    refine g_dup 74 rfl h.1 dX2_person_74 ?_
    refine g_aload_2 75 h.1 dX2_person_75 ?_
    refine g_iload_3 76 h.1 dX2_person_76 ?_
    refine g_aload_0 77 h.1 dX2_person_77 ?_
    refine x_ldcS 78 3 rfl h dX2_person_78 (fun b45 e46 => ?_)
    have hw := hw b45 e46
    refine g_iconstv 80 _ ic_0 h.1 dX2_person_80 ?_
    refine g_bipush 81 _ bp_9 h.1 dX2_person_81 ?_
    obtain ⟨k49, n50, k51, n52, a53, a54, hw⟩ := hw
    refine xcX_I_3 83 h (xm_X2_number_2 h.2.2.1 hw) (by decide) a53 a54 q710 qs11 (fun H hI => x_recvK h rfl rfl hI) q708 (by simp only [List.map_cons, List.map_nil, cat_rf]; exact Nat.le_of_ble_eq_true rfl) dX2_person_83 (fun r48 ν47 hw => ?_) (fun _ he => hO _ _ _ _ _ he)
    refine xcI_V_3 86 h (xm_X8_init h.2.2.1 hw) (by decide) (Nat.le_of_eq (Nat.zero_add _)) (Nat.le_of_eq (Nat.zero_add _)) rfl q952 q951 (by simp only [List.map_cons, List.map_nil, cat_rf]; exact Nat.le_of_ble_eq_true rfl) dX2_person_86 (fun ν55 hw => ?_)
    obtain ⟨b56, e57, hw⟩ := hw
    rw [e57]
    obtain ⟨f60, hw⟩ := hw
    obtain ⟨k61, n62, k63, n64, a65, a66, hw⟩ := hw
    refine xcF_I_1 89 h h.2.1.2.2.1.2.2.1 (xm_J2_add h.2.2.1 hw) (by decide) a65 a66 ⟨by decide, by decide, by show _ = some 1; decide +kernel⟩ q864 q862 f60 q859 (Nat.le_of_ble_eq_true rfl) dX2_person_89 (fun r59 ν58 hw => ?_)
    refine g_pop 94 rfl h.1 dX2_person_94 ?_
    exact hR.2.2.1 95 _ _ _ _ hT dX2_person_95 ⟨rfl, hw⟩
  · have hw := hw.2 c
    refine g_aload_0 54 h.1 dX2_person_54 ?_
    refine g_iconstv 55 _ ic_2 h.1 dX2_person_55 ?_
    refine g_aload_0 56 h.1 dX2_person_56 ?_
    refine xg_X2_61_2 57 h dX2_person_57 ?_
    refine xcV_K_2 60 h (xm_X2_wrong h.2.2.1 hw) (by decide) (Nat.le_of_eq (Nat.zero_add _)) (Nat.le_of_eq (Nat.zero_add _)) q606 qs8 (fun H hI => x_recvK h rfl rfl hI) q604 (Nat.le_of_ble_eq_true rfl) dX2_person_60 (fun r68 ν67 hw => ?_)
    obtain ⟨f69, hw⟩ := hw
    subst f69
    exact x_athrow 63 h dX2_person_63 (hO _ _ _ _ _ hw)
def xw_X2_person (x1 : Int32) (ν : XN) (k n : Nat) (Q : XN → Prop) (E : XN → Prop) : Prop :=
  (∃ b1, fR ν.1 1 6 = .ref b1 ∧ (rc ν.2 b1 = 2 ∧ (∃ b4, (rO ν.2 b1 6) = some b4 ∧ (rc ν.2 b4 = 7 ∧ (xw_J2_size b4 ν (fun r7 ν6 => ((¬ r7 = (7 : Int32) → xw_X2_person_23 x1 (0 : Int32) ν6 k n Q E) ∧ (r7 = (7 : Int32) → xw_X2_person_23 x1 (1 : Int32) ν6 k n Q E))))))))
theorem xt_X2_person {κ : Cx} {S : Adr} {A : Nat → Prop} {mc ms : Nat} {Z : State → Prop} {Q : XN → Prop} (h : XCx κ cX2_person RX2 S A 12 mc ms) (hT : (cxT κ).sig.returnType = none) (hN : (cxT κ).name = "person") (hR : xRet κ S A mc ms Z cX2_person (pV Q)) {E : XN → Prop} (hO : xOut κ S A mc ms Z E) {x1 : Int32} {ν : XN} {k n : Nat} (hw : xw_X2_person x1 ν k n Q E) : XG κ S A mc ms Z 0 (ν, k, n) [some (.ref (S.2.1 1)), some (.int x1), none, none] [] := by
  unfold xw_X2_person at hw
  refine g_aload_0 0 h.1 dX2_person_0 ?_
  refine g_aload_0 1 h.1 dX2_person_1 ?_
  refine xg_X2_103_2 2 h dX2_person_2 ?_
  obtain ⟨b1, e2, hw⟩ := hw
  rw [e2]
  obtain ⟨f3, hw⟩ := hw
  refine xg_X2_154_1 5 f3 h dX2_person_5 ?_
  obtain ⟨b4, e5, hw⟩ := hw
  rw [e5]
  obtain ⟨f8, hw⟩ := hw
  refine xcF_I_0 8 h h.2.1.2.2.1.1 (xm_J2_size h.2.2.1 hw) (by decide) (Nat.le_of_eq (Nat.zero_add _)) (Nat.le_of_eq (Nat.zero_add _)) ⟨by decide, by decide, by show _ = some 0; decide +kernel⟩ q793 q791 f8 q787 (Nat.le_of_ble_eq_true rfl) dX2_person_8 (fun r7 ν6 hw => ?_)
  refine g_bipush 13 _ bp_7 h.1 dX2_person_13 ?_
  refine g_icmp_ne 15 22 h.1 dX2_person_15 (by decide) (fun c => ?_) (fun c => ?_)
  · have hw := hw.1 c
    refine g_iconstv 22 _ ic_0 h.1 dX2_person_22 ?_
    exact g_le (xt_X2_person_23 h hT hN hR hO hw) ⟨rfl, rfl, trivial⟩
  · have hw := hw.2 c
    refine g_iconstv 18 _ ic_1 h.1 dX2_person_18 ?_
    refine g_goto 19 23 h.1 dX2_person_19 (by decide) ?_
    exact g_le (xt_X2_person_23 h hT hN hR hO hw) ⟨rfl, rfl, trivial⟩
theorem xm_X2_person {l : Launch} {S : Adr} {A : Nat → Prop} (hD : FD xT S xcl A) {x1 : Int32} {ν : XN} {k n : Nat} {Q : XN → Prop} {E : XN → Prop} (hw : xw_X2_person x1 ν k n Q E) : xMetX l S A 12 k n 1 yX2_person [.ref (S.2.1 1), .int x1] ν (pV Q) E :=
  x_startX (by decide) hD ⟨⟨by decide, by decide, by show _ = some 1; decide +kernel⟩, by decide, q937, q176⟩ (Nat.le_of_ble_eq_true rfl) (fun κ Z h hT hN hR hO => xt_X2_person h hT hN hR hO hw)
def xw_X2_known (x1 : Nat) (ν : XN) (k n : Nat) (Q : Int32 → XN → Prop) (E : XN → Prop) : Prop :=
  (∃ k3 n4 k5 n6, k3 + k5 ≤ k ∧ n4 + n6 ≤ n ∧ xw_X2_name ν k3 n4 (fun r2 ν1 => (xw_X7_find x1 r2 ν1 (fun r10 ν9 => ((¬ r10 = (-1 : Int32) → Q r10 ν9) ∧ (r10 = (-1 : Int32) → (xw_X2_wrong (3 : Int32) (fI ν9.1 1 3) ν9 (fun r12 ν11 => (r12 = 2 ∧ E ν11)))))))) E)
theorem xt_X2_known {κ : Cx} {S : Adr} {A : Nat → Prop} {mc ms : Nat} {Z : State → Prop} {Q : Int32 → XN → Prop} (h : XCx κ cX2_known RX2 S A 11 mc ms) (hT : (cxT κ).sig.returnType = some .int) (hN : (cxT κ).name = "known") (hR : xRet κ S A mc ms Z cX2_known (pI Q)) {E : XN → Prop} (hO : xOut κ S A mc ms Z E) {x1 : Nat} {ν : XN} {k n : Nat} (hw : xw_X2_known x1 ν k n Q E) : XG κ S A mc ms Z 0 (ν, k, n) [some (.ref (S.2.1 1)), some (.ref x1), none] [] := by
  unfold xw_X2_known at hw
  refine g_aload_1 0 h.1 dX2_known_0 ?_
  refine g_aload_0 1 h.1 dX2_known_1 ?_
  obtain ⟨k3, n4, k5, n6, a7, a8, hw⟩ := hw
  refine xcX_A_0 2 h (xm_X2_name h.2.2.1 hw) (by decide) a7 a8 q804 qs17 (fun H hI => x_recvK h rfl rfl hI) q802 (Nat.le_of_ble_eq_true rfl) dX2_known_2 (fun r2 ν1 hw => ?_) (fun _ he => hO _ _ _ _ _ he)
  refine xcS_I_2 5 h (xm_X7_find h.2.2.1 hw) (by decide) (Nat.le_of_eq (Nat.zero_add _)) (Nat.le_of_eq (Nat.zero_add _)) q825 q978 (Nat.le_of_ble_eq_true rfl) dX2_known_5 (fun r10 ν9 hw => ?_)
  refine g_istore_2 8 h.1 rfl dX2_known_8 ?_
  refine g_iload_2 9 h.1 dX2_known_9 ?_
  refine g_iconstv 10 _ ic_m1 h.1 dX2_known_10 ?_
  refine g_icmp_ne 11 24 h.1 dX2_known_11 (by decide) (fun c => ?_) (fun c => ?_)
  · have hw := hw.1 c
    refine g_iload_2 24 h.1 dX2_known_24 ?_
    exact hR.1 25 _ _ _ _ _ _ hT rfl dX2_known_25 ⟨_, rfl, hw⟩
  · have hw := hw.2 c
    refine g_aload_0 14 h.1 dX2_known_14 ?_
    refine g_iconstv 15 _ ic_3 h.1 dX2_known_15 ?_
    refine g_aload_0 16 h.1 dX2_known_16 ?_
    refine xg_X2_61_2 17 h dX2_known_17 ?_
    refine xcV_K_2 20 h (xm_X2_wrong h.2.2.1 hw) (by decide) (Nat.le_of_eq (Nat.zero_add _)) (Nat.le_of_eq (Nat.zero_add _)) q606 qs8 (fun H hI => x_recvK h rfl rfl hI) q604 (Nat.le_of_ble_eq_true rfl) dX2_known_20 (fun r12 ν11 hw => ?_)
    obtain ⟨f13, hw⟩ := hw
    subst f13
    exact x_athrow 23 h dX2_known_23 (hO _ _ _ _ _ hw)
theorem xm_X2_known {l : Launch} {S : Adr} {A : Nat → Prop} (hD : FD xT S xcl A) {x1 : Nat} {ν : XN} {k n : Nat} {Q : Int32 → XN → Prop} {E : XN → Prop} (hw : xw_X2_known x1 ν k n Q E) : xMetX l S A 11 k n 1 yX2_known [.ref (S.2.1 1), .ref x1] ν (pI Q) E :=
  x_startX (by decide) hD ⟨⟨by decide, by decide, by show _ = some 1; decide +kernel⟩, by decide, q977, q176⟩ (Nat.le_of_ble_eq_true rfl) (fun κ Z h hT hN hR hO => xt_X2_known h hT hN hR hO hw)
def xw_X2_knows (ν : XN) (k n : Nat) (Q : XN → Prop) (E : XN → Prop) : Prop :=
  (∃ b1, fR ν.1 1 6 = .ref b1 ∧ (rc ν.2 b1 = 2 ∧ (∃ b4, fR ν.1 1 6 = .ref b4 ∧ (rc ν.2 b4 = 2 ∧ (∃ b7, (rO ν.2 b4 6) = some b7 ∧ (∃ k11 n12 k13 n14, k11 + k13 ≤ k ∧ n12 + n14 ≤ n ∧ xw_X2_known b7 ν k11 n12 (fun r10 ν9 => (∃ b17, (rO ν.2 b1 6) = some b17 ∧ (rc ν9.2 b17 = 7 ∧ (xw_J2_get b17 r10 ν9 (fun r20 ν19 => (∃ b22, r20 = some b22 ∧ ((rc ν19.2 b22 = 9) ∧ (∀ b25, fR ν19.1 900 4 = .ref b25 → (∃ k28 n29 k30 n31, k28 + k30 ≤ k13 ∧ n29 + n31 ≤ n14 ∧ xw_X2_word b25 ν19 k28 n29 (fun ν27 => (∃ b34, fR ν27.1 1 6 = .ref b34 ∧ (rc ν27.2 b34 = 2 ∧ (∃ b37, (rO ν27.2 b34 5) = some b37 ∧ (∃ k41 n42 k43 n44, k41 + k43 ≤ k30 ∧ n42 + n44 ≤ n31 ∧ xw_X2_known b37 ν27 k41 n42 (fun r40 ν39 => (rc ν39.2 b22 = 9 ∧ (xw_X0_has (rI ν39.2 b22 3) r40 ν39 (fun r49 ν48 => ((r49 = 0 → (rc ν48.2 b22 = 9 ∧ (rk ν48.2 b22 = 9 ∧ (∀ ν51, ν51 = (ν48.1, tI ν48.2 b22 3 ((rI ν48.2 b22 3) ||| ((1 : Int32) <<< (r40 &&& 31)))) → Q ν51)))) ∧ (¬ r49 = 0 → (xw_X2_wrong (3 : Int32) (fI ν48.1 1 3) ν48 (fun r55 ν54 => (r55 = 2 ∧ E ν54))))))))) E))))) E))))))))) E))))))
theorem xt_X2_knows {κ : Cx} {S : Adr} {A : Nat → Prop} {mc ms : Nat} {Z : State → Prop} {Q : XN → Prop} (h : XCx κ cX2_knows RX2 S A 12 mc ms) (hT : (cxT κ).sig.returnType = none) (hN : (cxT κ).name = "knows") (hR : xRet κ S A mc ms Z cX2_knows (pV Q)) {E : XN → Prop} (hO : xOut κ S A mc ms Z E) {ν : XN} {k n : Nat} (hw : xw_X2_knows ν k n Q E) : XG κ S A mc ms Z 0 (ν, k, n) [some (.ref (S.2.1 1)), none, none] [] := by
  unfold xw_X2_knows at hw
  refine g_aload_0 0 h.1 dX2_knows_0 ?_
  refine xg_X2_103_2 1 h dX2_knows_1 ?_
  obtain ⟨b1, e2, hw⟩ := hw
  rw [e2]
  obtain ⟨f3, hw⟩ := hw
  refine xg_X2_154_1 4 f3 h dX2_knows_4 ?_
  refine g_aload_0 7 h.1 dX2_knows_7 ?_
  refine g_aload_0 8 h.1 dX2_knows_8 ?_
  refine xg_X2_103_2 9 h dX2_knows_9 ?_
  obtain ⟨b4, e5, hw⟩ := hw
  rw [e5]
  obtain ⟨f6, hw⟩ := hw
  refine xg_X2_154_1 12 f6 h dX2_knows_12 ?_
  obtain ⟨b7, e8, hw⟩ := hw
  rw [e8]
  obtain ⟨k11, n12, k13, n14, a15, a16, hw⟩ := hw
  refine xcX_I_1 15 h (xm_X2_known h.2.2.1 hw) (by decide) a15 a16 q976 qs23 (fun H hI => x_recvK h rfl rfl hI) q974 (by simp only [List.map_cons, List.map_nil, cat_rf]; exact Nat.le_of_ble_eq_true rfl) dX2_knows_15 (fun r10 ν9 hw => ?_) (fun _ he => hO _ _ _ _ _ he)
  obtain ⟨b17, e18, hw⟩ := hw
  rw [e18]
  obtain ⟨f21, hw⟩ := hw
  refine xcF_O_1 18 h h.2.1.2.2.1.2.1 (xm_J2_get h.2.2.1 hw) (by decide) (Nat.le_of_eq (Nat.zero_add _)) (Nat.le_of_eq (Nat.zero_add _)) ⟨by decide, by decide, by show _ = some 1; decide +kernel⟩ q835 q833 f21 q980 (Nat.le_of_ble_eq_true rfl) dX2_knows_18 (fun r20 ν19 hw => ?_)
  obtain ⟨b22, e23, hw⟩ := hw
  rw [e23]
  obtain ⟨f24, hw⟩ := hw
  refine xcs_X2_172 23 f24 h dX2_knows_23 ?_
  refine g_astore_1 26 h.1 rfl dX2_knows_26 ?_
  refine g_aload_0 27 h.1 dX2_knows_27 ?_
  refine x_ldcS 28 4 rfl h dX2_knows_28 (fun b25 e26 => ?_)
  have hw := hw b25 e26
  obtain ⟨k28, n29, k30, n31, a32, a33, hw⟩ := hw
  refine xcX_V_1 30 h (xm_X2_word h.2.2.1 hw) (by decide) a32 a33 q587 qs4 (fun H hI => x_recvK h rfl rfl hI) q585 (Nat.le_of_ble_eq_true rfl) dX2_knows_30 (fun ν27 hw => ?_) (fun _ he => hO _ _ _ _ _ he)
  refine g_aload_0 33 h.1 dX2_knows_33 ?_
  refine g_aload_0 34 h.1 dX2_knows_34 ?_
  refine xg_X2_103_2 35 h dX2_knows_35 ?_
  obtain ⟨b34, e35, hw⟩ := hw
  rw [e35]
  obtain ⟨f36, hw⟩ := hw
  refine xg_X2_192_1 38 f36 h dX2_knows_38 ?_
  obtain ⟨b37, e38, hw⟩ := hw
  rw [e38]
  obtain ⟨k41, n42, k43, n44, a45, a46, hw⟩ := hw
  refine xcX_I_1 41 h (xm_X2_known h.2.2.1 hw) (by decide) a45 a46 q976 qs23 (fun H hI => x_recvK h rfl rfl hI) q974 (Nat.le_of_ble_eq_true rfl) dX2_knows_41 (fun r40 ν39 hw => ?_) (fun _ he => hO _ _ _ _ _ he)
  refine g_istore_2 44 h.1 rfl dX2_knows_44 ?_
  refine g_aload_1 45 h.1 dX2_knows_45 ?_
  obtain ⟨f47, hw⟩ := hw
  refine xg_X2_195_8 46 f47 h dX2_knows_46 ?_
  refine g_iload_2 49 h.1 dX2_knows_49 ?_
  refine xcSN_I_2 50 h (xm_X0_has h.2.2.1 hw) (by decide) (Nat.le_of_eq (Nat.zero_add _)) (Nat.le_of_eq (Nat.zero_add _)) q983 q982 (Nat.le_of_ble_eq_true rfl) dX2_knows_50 (fun r49 ν48 hw => ?_)
  refine g_if_eq 53 66 h.1 dX2_knows_53 (by decide) (fun c => ?_) (fun c => ?_)
  · have hw := hw.1 c
    refine g_aload_1 66 h.1 dX2_knows_66 ?_
    refine g_dup 67 rfl h.1 dX2_knows_67 ?_
    obtain ⟨f50, hw⟩ := hw
    refine xg_X2_195_8 68 f50 h dX2_knows_68 ?_
    refine g_iconstv 71 _ ic_1 h.1 dX2_knows_71 ?_
    refine g_iload_2 72 h.1 dX2_knows_72 ?_
    refine g_ishl 73 h.1 dX2_knows_73 ?_
    refine g_ior 74 h.1 dX2_knows_74 ?_
    obtain ⟨f53, hw⟩ := hw
    refine xp_X2_195_8 75 f53 h dX2_knows_75 (fun ν51 e52 => ?_)
    have hw := hw ν51 e52
    exact hR.2.2.1 78 _ _ _ _ hT dX2_knows_78 ⟨rfl, hw⟩
  · have hw := hw.2 c
    refine g_aload_0 56 h.1 dX2_knows_56 ?_
    refine g_iconstv 57 _ ic_3 h.1 dX2_knows_57 ?_
    refine g_aload_0 58 h.1 dX2_knows_58 ?_
    refine xg_X2_61_2 59 h dX2_knows_59 ?_
    refine xcV_K_2 62 h (xm_X2_wrong h.2.2.1 hw) (by decide) (Nat.le_of_eq (Nat.zero_add _)) (Nat.le_of_eq (Nat.zero_add _)) q606 qs8 (fun H hI => x_recvK h rfl rfl hI) q604 (Nat.le_of_ble_eq_true rfl) dX2_knows_62 (fun r55 ν54 hw => ?_)
    obtain ⟨f56, hw⟩ := hw
    subst f56
    exact x_athrow 65 h dX2_knows_65 (hO _ _ _ _ _ hw)
theorem xm_X2_knows {l : Launch} {S : Adr} {A : Nat → Prop} (hD : FD xT S xcl A) {ν : XN} {k n : Nat} {Q : XN → Prop} {E : XN → Prop} (hw : xw_X2_knows ν k n Q E) : xMetX l S A 12 k n 0 yX2_knows [.ref (S.2.1 1)] ν (pV Q) E :=
  x_startX (by decide) hD ⟨⟨by decide, by decide, by show _ = some 0; decide +kernel⟩, by decide, q973, q176⟩ (Nat.le_of_ble_eq_true rfl) (fun κ Z h hT hN hR hO => xt_X2_knows h hT hN hR hO hw)
def xw_X2_asking_23 (x1 : Int32) (y0 : Int32) (ν : XN) (k n : Nat) (Q : XN → Prop) (E : XN → Prop) : Prop :=
  (xw_X2_most y0 x1 ν (fun ν9 => (∃ b10, fR ν9.1 1 6 = .ref b10 ∧ (rc ν9.2 b10 = 2 ∧ (∃ b13, (rO ν9.2 b10 6) = some b13 ∧ (∃ k17 n18 k19 n20, k17 + k19 ≤ k ∧ n18 + n20 ≤ n ∧ xw_X2_known b13 ν9 k17 n18 (fun r16 ν15 => (∀ b23, fR ν15.1 900 4 = .ref b23 → (∃ k26 n27 k28 n29, k26 + k28 ≤ k19 ∧ n27 + n29 ≤ n20 ∧ xw_X2_word b23 ν15 k26 n27 (fun ν25 => (∃ b32, fR ν25.1 1 6 = .ref b32 ∧ (rc ν25.2 b32 = 2 ∧ (∃ k39 n40, k39 + 1 ≤ k28 ∧ n40 + 2 ≤ n29 ∧ ∀ q35, rk ν25.2 q35 = 0 → ∀ ν37, ν37 = (ν25.1, tN ν25.2 q35 10 0) → (∃ b43, fR ν37.1 1 6 = .ref b43 ∧ (rc ν37.2 b43 = 2 ∧ (∃ b46, (rO ν37.2 b43 5) = some b46 ∧ (∃ k50 n51 k52 n53, k50 + k52 ≤ k39 ∧ n51 + n53 ≤ n40 ∧ xw_X2_known b46 ν37 k50 n51 (fun r49 ν48 => (xw_X9_init q35 r16 r49 ν48 (fun ν56 => (∃ b57, (rO ν25.2 b32 7) = some b57 ∧ (rc ν56.2 b57 = 7 ∧ (∃ k62 n63 k64 n65, k62 + k64 ≤ k52 ∧ n63 + n65 ≤ n53 ∧ xw_J2_add b57 q35 ν56 k62 n63 (fun r60 ν59 => Q ν59))))))) E)))))))) E))) E))))) E)
theorem xt_X2_asking_23 {κ : Cx} {S : Adr} {A : Nat → Prop} {mc ms : Nat} {Z : State → Prop} {Q : XN → Prop} (h : XCx κ cX2_asking RX2 S A 12 mc ms) (hT : (cxT κ).sig.returnType = none) (hN : (cxT κ).name = "asking") (hR : xRet κ S A mc ms Z cX2_asking (pV Q)) {E : XN → Prop} (hO : xOut κ S A mc ms Z E) {x1 : Int32} {y0 : Int32} {ν : XN} {k n : Nat} (hw : xw_X2_asking_23 x1 y0 ν k n Q E) : XG κ S A mc ms Z 23 (ν, k, n) [some (.ref (S.2.1 1)), some (.int x1), none] [.int y0, .ref (S.2.1 1)] := by
  unfold xw_X2_asking_23 at hw
  refine g_iload_1 23 h.1 dX2_asking_23 ?_
  refine xcX_V_2 24 h (xm_X2_most h.2.2.1 hw) (by decide) (Nat.le_of_eq (Nat.zero_add _)) (Nat.le_of_eq (Nat.zero_add _)) q718 qs13 (fun H hI => x_recvK h rfl rfl hI) q716 (Nat.le_of_ble_eq_true rfl) dX2_asking_24 (fun ν9 hw => ?_) (fun _ he => hO _ _ _ _ _ he)
  refine g_aload_0 27 h.1 dX2_asking_27 ?_
  refine g_aload_0 28 h.1 dX2_asking_28 ?_
  refine xg_X2_103_2 29 h dX2_asking_29 ?_
  obtain ⟨b10, e11, hw⟩ := hw
  rw [e11]
  obtain ⟨f12, hw⟩ := hw
  refine xg_X2_154_1 32 f12 h dX2_asking_32 ?_
  obtain ⟨b13, e14, hw⟩ := hw
  rw [e14]
  obtain ⟨k17, n18, k19, n20, a21, a22, hw⟩ := hw
  refine xcX_I_1 35 h (xm_X2_known h.2.2.1 hw) (by decide) a21 a22 q976 qs23 (fun H hI => x_recvK h rfl rfl hI) q974 (Nat.le_of_ble_eq_true rfl) dX2_asking_35 (fun r16 ν15 hw => ?_) (fun _ he => hO _ _ _ _ _ he)
  refine g_istore_2 38 h.1 rfl dX2_asking_38 ?_
  refine g_aload_0 39 h.1 dX2_asking_39 ?_
  refine x_ldcS 40 4 rfl h dX2_asking_40 (fun b23 e24 => ?_)
  have hw := hw b23 e24
  obtain ⟨k26, n27, k28, n29, a30, a31, hw⟩ := hw
  refine xcX_V_1 42 h (xm_X2_word h.2.2.1 hw) (by decide) a30 a31 q587 qs4 (fun H hI => x_recvK h rfl rfl hI) q585 (Nat.le_of_ble_eq_true rfl) dX2_asking_42 (fun ν25 hw => ?_) (fun _ he => hO _ _ _ _ _ he)
  refine g_aload_0 45 h.1 dX2_asking_45 ?_
  refine xg_X2_103_2 46 h dX2_asking_46 ?_
  obtain ⟨b32, e33, hw⟩ := hw
  rw [e33]
  obtain ⟨f34, hw⟩ := hw
  refine xg_X2_202_1 49 f34 h dX2_asking_49 ?_
  obtain ⟨k39, n40, a41, a42, hw⟩ := hw
  refine xn_X2_205 52 a41 a42 h dX2_asking_52 (fun q35 e36 ν37 e38 => ?_)
  have hw := hw q35 e36 ν37 e38
  refine g_dup 55 rfl h.1 dX2_asking_55 ?_
  refine g_iload_2 56 h.1 dX2_asking_56 ?_
  refine g_aload_0 57 h.1 dX2_asking_57 ?_
  refine g_aload_0 58 h.1 dX2_asking_58 ?_
  refine xg_X2_103_2 59 h dX2_asking_59 ?_
  obtain ⟨b43, e44, hw⟩ := hw
  rw [e44]
  obtain ⟨f45, hw⟩ := hw
  refine xg_X2_192_1 62 f45 h dX2_asking_62 ?_
  obtain ⟨b46, e47, hw⟩ := hw
  rw [e47]
  obtain ⟨k50, n51, k52, n53, a54, a55, hw⟩ := hw
  refine xcX_I_1 65 h (xm_X2_known h.2.2.1 hw) (by decide) a54 a55 q976 qs23 (fun H hI => x_recvK h rfl rfl hI) q974 (by simp only [List.map_cons, List.map_nil, cat_rf]; exact Nat.le_of_ble_eq_true rfl) dX2_asking_65 (fun r49 ν48 hw => ?_) (fun _ he => hO _ _ _ _ _ he)
  refine xcI_V_2 68 h (xm_X9_init h.2.2.1 hw) (by decide) (Nat.le_of_eq (Nat.zero_add _)) (Nat.le_of_eq (Nat.zero_add _)) rfl q992 q991 (by simp only [List.map_cons, List.map_nil, cat_rf]; exact Nat.le_of_ble_eq_true rfl) dX2_asking_68 (fun ν56 hw => ?_)
  obtain ⟨b57, e58, hw⟩ := hw
  rw [e58]
  obtain ⟨f61, hw⟩ := hw
  obtain ⟨k62, n63, k64, n65, a66, a67, hw⟩ := hw
  refine xcF_I_1 71 h h.2.1.2.2.1.2.2.1 (xm_J2_add h.2.2.1 hw) (by decide) a66 a67 ⟨by decide, by decide, by show _ = some 1; decide +kernel⟩ q864 q862 f61 q859 (Nat.le_of_ble_eq_true rfl) dX2_asking_71 (fun r60 ν59 hw => ?_)
  refine g_pop 76 rfl h.1 dX2_asking_76 ?_
  exact hR.2.2.1 77 _ _ _ _ hT dX2_asking_77 ⟨rfl, hw⟩
def xw_X2_asking (x1 : Int32) (ν : XN) (k n : Nat) (Q : XN → Prop) (E : XN → Prop) : Prop :=
  (∃ b1, fR ν.1 1 6 = .ref b1 ∧ (rc ν.2 b1 = 2 ∧ (∃ b4, (rO ν.2 b1 7) = some b4 ∧ (rc ν.2 b4 = 7 ∧ (xw_J2_size b4 ν (fun r7 ν6 => ((¬ r7 = (12 : Int32) → xw_X2_asking_23 x1 (0 : Int32) ν6 k n Q E) ∧ (r7 = (12 : Int32) → xw_X2_asking_23 x1 (1 : Int32) ν6 k n Q E))))))))
theorem xt_X2_asking {κ : Cx} {S : Adr} {A : Nat → Prop} {mc ms : Nat} {Z : State → Prop} {Q : XN → Prop} (h : XCx κ cX2_asking RX2 S A 12 mc ms) (hT : (cxT κ).sig.returnType = none) (hN : (cxT κ).name = "asking") (hR : xRet κ S A mc ms Z cX2_asking (pV Q)) {E : XN → Prop} (hO : xOut κ S A mc ms Z E) {x1 : Int32} {ν : XN} {k n : Nat} (hw : xw_X2_asking x1 ν k n Q E) : XG κ S A mc ms Z 0 (ν, k, n) [some (.ref (S.2.1 1)), some (.int x1), none] [] := by
  unfold xw_X2_asking at hw
  refine g_aload_0 0 h.1 dX2_asking_0 ?_
  refine g_aload_0 1 h.1 dX2_asking_1 ?_
  refine xg_X2_103_2 2 h dX2_asking_2 ?_
  obtain ⟨b1, e2, hw⟩ := hw
  rw [e2]
  obtain ⟨f3, hw⟩ := hw
  refine xg_X2_202_1 5 f3 h dX2_asking_5 ?_
  obtain ⟨b4, e5, hw⟩ := hw
  rw [e5]
  obtain ⟨f8, hw⟩ := hw
  refine xcF_I_0 8 h h.2.1.2.2.1.1 (xm_J2_size h.2.2.1 hw) (by decide) (Nat.le_of_eq (Nat.zero_add _)) (Nat.le_of_eq (Nat.zero_add _)) ⟨by decide, by decide, by show _ = some 0; decide +kernel⟩ q793 q791 f8 q787 (Nat.le_of_ble_eq_true rfl) dX2_asking_8 (fun r7 ν6 hw => ?_)
  refine g_bipush 13 _ bp_12 h.1 dX2_asking_13 ?_
  refine g_icmp_ne 15 22 h.1 dX2_asking_15 (by decide) (fun c => ?_) (fun c => ?_)
  · have hw := hw.1 c
    refine g_iconstv 22 _ ic_0 h.1 dX2_asking_22 ?_
    exact g_le (xt_X2_asking_23 h hT hN hR hO hw) ⟨rfl, rfl, trivial⟩
  · have hw := hw.2 c
    refine g_iconstv 18 _ ic_1 h.1 dX2_asking_18 ?_
    refine g_goto 19 23 h.1 dX2_asking_19 (by decide) ?_
    exact g_le (xt_X2_asking_23 h hT hN hR hO hw) ⟨rfl, rfl, trivial⟩
theorem xm_X2_asking {l : Launch} {S : Adr} {A : Nat → Prop} (hD : FD xT S xcl A) {x1 : Int32} {ν : XN} {k n : Nat} {Q : XN → Prop} {E : XN → Prop} (hw : xw_X2_asking x1 ν k n Q E) : xMetX l S A 12 k n 1 yX2_asking [.ref (S.2.1 1), .int x1] ν (pV Q) E :=
  x_startX (by decide) hD ⟨⟨by decide, by decide, by show _ = some 1; decide +kernel⟩, by decide, q988, q176⟩ (Nat.le_of_ble_eq_true rfl) (fun κ Z h hT hN hR hO => xt_X2_asking h hT hN hR hO hw)
def xw_X2_laid_215 (x2 : Int32) (y0 : Int32) (ν : XN) (k n : Nat) (Q : Int32 → XN → Prop) (E : XN → Prop) : Prop :=
  (xw_X2_most y0 x2 ν (fun ν71 => (∃ b72, fR ν71.1 1 6 = .ref b72 ∧ (rc ν71.2 b72 = 2 ∧ (∃ k79 n80, k79 + 1 ≤ k ∧ n80 + 1 ≤ n ∧ ∀ q75, rk ν71.2 q75 = 0 → ∀ ν77, ν77 = (ν71.1, tN ν71.2 q75 8 0) → (∃ k85 n86 k87 n88, k85 + k87 ≤ k79 ∧ n86 + n88 ≤ n80 ∧ xw_X2_fresh ν77 k85 n86 (fun r84 ν83 => (xw_X7_init q75 r84 ν83 (fun ν91 => (∃ b92, (rO ν71.2 b72 5) = some b92 ∧ (rc ν91.2 b92 = 7 ∧ (∃ k97 n98 k99 n100, k97 + k99 ≤ k87 ∧ n98 + n100 ≤ n88 ∧ xw_J2_add b92 q75 ν91 k97 n98 (fun r95 ν94 => Q (1 : Int32) ν94))))))) E))))) E)
theorem xt_X2_laid_215 {κ : Cx} {S : Adr} {A : Nat → Prop} {mc ms : Nat} {Z : State → Prop} {Q : Int32 → XN → Prop} (h : XCx κ cX2_laid RX2 S A 13 mc ms) (hT : (cxT κ).sig.returnType = some .boolean) (hN : (cxT κ).name = "laid") (hR : xRet κ S A mc ms Z cX2_laid (pI Q)) {E : XN → Prop} (hO : xOut κ S A mc ms Z E) {x2 : Int32} {y0 : Int32} {ν : XN} {k n : Nat} (hw : xw_X2_laid_215 x2 y0 ν k n Q E) : XG κ S A mc ms Z 215 (ν, k, n) [some (.ref (S.2.1 1)), none, some (.int x2), none, none, none] [.int y0, .ref (S.2.1 1)] := by
  unfold xw_X2_laid_215 at hw
  refine g_iload_2 215 h.1 dX2_laid_215 ?_
  refine xcX_V_2 216 h (xm_X2_most h.2.2.1 hw) (by decide) (Nat.le_of_eq (Nat.zero_add _)) (Nat.le_of_eq (Nat.zero_add _)) q718 qs13 (fun H hI => x_recvK h rfl rfl hI) q716 (Nat.le_of_ble_eq_true rfl) dX2_laid_216 (fun ν71 hw => ?_) (fun _ he => hO _ _ _ _ _ he)
  refine g_aload_0 219 h.1 dX2_laid_219 ?_
  refine xg_X2_103_2 220 h dX2_laid_220 ?_
  obtain ⟨b72, e73, hw⟩ := hw
  rw [e73]
  obtain ⟨f74, hw⟩ := hw
  refine xg_X2_192_1 223 f74 h dX2_laid_223 ?_
  obtain ⟨k79, n80, a81, a82, hw⟩ := hw
  refine xn_X2_114 226 a81 a82 h dX2_laid_226 (fun q75 e76 ν77 e78 => ?_)
  have hw := hw q75 e76 ν77 e78
  refine g_dup 229 rfl h.1 dX2_laid_229 ?_
  refine g_aload_0 230 h.1 dX2_laid_230 ?_
  obtain ⟨k85, n86, k87, n88, a89, a90, hw⟩ := hw
  refine xcX_A_0 231 h (xm_X2_fresh h.2.2.1 hw) (by decide) a89 a90 q800 qs16 (fun H hI => x_recvK h rfl rfl hI) q798 (by simp only [List.map_cons, List.map_nil, cat_rf]; exact Nat.le_of_ble_eq_true rfl) dX2_laid_231 (fun r84 ν83 hw => ?_) (fun _ he => hO _ _ _ _ _ he)
  refine xcI_V_1 234 h (xm_X7_init h.2.2.1 hw) (by decide) (Nat.le_of_eq (Nat.zero_add _)) (Nat.le_of_eq (Nat.zero_add _)) rfl q851 q850 (by simp only [List.map_cons, List.map_nil, cat_rf]; exact Nat.le_of_ble_eq_true rfl) dX2_laid_234 (fun ν91 hw => ?_)
  obtain ⟨b92, e93, hw⟩ := hw
  rw [e93]
  obtain ⟨f96, hw⟩ := hw
  obtain ⟨k97, n98, k99, n100, a101, a102, hw⟩ := hw
  refine xcF_I_1 237 h h.2.1.2.2.1.2.2.1 (xm_J2_add h.2.2.1 hw) (by decide) a101 a102 ⟨by decide, by decide, by show _ = some 1; decide +kernel⟩ q864 q862 f96 q859 (Nat.le_of_ble_eq_true rfl) dX2_laid_237 (fun r95 ν94 hw => ?_)
  refine g_pop 242 rfl h.1 dX2_laid_242 ?_
  refine g_iconstv 243 _ ic_1 h.1 dX2_laid_243 ?_
  exact hR.1 244 _ _ _ _ _ _ hT rfl dX2_laid_244 ⟨_, rfl, hw⟩
def xw_X2_laid_132 (x2 : Int32) (x4 : Int32) (ν : XN) (k n : Nat) (Q : Int32 → XN → Prop) (E : XN → Prop) : Prop :=
  ((x4 = 0 → (xw_X2_cell ν (fun r30 ν29 => (∃ b31, fR ν29.1 1 6 = .ref b31 ∧ (rc ν29.2 b31 = 2 ∧ (xw_X2_number (0 : Int32) (99 : Int32) ν29 (fun r35 ν34 => (∃ b36, (rO ν29.2 b31 4) = some b36 ∧ (rk ν34.2 b36 = 101 ∧ (vp_in r30 (rn ν34.2 b36) ∧ (∀ ν38, ν38 = (ν34.1, tI ν34.2 b36 (Int32.toNatClampNeg r30) r35) → Q (1 : Int32) ν38))))) E)))) E)) ∧ (¬ x4 = 0 → ((x4 = 1 → (∃ b42, fR ν.1 1 6 = .ref b42 ∧ (rc ν.2 b42 = 2 ∧ (∃ b45, (rO ν.2 b42 5) = some b45 ∧ (rc ν.2 b45 = 7 ∧ (xw_J2_size b45 ν (fun r48 ν47 => ((¬ r48 = (5 : Int32) → xw_X2_laid_215 x2 (0 : Int32) ν47 k n Q E) ∧ (r48 = (5 : Int32) → xw_X2_laid_215 x2 (1 : Int32) ν47 k n Q E))))))))) ∧ (¬ x4 = 1 → ((x4 = 2 → (∃ k51 n52 k53 n54, k51 + k53 ≤ k ∧ n52 + n54 ≤ n ∧ xw_X2_person x2 ν k51 n52 (fun ν50 => Q (1 : Int32) ν50) E)) ∧ (¬ x4 = 2 → ((x4 = 3 → (∃ k58 n59 k60 n61, k58 + k60 ≤ k ∧ n59 + n61 ≤ n ∧ xw_X2_knows ν k58 n59 (fun ν57 => Q (1 : Int32) ν57) E)) ∧ (¬ x4 = 3 → ((x4 = 4 → (∃ k65 n66 k67 n68, k65 + k67 ≤ k ∧ n66 + n68 ≤ n ∧ xw_X2_asking x2 ν k65 n66 (fun ν64 => Q (1 : Int32) ν64) E)) ∧ (¬ x4 = 4 → Q (0 : Int32) ν))))))))))
theorem xt_X2_laid_132 {κ : Cx} {S : Adr} {A : Nat → Prop} {mc ms : Nat} {Z : State → Prop} {Q : Int32 → XN → Prop} (h : XCx κ cX2_laid RX2 S A 13 mc ms) (hT : (cxT κ).sig.returnType = some .boolean) (hN : (cxT κ).name = "laid") (hR : xRet κ S A mc ms Z cX2_laid (pI Q)) {E : XN → Prop} (hO : xOut κ S A mc ms Z E) {x2 : Int32} {x4 : Int32} {ν : XN} {k n : Nat} (hw : xw_X2_laid_132 x2 x4 ν k n Q E) : XG κ S A mc ms Z 132 (ν, k, n) [some (.ref (S.2.1 1)), none, some (.int x2), none, some (.int x4), none] [] := by
  unfold xw_X2_laid_132 at hw
  refine g_iload_4 132 h.1 dX2_laid_132 ?_
  rcases Classical.em (x4 = 0) with c0 | c0
  · have hw := hw.1 c0
    refine g_tabIn 134 168 34 h.1 dX2_laid_134 (by rw [c0]; decide) (by rw [c0]; decide) (by rw [c0]; decide) (by decide) ?_
    refine g_aload_0 168 h.1 dX2_laid_168 ?_
    refine xcX_I_0 169 h (xm_X2_cell h.2.2.1 hw) (by decide) (Nat.le_of_eq (Nat.zero_add _)) (Nat.le_of_eq (Nat.zero_add _)) q784 qs15 (fun H hI => x_recvK h rfl rfl hI) q782 (Nat.le_of_ble_eq_true rfl) dX2_laid_169 (fun r30 ν29 hw => ?_) (fun _ he => hO _ _ _ _ _ he)
    refine g_istore_5 172 h.1 rfl dX2_laid_172 ?_
    refine g_aload_0 174 h.1 dX2_laid_174 ?_
    refine xg_X2_103_2 175 h dX2_laid_175 ?_
    obtain ⟨b31, e32, hw⟩ := hw
    rw [e32]
    obtain ⟨f33, hw⟩ := hw
    refine xg_X2_222_1 178 f33 h dX2_laid_178 ?_
    refine g_iload_5 181 h.1 dX2_laid_181 ?_
    refine g_aload_0 183 h.1 dX2_laid_183 ?_
    refine g_iconstv 184 _ ic_0 h.1 dX2_laid_184 ?_
    refine g_bipush 185 _ bp_99 h.1 dX2_laid_185 ?_
    refine xcX_I_2 187 h (xm_X2_number h.2.2.1 hw) (by decide) (Nat.le_of_eq (Nat.zero_add _)) (Nat.le_of_eq (Nat.zero_add _)) q702 qs10 (fun H hI => x_recvK h rfl rfl hI) q700 (by simp only [List.map_cons, List.map_nil, cat_rf]; exact Nat.le_of_ble_eq_true rfl) dX2_laid_187 (fun r35 ν34 hw => ?_) (fun _ he => hO _ _ _ _ _ he)
    obtain ⟨b36, e37, hw⟩ := hw
    rw [e37]
    obtain ⟨f40, hw⟩ := hw
    obtain ⟨f41, hw⟩ := hw
    refine ra_iast 190 f40 f41 h dX2_laid_190 (fun ν38 e39 => ?_)
    have hw := hw ν38 e39
    refine g_iconstv 191 _ ic_1 h.1 dX2_laid_191 ?_
    exact hR.1 192 _ _ _ _ _ _ hT rfl dX2_laid_192 ⟨_, rfl, hw⟩
  · have hw := hw.2 c0
    rcases Classical.em (x4 = 1) with c1 | c1
    · have hw := hw.1 c1
      refine g_tabIn 134 193 59 h.1 dX2_laid_134 (by rw [c1]; decide) (by rw [c1]; decide) (by rw [c1]; decide) (by decide) ?_
      refine g_aload_0 193 h.1 dX2_laid_193 ?_
      refine g_aload_0 194 h.1 dX2_laid_194 ?_
      refine xg_X2_103_2 195 h dX2_laid_195 ?_
      obtain ⟨b42, e43, hw⟩ := hw
      rw [e43]
      obtain ⟨f44, hw⟩ := hw
      refine xg_X2_192_1 198 f44 h dX2_laid_198 ?_
      obtain ⟨b45, e46, hw⟩ := hw
      rw [e46]
      obtain ⟨f49, hw⟩ := hw
      refine xcF_I_0 201 h h.2.1.2.2.1.1 (xm_J2_size h.2.2.1 hw) (by decide) (Nat.le_of_eq (Nat.zero_add _)) (Nat.le_of_eq (Nat.zero_add _)) ⟨by decide, by decide, by show _ = some 0; decide +kernel⟩ q793 q791 f49 q787 (Nat.le_of_ble_eq_true rfl) dX2_laid_201 (fun r48 ν47 hw => ?_)
      refine g_iconstv 206 _ ic_5 h.1 dX2_laid_206 ?_
      refine g_icmp_ne 207 214 h.1 dX2_laid_207 (by decide) (fun c => ?_) (fun c => ?_)
      · have hw := hw.1 c
        refine g_iconstv 214 _ ic_0 h.1 dX2_laid_214 ?_
        exact g_le (xt_X2_laid_215 h hT hN hR hO hw) ⟨rfl, rfl, trivial⟩
      · have hw := hw.2 c
        refine g_iconstv 210 _ ic_1 h.1 dX2_laid_210 ?_
        refine g_goto 211 215 h.1 dX2_laid_211 (by decide) ?_
        exact g_le (xt_X2_laid_215 h hT hN hR hO hw) ⟨rfl, rfl, trivial⟩
    · have hw := hw.2 c1
      rcases Classical.em (x4 = 2) with c2 | c2
      · have hw := hw.1 c2
        refine g_tabIn 134 245 111 h.1 dX2_laid_134 (by rw [c2]; decide) (by rw [c2]; decide) (by rw [c2]; decide) (by decide) ?_
        refine g_aload_0 245 h.1 dX2_laid_245 ?_
        refine g_iload_2 246 h.1 dX2_laid_246 ?_
        obtain ⟨k51, n52, k53, n54, a55, a56, hw⟩ := hw
        refine xcX_V_1 247 h (xm_X2_person h.2.2.1 hw) (by decide) a55 a56 q936 qs21 (fun H hI => x_recvK h rfl rfl hI) q934 (Nat.le_of_ble_eq_true rfl) dX2_laid_247 (fun ν50 hw => ?_) (fun _ he => hO _ _ _ _ _ he)
        refine g_iconstv 250 _ ic_1 h.1 dX2_laid_250 ?_
        exact hR.1 251 _ _ _ _ _ _ hT rfl dX2_laid_251 ⟨_, rfl, hw⟩
      · have hw := hw.2 c2
        rcases Classical.em (x4 = 3) with c3 | c3
        · have hw := hw.1 c3
          refine g_tabIn 134 252 118 h.1 dX2_laid_134 (by rw [c3]; decide) (by rw [c3]; decide) (by rw [c3]; decide) (by decide) ?_
          refine g_aload_0 252 h.1 dX2_laid_252 ?_
          obtain ⟨k58, n59, k60, n61, a62, a63, hw⟩ := hw
          refine xcX_V_0 253 h (xm_X2_knows h.2.2.1 hw) (by decide) a62 a63 q972 qs22 (fun H hI => x_recvK h rfl rfl hI) q970 (Nat.le_of_ble_eq_true rfl) dX2_laid_253 (fun ν57 hw => ?_) (fun _ he => hO _ _ _ _ _ he)
          refine g_iconstv 256 _ ic_1 h.1 dX2_laid_256 ?_
          exact hR.1 257 _ _ _ _ _ _ hT rfl dX2_laid_257 ⟨_, rfl, hw⟩
        · have hw := hw.2 c3
          rcases Classical.em (x4 = 4) with c4 | c4
          · have hw := hw.1 c4
            refine g_tabIn 134 258 124 h.1 dX2_laid_134 (by rw [c4]; decide) (by rw [c4]; decide) (by rw [c4]; decide) (by decide) ?_
            refine g_aload_0 258 h.1 dX2_laid_258 ?_
            refine g_iload_2 259 h.1 dX2_laid_259 ?_
            obtain ⟨k65, n66, k67, n68, a69, a70, hw⟩ := hw
            refine xcX_V_1 260 h (xm_X2_asking h.2.2.1 hw) (by decide) a69 a70 q987 qs24 (fun H hI => x_recvK h rfl rfl hI) q985 (Nat.le_of_ble_eq_true rfl) dX2_laid_260 (fun ν64 hw => ?_) (fun _ he => hO _ _ _ _ _ he)
            refine g_iconstv 263 _ ic_1 h.1 dX2_laid_263 ?_
            exact hR.1 264 _ _ _ _ _ _ hT rfl dX2_laid_264 ⟨_, rfl, hw⟩
          · have hw := hw.2 c4
            refine g_tabOut 134 265 h.1 dX2_laid_134 (tabOut_0_4 c0 c1 c2 c3 c4) (by decide) ?_
            refine g_iconstv 265 _ ic_0 h.1 dX2_laid_265 ?_
            exact hR.1 266 _ _ _ _ _ _ hT rfl dX2_laid_266 ⟨_, rfl, hw⟩
def xw_X2_laid (x1 : Nat) (x2 : Int32) (ν : XN) (k n : Nat) (Q : Int32 → XN → Prop) (E : XN → Prop) : Prop :=
  (rc ν.2 x1 = 11 ∧ (xw_J6_hashCode x1 ν (fun r2 ν1 => ((r2 = (-991716523) → (∀ b4, fR ν1.1 900 7 = .ref b4 → (rc ν1.2 x1 = 11 ∧ (xw_J6_equals x1 b4 ν1 (fun r7 ν6 => ((r7 = 0 → xw_X2_laid_132 x2 (-1 : Int32) ν6 k n Q E) ∧ (¬ r7 = 0 → xw_X2_laid_132 x2 (2 : Int32) ν6 k n Q E))))))) ∧ (¬ r2 = (-991716523) → ((r2 = 3003674 → (∀ b9, fR ν1.1 900 9 = .ref b9 → (rc ν1.2 x1 = 11 ∧ (xw_J6_equals x1 b9 ν1 (fun r12 ν11 => ((r12 = 0 → xw_X2_laid_132 x2 (-1 : Int32) ν11 k n Q E) ∧ (¬ r12 = 0 → xw_X2_laid_132 x2 (4 : Int32) ν11 k n Q E))))))) ∧ (¬ r2 = 3003674 → ((r2 = 3202466 → (∀ b14, fR ν1.1 900 5 = .ref b14 → (rc ν1.2 x1 = 11 ∧ (xw_J6_equals x1 b14 ν1 (fun r17 ν16 => ((r17 = 0 → xw_X2_laid_132 x2 (-1 : Int32) ν16 k n Q E) ∧ (¬ r17 = 0 → xw_X2_laid_132 x2 (0 : Int32) ν16 k n Q E))))))) ∧ (¬ r2 = 3202466 → ((r2 = 102204232 → (∀ b19, fR ν1.1 900 8 = .ref b19 → (rc ν1.2 x1 = 11 ∧ (xw_J6_equals x1 b19 ν1 (fun r22 ν21 => ((r22 = 0 → xw_X2_laid_132 x2 (-1 : Int32) ν21 k n Q E) ∧ (¬ r22 = 0 → xw_X2_laid_132 x2 (3 : Int32) ν21 k n Q E))))))) ∧ (¬ r2 = 102204232 → ((r2 = 110546223 → (∀ b24, fR ν1.1 900 6 = .ref b24 → (rc ν1.2 x1 = 11 ∧ (xw_J6_equals x1 b24 ν1 (fun r27 ν26 => ((r27 = 0 → xw_X2_laid_132 x2 (-1 : Int32) ν26 k n Q E) ∧ (¬ r27 = 0 → xw_X2_laid_132 x2 (1 : Int32) ν26 k n Q E))))))) ∧ (¬ r2 = 110546223 → xw_X2_laid_132 x2 (-1 : Int32) ν1 k n Q E)))))))))))))
theorem xt_X2_laid {κ : Cx} {S : Adr} {A : Nat → Prop} {mc ms : Nat} {Z : State → Prop} {Q : Int32 → XN → Prop} (h : XCx κ cX2_laid RX2 S A 13 mc ms) (hT : (cxT κ).sig.returnType = some .boolean) (hN : (cxT κ).name = "laid") (hR : xRet κ S A mc ms Z cX2_laid (pI Q)) {E : XN → Prop} (hO : xOut κ S A mc ms Z E) {x1 : Nat} {x2 : Int32} {ν : XN} {k n : Nat} (hw : xw_X2_laid x1 x2 ν k n Q E) : XG κ S A mc ms Z 0 (ν, k, n) [some (.ref (S.2.1 1)), some (.ref x1), some (.int x2), none, none, none] [] := by
  unfold xw_X2_laid at hw
  refine g_aload_1 0 h.1 dX2_laid_0 ?_
  refine g_astore_3 1 h.1 rfl dX2_laid_1 ?_
  refine g_iconstv 2 _ ic_m1 h.1 dX2_laid_2 ?_
  refine g_istore_4 3 h.1 rfl dX2_laid_3 ?_
  refine g_aload_3 5 h.1 dX2_laid_5 ?_
  obtain ⟨f3, hw⟩ := hw
  refine xcV_I_0 6 h (xm_J6_hashCode h.2.2.1 hw) (by decide) (Nat.le_of_eq (Nat.zero_add _)) (Nat.le_of_eq (Nat.zero_add _)) q725 q726 (fun H hI => x_recvR h f3 rfl hI) q724 (Nat.le_of_ble_eq_true rfl) dX2_laid_6 (fun r2 ν1 hw => ?_)
  rcases Classical.em (r2 = (-991716523)) with c0 | c0
  · have hw := hw.1 c0
    refine g_lookup 9 90 81 h.1 dX2_laid_9 (by decide) (by rw [c0]; decide) (by decide) ?_
    refine g_aload_3 90 h.1 dX2_laid_90 ?_
    refine x_ldcS 91 7 rfl h dX2_laid_91 (fun b4 e5 => ?_)
    have hw := hw b4 e5
    obtain ⟨f8, hw⟩ := hw
    refine xcV_I_1 93 h (xm_J6_equals h.2.2.1 hw) (by decide) (Nat.le_of_eq (Nat.zero_add _)) (Nat.le_of_eq (Nat.zero_add _)) q694 q695 (fun H hI => x_recvR h f8 rfl hI) q693 (Nat.le_of_ble_eq_true rfl) dX2_laid_93 (fun r7 ν6 hw => ?_)
    refine g_if_eq 96 132 h.1 dX2_laid_96 (by decide) (fun c => ?_) (fun c => ?_)
    · have hw := hw.1 c
      exact g_le (xt_X2_laid_132 h hT hN hR hO hw) ⟨rfl, rfl, rfl, trivial⟩
    · have hw := hw.2 c
      refine g_iconstv 99 _ ic_2 h.1 dX2_laid_99 ?_
      refine g_istore_4 100 h.1 rfl dX2_laid_100 ?_
      refine g_goto 102 132 h.1 dX2_laid_102 (by decide) ?_
      exact g_le (xt_X2_laid_132 h hT hN hR hO hw) ⟨rfl, rfl, rfl, trivial⟩
  · have hw := hw.2 c0
    rcases Classical.em (r2 = 3003674) with c1 | c1
    · have hw := hw.1 c1
      refine g_lookup 9 120 111 h.1 dX2_laid_9 (by decide) (by rw [c1]; decide) (by decide) ?_
      refine g_aload_3 120 h.1 dX2_laid_120 ?_
      refine x_ldcS 121 9 rfl h dX2_laid_121 (fun b9 e10 => ?_)
      have hw := hw b9 e10
      obtain ⟨f13, hw⟩ := hw
      refine xcV_I_1 123 h (xm_J6_equals h.2.2.1 hw) (by decide) (Nat.le_of_eq (Nat.zero_add _)) (Nat.le_of_eq (Nat.zero_add _)) q694 q695 (fun H hI => x_recvR h f13 rfl hI) q693 (Nat.le_of_ble_eq_true rfl) dX2_laid_123 (fun r12 ν11 hw => ?_)
      refine g_if_eq 126 132 h.1 dX2_laid_126 (by decide) (fun c => ?_) (fun c => ?_)
      · have hw := hw.1 c
        exact g_le (xt_X2_laid_132 h hT hN hR hO hw) ⟨rfl, rfl, rfl, trivial⟩
      · have hw := hw.2 c
        refine g_iconstv 129 _ ic_4 h.1 dX2_laid_129 ?_
        refine g_istore_4 130 h.1 rfl dX2_laid_130 ?_
        exact g_le (xt_X2_laid_132 h hT hN hR hO hw) ⟨rfl, rfl, rfl, trivial⟩
    · have hw := hw.2 c1
      rcases Classical.em (r2 = 3202466) with c2 | c2
      · have hw := hw.1 c2
        refine g_lookup 9 60 51 h.1 dX2_laid_9 (by decide) (by rw [c2]; decide) (by decide) ?_
        refine g_aload_3 60 h.1 dX2_laid_60 ?_
        refine x_ldcS 61 5 rfl h dX2_laid_61 (fun b14 e15 => ?_)
        have hw := hw b14 e15
        obtain ⟨f18, hw⟩ := hw
        refine xcV_I_1 63 h (xm_J6_equals h.2.2.1 hw) (by decide) (Nat.le_of_eq (Nat.zero_add _)) (Nat.le_of_eq (Nat.zero_add _)) q694 q695 (fun H hI => x_recvR h f18 rfl hI) q693 (Nat.le_of_ble_eq_true rfl) dX2_laid_63 (fun r17 ν16 hw => ?_)
        refine g_if_eq 66 132 h.1 dX2_laid_66 (by decide) (fun c => ?_) (fun c => ?_)
        · have hw := hw.1 c
          exact g_le (xt_X2_laid_132 h hT hN hR hO hw) ⟨rfl, rfl, rfl, trivial⟩
        · have hw := hw.2 c
          refine g_iconstv 69 _ ic_0 h.1 dX2_laid_69 ?_
          refine g_istore_4 70 h.1 rfl dX2_laid_70 ?_
          refine g_goto 72 132 h.1 dX2_laid_72 (by decide) ?_
          exact g_le (xt_X2_laid_132 h hT hN hR hO hw) ⟨rfl, rfl, rfl, trivial⟩
      · have hw := hw.2 c2
        rcases Classical.em (r2 = 102204232) with c3 | c3
        · have hw := hw.1 c3
          refine g_lookup 9 105 96 h.1 dX2_laid_9 (by decide) (by rw [c3]; decide) (by decide) ?_
          refine g_aload_3 105 h.1 dX2_laid_105 ?_
          refine x_ldcS 106 8 rfl h dX2_laid_106 (fun b19 e20 => ?_)
          have hw := hw b19 e20
          obtain ⟨f23, hw⟩ := hw
          refine xcV_I_1 108 h (xm_J6_equals h.2.2.1 hw) (by decide) (Nat.le_of_eq (Nat.zero_add _)) (Nat.le_of_eq (Nat.zero_add _)) q694 q695 (fun H hI => x_recvR h f23 rfl hI) q693 (Nat.le_of_ble_eq_true rfl) dX2_laid_108 (fun r22 ν21 hw => ?_)
          refine g_if_eq 111 132 h.1 dX2_laid_111 (by decide) (fun c => ?_) (fun c => ?_)
          · have hw := hw.1 c
            exact g_le (xt_X2_laid_132 h hT hN hR hO hw) ⟨rfl, rfl, rfl, trivial⟩
          · have hw := hw.2 c
            refine g_iconstv 114 _ ic_3 h.1 dX2_laid_114 ?_
            refine g_istore_4 115 h.1 rfl dX2_laid_115 ?_
            refine g_goto 117 132 h.1 dX2_laid_117 (by decide) ?_
            exact g_le (xt_X2_laid_132 h hT hN hR hO hw) ⟨rfl, rfl, rfl, trivial⟩
        · have hw := hw.2 c3
          rcases Classical.em (r2 = 110546223) with c4 | c4
          · have hw := hw.1 c4
            refine g_lookup 9 75 66 h.1 dX2_laid_9 (by decide) (by rw [c4]; decide) (by decide) ?_
            refine g_aload_3 75 h.1 dX2_laid_75 ?_
            refine x_ldcS 76 6 rfl h dX2_laid_76 (fun b24 e25 => ?_)
            have hw := hw b24 e25
            obtain ⟨f28, hw⟩ := hw
            refine xcV_I_1 78 h (xm_J6_equals h.2.2.1 hw) (by decide) (Nat.le_of_eq (Nat.zero_add _)) (Nat.le_of_eq (Nat.zero_add _)) q694 q695 (fun H hI => x_recvR h f28 rfl hI) q693 (Nat.le_of_ble_eq_true rfl) dX2_laid_78 (fun r27 ν26 hw => ?_)
            refine g_if_eq 81 132 h.1 dX2_laid_81 (by decide) (fun c => ?_) (fun c => ?_)
            · have hw := hw.1 c
              exact g_le (xt_X2_laid_132 h hT hN hR hO hw) ⟨rfl, rfl, rfl, trivial⟩
            · have hw := hw.2 c
              refine g_iconstv 84 _ ic_1 h.1 dX2_laid_84 ?_
              refine g_istore_4 85 h.1 rfl dX2_laid_85 ?_
              refine g_goto 87 132 h.1 dX2_laid_87 (by decide) ?_
              exact g_le (xt_X2_laid_132 h hT hN hR hO hw) ⟨rfl, rfl, rfl, trivial⟩
          · have hw := hw.2 c4
            refine g_lookup 9 132 123 h.1 dX2_laid_9 (by decide) (by rw [show (#[((-991716523), 81), (3003674, 111), (3202466, 51), (102204232, 96), (110546223, 66)] : Array (Int × Int)).toList = [((-991716523), 81), (3003674, 111), (3202466, 51), (102204232, 96), (110546223, 66)] from rfl, lv_osw c0 (show ((-991716523) : Int32).toInt = (-991716523) by decide), lv_osw c1 (show (3003674 : Int32).toInt = 3003674 by decide), lv_osw c2 (show (3202466 : Int32).toInt = 3202466 by decide), lv_osw c3 (show (102204232 : Int32).toInt = 102204232 by decide), lv_osw c4 (show (110546223 : Int32).toInt = 110546223 by decide)]; rfl) (by decide) ?_
            exact g_le (xt_X2_laid_132 h hT hN hR hO hw) ⟨rfl, rfl, rfl, trivial⟩
theorem xm_X2_laid {l : Launch} {S : Adr} {A : Nat → Prop} (hD : FD xT S xcl A) {x1 : Nat} {x2 : Int32} {ν : XN} {k n : Nat} {Q : Int32 → XN → Prop} {E : XN → Prop} (hw : xw_X2_laid x1 x2 ν k n Q E) : xMetX l S A 13 k n 2 yX2_laid [.ref (S.2.1 1), .ref x1, .int x2] ν (pI Q) E :=
  x_startX (by decide) hD ⟨⟨by decide, by decide, by show _ = some 2; decide +kernel⟩, by decide, q723, q176⟩ (Nat.le_of_ble_eq_true rfl) (fun κ Z h hT hN hR hO => xt_X2_laid h hT hN hR hO hw)
def xw_X2_takes_28 (x2 : Int32) (y0 : Int32) (y1 : Int32) (ν : XN) (Q : Int32 → XN → Prop) : Prop :=
  (∀ ν3, ν3 = (sI ν.1 1 2 (y1 + y0), ν.2) → (narrow .boolean (.int x2) = .int x2 ∧ Q x2 ν3))
theorem xt_X2_takes_28 {κ : Cx} {S : Adr} {A : Nat → Prop} {Z : State → Prop} {Q : Int32 → XN → Prop} (h : XCx κ cX2_takes RX2 S A 3 0 0) (hT : (cxT κ).sig.returnType = some .boolean) (hN : (cxT κ).name = "takes") (hR : xRet κ S A 0 0 Z cX2_takes (pI Q)) {x2 : Int32} {y0 : Int32} {y1 : Int32} {ν : XN} (hw : xw_X2_takes_28 x2 y0 y1 ν Q) : XG κ S A 0 0 Z 28 (ν, 0, 0) [none, none, some (.int x2)] [.int y0, .int y1, .ref (S.2.1 1)] := by
  unfold xw_X2_takes_28 at hw
  refine g_iadd 28 h.1 dX2_takes_28 ?_
  refine xp_X2_36_2 29 h dX2_takes_29 (fun ν3 e4 => ?_)
  have hw := hw ν3 e4
  refine g_iload_2 32 h.1 dX2_takes_32 ?_
  obtain ⟨f5, hw⟩ := hw
  exact hR.1 33 _ _ _ _ _ _ hT f5 dX2_takes_33 ⟨_, rfl, hw⟩
def xw_X2_takes_13 (y0 : Int32) (ν : XN) (Q : Int32 → XN → Prop) : Prop :=
  ((y0 = 0 → xw_X2_takes_28 y0 (0 : Int32) (fI ν.1 1 2) ν Q) ∧ (¬ y0 = 0 → xw_X2_takes_28 y0 (1 : Int32) (fI ν.1 1 2) ν Q))
theorem xt_X2_takes_13 {κ : Cx} {S : Adr} {A : Nat → Prop} {Z : State → Prop} {Q : Int32 → XN → Prop} (h : XCx κ cX2_takes RX2 S A 3 0 0) (hT : (cxT κ).sig.returnType = some .boolean) (hN : (cxT κ).name = "takes") (hR : xRet κ S A 0 0 Z cX2_takes (pI Q)) {y0 : Int32} {ν : XN} (hw : xw_X2_takes_13 y0 ν Q) : XG κ S A 0 0 Z 13 (ν, 0, 0) [some (.ref (S.2.1 1)), none, none] [.int y0] := by
  unfold xw_X2_takes_13 at hw
  refine g_istore_2 13 h.1 rfl dX2_takes_13 ?_
  refine g_aload_0 14 h.1 dX2_takes_14 ?_
  refine g_dup 15 rfl h.1 dX2_takes_15 ?_
  refine xg_X2_36_2 16 h dX2_takes_16 ?_
  refine g_iload_2 19 h.1 dX2_takes_19 ?_
  refine g_if_eq 20 27 h.1 dX2_takes_20 (by decide) (fun c => ?_) (fun c => ?_)
  · have hw := hw.1 c
    refine g_iconstv 27 _ ic_0 h.1 dX2_takes_27 ?_
    exact g_le (xt_X2_takes_28 h hT hN hR hw) ⟨rfl, trivial⟩
  · have hw := hw.2 c
    refine g_iconstv 23 _ ic_1 h.1 dX2_takes_23 ?_
    refine g_goto 24 28 h.1 dX2_takes_24 (by decide) ?_
    exact g_le (xt_X2_takes_28 h hT hN hR hw) ⟨rfl, trivial⟩
def xw_X2_takes (x1 : Int32) (ν : XN) (Q : Int32 → XN → Prop) : Prop :=
  (xw_X2_here ν (fun r2 ν1 => ((¬ r2 = x1 → xw_X2_takes_13 (0 : Int32) ν1 Q) ∧ (r2 = x1 → xw_X2_takes_13 (1 : Int32) ν1 Q))))
theorem xt_X2_takes {κ : Cx} {S : Adr} {A : Nat → Prop} {Z : State → Prop} {Q : Int32 → XN → Prop} (h : XCx κ cX2_takes RX2 S A 3 0 0) (hT : (cxT κ).sig.returnType = some .boolean) (hN : (cxT κ).name = "takes") (hR : xRet κ S A 0 0 Z cX2_takes (pI Q)) {x1 : Int32} {ν : XN} (hw : xw_X2_takes x1 ν Q) : XG κ S A 0 0 Z 0 (ν, 0, 0) [some (.ref (S.2.1 1)), some (.int x1), none] [] := by
  unfold xw_X2_takes at hw
  refine g_aload_0 0 h.1 dX2_takes_0 ?_
  refine xcV_I_0 1 h (xm_X2_here h.2.2.1 hw) (by decide) (Nat.le_of_eq (Nat.zero_add _)) (Nat.le_of_eq (Nat.zero_add _)) q595 qs6 (fun H hI => x_recvK h rfl rfl hI) q593 (Nat.le_of_ble_eq_true rfl) dX2_takes_1 (fun r2 ν1 hw => ?_)
  refine g_iload_1 4 h.1 dX2_takes_4 ?_
  refine g_icmp_ne 5 12 h.1 dX2_takes_5 (by decide) (fun c => ?_) (fun c => ?_)
  · have hw := hw.1 c
    refine g_iconstv 12 _ ic_0 h.1 dX2_takes_12 ?_
    exact g_le (xt_X2_takes_13 h hT hN hR hw) ⟨rfl, trivial⟩
  · have hw := hw.2 c
    refine g_iconstv 8 _ ic_1 h.1 dX2_takes_8 ?_
    refine g_goto 9 13 h.1 dX2_takes_9 (by decide) ?_
    exact g_le (xt_X2_takes_13 h hT hN hR hw) ⟨rfl, trivial⟩
theorem xm_X2_takes {l : Launch} {S : Adr} {A : Nat → Prop} (hD : FD xT S xcl A) {x1 : Int32} {ν : XN} {Q : Int32 → XN → Prop} (hw : xw_X2_takes x1 ν Q) : xMet l S A 3 0 0 1 yX2_takes [.ref (S.2.1 1), .int x1] ν (pI Q) :=
  x_met (plainFor_of_name (by decide)) hD ⟨⟨by decide, by decide, by show _ = some 1; decide +kernel⟩, by decide, q1205, q176⟩ (Nat.le_of_ble_eq_true rfl) (fun κ Z h hT hN hR => xt_X2_takes h hT hN hR hw)
def xw_X2_product_20 (AT : XN → Nat → Nat → (Nat → XN → Prop) → (XN → Prop) → Prop) (x1 : Nat) (x2 : Int32) (ν : XN) (k n : Nat) (Q : Nat → XN → Prop) (E : XN → Prop) : Prop :=
  ∀ X20 : Nat → Int32 → XN → Nat → Nat → Prop, (∀ (x1 : Nat) (x2 : Int32) (ν : XN) (k n : Nat), ((x2 = 0 → Q x1 ν) ∧ (¬ x2 = 0 → (xw_X2_takes (42 : Int32) ν (fun r33 ν32 => ((r33 = 0 → (xw_X2_takes (47 : Int32) ν32 (fun r35 ν34 => ((r35 = 0 → X20 x1 (0 : Int32) ν34 k n) ∧ (¬ r35 = 0 → (∃ k38 n39 k40 n41, k38 + k40 ≤ k ∧ n39 + n41 ≤ n ∧ AT ν34 k38 n39 (fun r37 ν36 => (rc ν36.2 x1 = 12 ∧ (∃ k46 n47 k48 n49, k46 + k48 ≤ k40 ∧ n47 + n49 ≤ n41 ∧ xw_X11_add x1 (47 : Int32) r37 ν36 k46 n47 (fun ν44 => X20 x1 x2 ν44 k48 n49)))) E)))))) ∧ (¬ r33 = 0 → (∃ k54 n55 k56 n57, k54 + k56 ≤ k ∧ n55 + n57 ≤ n ∧ AT ν32 k54 n55 (fun r53 ν52 => (rc ν52.2 x1 = 12 ∧ (∃ k62 n63 k64 n65, k62 + k64 ≤ k56 ∧ n63 + n65 ≤ n57 ∧ xw_X11_add x1 (42 : Int32) r53 ν52 k62 n63 (fun ν60 => X20 x1 x2 ν60 k64 n65)))) E))))))) → X20 x1 x2 ν k n) → X20 x1 x2 ν k n
theorem xt_X2_product_20 {κ : Cx} {S : Adr} {A : Nat → Prop} {mc ms : Nat} {Z : State → Prop} {Q : Nat → XN → Prop} {dA : Nat} {AT : XN → Nat → Nat → (Nat → XN → Prop) → (XN → Prop) → Prop} (hAT : ∀ l ν k n Q E, AT ν k n Q E → xMetX l S A (dA) k n 0 yX2_atom [.ref (S.2.1 1)] ν (pA Q) E) (h : XCx κ cX2_product RX2 S A (dA + 10) mc ms) (hT : (cxT κ).sig.returnType = some (.object "ShrugHills$Value")) (hN : (cxT κ).name = "product") (hR : xRet κ S A mc ms Z cX2_product (pA Q)) {E : XN → Prop} (hO : xOut κ S A mc ms Z E) {x1 : Nat} {x2 : Int32} {ν : XN} {k n : Nat} (hw : xw_X2_product_20 AT x1 x2 ν k n Q E) : XG κ S A mc ms Z 20 (ν, k, n) [some (.ref (S.2.1 1)), some (.ref x1), some (.int x2)] [] := by
  refine hw (fun x1 x2 ν k n => XG κ S A mc ms Z 20 (ν, k, n) [some (.ref (S.2.1 1)), some (.ref x1), some (.int x2)] []) ?_
  clear hw
  intro x1 x2 ν k n hw
  have hX20 : ∀ (x1 : Nat) (x2 : Int32) (ν : XN) (k n : Nat), XG κ S A mc ms Z 20 (ν, k, n) [some (.ref (S.2.1 1)), some (.ref x1), some (.int x2)] [] → XG κ S A mc ms Z 20 (ν, k, n) [some (.ref (S.2.1 1)), some (.ref x1), some (.int x2)] [] := fun _ _ _ _ _ hh => hh
  refine g_iload_2 20 h.1 dX2_product_20 ?_
  refine g_if_eq 21 73 h.1 dX2_product_21 (by decide) (fun c => ?_) (fun c => ?_)
  · have hw := hw.1 c
    refine g_aload_1 73 h.1 dX2_product_73 ?_
    exact hR.2.2.2 74 (some x1) _ _ _ _ _ hT (by first | exact Or.inl ⟨_, rfl⟩ | exact Or.inr ⟨_, rfl⟩) dX2_product_74 ⟨_, rfl, hw⟩
  · have hw := hw.2 c
    refine g_aload_0 24 h.1 dX2_product_24 ?_
    refine g_bipush 25 _ bp_42 h.1 dX2_product_25 ?_
    refine xcV_I_1 27 h (xm_X2_takes h.2.2.1 hw) (by omega) (Nat.le_of_eq (Nat.zero_add _)) (Nat.le_of_eq (Nat.zero_add _)) q1204 qs33 (fun H hI => x_recvK h rfl rfl hI) q1202 (Nat.le_of_ble_eq_true rfl) dX2_product_27 (fun r33 ν32 hw => ?_)
    refine g_if_eq 30 46 h.1 dX2_product_30 (by decide) (fun c => ?_) (fun c => ?_)
    · have hw := hw.1 c
      refine g_aload_0 46 h.1 dX2_product_46 ?_
      refine g_bipush 47 _ bp_47 h.1 dX2_product_47 ?_
      refine xcV_I_1 49 h (xm_X2_takes h.2.2.1 hw) (by omega) (Nat.le_of_eq (Nat.zero_add _)) (Nat.le_of_eq (Nat.zero_add _)) q1204 qs33 (fun H hI => x_recvK h rfl rfl hI) q1202 (Nat.le_of_ble_eq_true rfl) dX2_product_49 (fun r35 ν34 hw => ?_)
      refine g_if_eq 52 68 h.1 dX2_product_52 (by decide) (fun c => ?_) (fun c => ?_)
      · have hw := hw.1 c
        refine g_iconstv 68 _ ic_0 h.1 dX2_product_68 ?_
        refine g_istore_2 69 h.1 rfl dX2_product_69 ?_
        refine g_goto 70 20 h.1 dX2_product_70 (by decide) ?_
        exact g_le (hX20 _ _ _ _ _ hw) ⟨rfl, rfl, rfl, trivial⟩
      · have hw := hw.2 c
        refine g_aload_1 55 h.1 dX2_product_55 ?_
        refine g_bipush 56 _ bp_47 h.1 dX2_product_56 ?_
        refine g_aload_0 58 h.1 dX2_product_58 ?_
        obtain ⟨k38, n39, k40, n41, a42, a43, hw⟩ := hw
        refine xcX_A_0 59 h (hAT _ _ _ _ _ _ hw) (by omega) a42 a43 q1069 qs29 (fun H hI => x_recvK h rfl rfl hI) q1067 (Nat.le_of_ble_eq_true rfl) dX2_product_59 (fun r37 ν36 hw => ?_) (fun _ he => hO _ _ _ _ _ he)
        obtain ⟨f45, hw⟩ := hw
        obtain ⟨k46, n47, k48, n49, a50, a51, hw⟩ := hw
        refine xcV_V_2 62 h (xm_X11_add h.2.2.1 hw) (by omega) a50 a51 q1142 q1143 (fun H hI => x_recvR h f45 rfl hI) q1141 (Nat.le_of_ble_eq_true rfl) dX2_product_62 (fun ν44 hw => ?_)
        refine g_goto 65 20 h.1 dX2_product_65 (by decide) ?_
        exact g_le (hX20 _ _ _ _ _ hw) ⟨rfl, rfl, rfl, trivial⟩
    · have hw := hw.2 c
      refine g_aload_1 33 h.1 dX2_product_33 ?_
      refine g_bipush 34 _ bp_42 h.1 dX2_product_34 ?_
      refine g_aload_0 36 h.1 dX2_product_36 ?_
      obtain ⟨k54, n55, k56, n57, a58, a59, hw⟩ := hw
      refine xcX_A_0 37 h (hAT _ _ _ _ _ _ hw) (by omega) a58 a59 q1069 qs29 (fun H hI => x_recvK h rfl rfl hI) q1067 (Nat.le_of_ble_eq_true rfl) dX2_product_37 (fun r53 ν52 hw => ?_) (fun _ he => hO _ _ _ _ _ he)
      obtain ⟨f61, hw⟩ := hw
      obtain ⟨k62, n63, k64, n65, a66, a67, hw⟩ := hw
      refine xcV_V_2 40 h (xm_X11_add h.2.2.1 hw) (by omega) a66 a67 q1142 q1143 (fun H hI => x_recvR h f61 rfl hI) q1141 (Nat.le_of_ble_eq_true rfl) dX2_product_40 (fun ν60 hw => ?_)
      refine g_goto 43 20 h.1 dX2_product_43 (by decide) ?_
      exact g_le (hX20 _ _ _ _ _ hw) ⟨rfl, rfl, rfl, trivial⟩
def xw_X2_product (AT : XN → Nat → Nat → (Nat → XN → Prop) → (XN → Prop) → Prop) (ν : XN) (k n : Nat) (Q : Nat → XN → Prop) (E : XN → Prop) : Prop :=
  (∃ k5 n6, k5 + 1 ≤ k ∧ n6 + 2 ≤ n ∧ ∀ q1, rk ν.2 q1 = 0 → ∀ ν3, ν3 = (ν.1, tN ν.2 q1 12 0) → (∃ k10 n11 k12 n13, k10 + k12 ≤ k5 ∧ n11 + n13 ≤ n6 ∧ xw_X11_init q1 ν3 k10 n11 (fun ν9 => (∃ k18 n19 k20 n21, k18 + k20 ≤ k12 ∧ n19 + n21 ≤ n13 ∧ AT ν9 k18 n19 (fun r17 ν16 => (rc ν16.2 q1 = 12 ∧ (∃ k26 n27 k28 n29, k26 + k28 ≤ k20 ∧ n27 + n29 ≤ n21 ∧ xw_X11_add q1 (42 : Int32) r17 ν16 k26 n27 (fun ν24 => xw_X2_product_20 AT q1 (1 : Int32) ν24 k28 n29 Q E)))) E))))
theorem xt_X2_product {κ : Cx} {S : Adr} {A : Nat → Prop} {mc ms : Nat} {Z : State → Prop} {Q : Nat → XN → Prop} {dA : Nat} {AT : XN → Nat → Nat → (Nat → XN → Prop) → (XN → Prop) → Prop} (hAT : ∀ l ν k n Q E, AT ν k n Q E → xMetX l S A (dA) k n 0 yX2_atom [.ref (S.2.1 1)] ν (pA Q) E) (h : XCx κ cX2_product RX2 S A (dA + 10) mc ms) (hT : (cxT κ).sig.returnType = some (.object "ShrugHills$Value")) (hN : (cxT κ).name = "product") (hR : xRet κ S A mc ms Z cX2_product (pA Q)) {E : XN → Prop} (hO : xOut κ S A mc ms Z E) {ν : XN} {k n : Nat} (hw : xw_X2_product AT ν k n Q E) : XG κ S A mc ms Z 0 (ν, k, n) [some (.ref (S.2.1 1)), none, none] [] := by
  unfold xw_X2_product at hw
  obtain ⟨k5, n6, a7, a8, hw⟩ := hw
  refine xn_X2_268 0 a7 a8 h dX2_product_0 (fun q1 e2 ν3 e4 => ?_)
  have hw := hw q1 e2 ν3 e4
  refine g_dup 3 rfl h.1 dX2_product_3 ?_
  obtain ⟨k10, n11, k12, n13, a14, a15, hw⟩ := hw
  refine xcIN_V_0 4 h (xm_X11_init h.2.2.1 hw) (by omega) a14 a15 rfl q1025 q1024 (Nat.le_of_ble_eq_true rfl) dX2_product_4 (fun ν9 hw => ?_)
  refine g_astore_1 7 h.1 rfl dX2_product_7 ?_
  refine g_aload_1 8 h.1 dX2_product_8 ?_
  refine g_bipush 9 _ bp_42 h.1 dX2_product_9 ?_
  refine g_aload_0 11 h.1 dX2_product_11 ?_
  obtain ⟨k18, n19, k20, n21, a22, a23, hw⟩ := hw
  refine xcX_A_0 12 h (hAT _ _ _ _ _ _ hw) (by omega) a22 a23 q1069 qs29 (fun H hI => x_recvK h rfl rfl hI) q1067 (Nat.le_of_ble_eq_true rfl) dX2_product_12 (fun r17 ν16 hw => ?_) (fun _ he => hO _ _ _ _ _ he)
  obtain ⟨f25, hw⟩ := hw
  obtain ⟨k26, n27, k28, n29, a30, a31, hw⟩ := hw
  refine xcV_V_2 15 h (xm_X11_add h.2.2.1 hw) (by omega) a30 a31 q1142 q1143 (fun H hI => x_recvR h f25 rfl hI) q1141 (Nat.le_of_ble_eq_true rfl) dX2_product_15 (fun ν24 hw => ?_)
  refine g_iconstv 18 _ ic_1 h.1 dX2_product_18 ?_
  refine g_istore_2 19 h.1 rfl dX2_product_19 ?_
  exact g_le (xt_X2_product_20 hAT h hT hN hR hO hw) ⟨rfl, rfl, rfl, trivial⟩
theorem xm_X2_product {l : Launch} {S : Adr} {A : Nat → Prop} {dA : Nat} {AT : XN → Nat → Nat → (Nat → XN → Prop) → (XN → Prop) → Prop} (hAT : ∀ l ν k n Q E, AT ν k n Q E → xMetX l S A (dA) k n 0 yX2_atom [.ref (S.2.1 1)] ν (pA Q) E) (hD : FD xT S xcl A) {ν : XN} {k n : Nat} {Q : Nat → XN → Prop} {E : XN → Prop} (hw : xw_X2_product AT ν k n Q E) : xMetX l S A (dA + 10) k n 0 yX2_product [.ref (S.2.1 1)] ν (pA Q) E :=
  x_startX (by decide) hD ⟨⟨by decide, by decide, by show _ = some 0; decide +kernel⟩, by decide, q1066, q176⟩ (Nat.le_of_ble_eq_true rfl) (fun κ Z h hT hN hR hO => xt_X2_product hAT h hT hN hR hO hw)
def xw_X2_sum_20 (AT : XN → Nat → Nat → (Nat → XN → Prop) → (XN → Prop) → Prop) (x1 : Nat) (x2 : Int32) (ν : XN) (k n : Nat) (Q : Nat → XN → Prop) (E : XN → Prop) : Prop :=
  ∀ X20 : Nat → Int32 → XN → Nat → Nat → Prop, (∀ (x1 : Nat) (x2 : Int32) (ν : XN) (k n : Nat), ((x2 = 0 → Q x1 ν) ∧ (¬ x2 = 0 → (xw_X2_takes (43 : Int32) ν (fun r33 ν32 => ((r33 = 0 → (xw_X2_takes (45 : Int32) ν32 (fun r35 ν34 => ((r35 = 0 → X20 x1 (0 : Int32) ν34 k n) ∧ (¬ r35 = 0 → (∃ k38 n39 k40 n41, k38 + k40 ≤ k ∧ n39 + n41 ≤ n ∧ xw_X2_product AT ν34 k38 n39 (fun r37 ν36 => (rc ν36.2 x1 = 12 ∧ (∃ k46 n47 k48 n49, k46 + k48 ≤ k40 ∧ n47 + n49 ≤ n41 ∧ xw_X11_add x1 (45 : Int32) r37 ν36 k46 n47 (fun ν44 => X20 x1 x2 ν44 k48 n49)))) E)))))) ∧ (¬ r33 = 0 → (∃ k54 n55 k56 n57, k54 + k56 ≤ k ∧ n55 + n57 ≤ n ∧ xw_X2_product AT ν32 k54 n55 (fun r53 ν52 => (rc ν52.2 x1 = 12 ∧ (∃ k62 n63 k64 n65, k62 + k64 ≤ k56 ∧ n63 + n65 ≤ n57 ∧ xw_X11_add x1 (43 : Int32) r53 ν52 k62 n63 (fun ν60 => X20 x1 x2 ν60 k64 n65)))) E))))))) → X20 x1 x2 ν k n) → X20 x1 x2 ν k n
theorem xt_X2_sum_20 {κ : Cx} {S : Adr} {A : Nat → Prop} {mc ms : Nat} {Z : State → Prop} {Q : Nat → XN → Prop} {dA : Nat} {AT : XN → Nat → Nat → (Nat → XN → Prop) → (XN → Prop) → Prop} (hAT : ∀ l ν k n Q E, AT ν k n Q E → xMetX l S A (dA) k n 0 yX2_atom [.ref (S.2.1 1)] ν (pA Q) E) (h : XCx κ cX2_sum RX2 S A (dA + 11) mc ms) (hT : (cxT κ).sig.returnType = some (.object "ShrugHills$Value")) (hN : (cxT κ).name = "sum") (hR : xRet κ S A mc ms Z cX2_sum (pA Q)) {E : XN → Prop} (hO : xOut κ S A mc ms Z E) {x1 : Nat} {x2 : Int32} {ν : XN} {k n : Nat} (hw : xw_X2_sum_20 AT x1 x2 ν k n Q E) : XG κ S A mc ms Z 20 (ν, k, n) [some (.ref (S.2.1 1)), some (.ref x1), some (.int x2)] [] := by
  refine hw (fun x1 x2 ν k n => XG κ S A mc ms Z 20 (ν, k, n) [some (.ref (S.2.1 1)), some (.ref x1), some (.int x2)] []) ?_
  clear hw
  intro x1 x2 ν k n hw
  have hX20 : ∀ (x1 : Nat) (x2 : Int32) (ν : XN) (k n : Nat), XG κ S A mc ms Z 20 (ν, k, n) [some (.ref (S.2.1 1)), some (.ref x1), some (.int x2)] [] → XG κ S A mc ms Z 20 (ν, k, n) [some (.ref (S.2.1 1)), some (.ref x1), some (.int x2)] [] := fun _ _ _ _ _ hh => hh
  refine g_iload_2 20 h.1 dX2_sum_20 ?_
  refine g_if_eq 21 73 h.1 dX2_sum_21 (by decide) (fun c => ?_) (fun c => ?_)
  · have hw := hw.1 c
    refine g_aload_1 73 h.1 dX2_sum_73 ?_
    exact hR.2.2.2 74 (some x1) _ _ _ _ _ hT (by first | exact Or.inl ⟨_, rfl⟩ | exact Or.inr ⟨_, rfl⟩) dX2_sum_74 ⟨_, rfl, hw⟩
  · have hw := hw.2 c
    refine g_aload_0 24 h.1 dX2_sum_24 ?_
    refine g_bipush 25 _ bp_43 h.1 dX2_sum_25 ?_
    refine xcV_I_1 27 h (xm_X2_takes h.2.2.1 hw) (by omega) (Nat.le_of_eq (Nat.zero_add _)) (Nat.le_of_eq (Nat.zero_add _)) q1204 qs33 (fun H hI => x_recvK h rfl rfl hI) q1202 (Nat.le_of_ble_eq_true rfl) dX2_sum_27 (fun r33 ν32 hw => ?_)
    refine g_if_eq 30 46 h.1 dX2_sum_30 (by decide) (fun c => ?_) (fun c => ?_)
    · have hw := hw.1 c
      refine g_aload_0 46 h.1 dX2_sum_46 ?_
      refine g_bipush 47 _ bp_45 h.1 dX2_sum_47 ?_
      refine xcV_I_1 49 h (xm_X2_takes h.2.2.1 hw) (by omega) (Nat.le_of_eq (Nat.zero_add _)) (Nat.le_of_eq (Nat.zero_add _)) q1204 qs33 (fun H hI => x_recvK h rfl rfl hI) q1202 (Nat.le_of_ble_eq_true rfl) dX2_sum_49 (fun r35 ν34 hw => ?_)
      refine g_if_eq 52 68 h.1 dX2_sum_52 (by decide) (fun c => ?_) (fun c => ?_)
      · have hw := hw.1 c
        refine g_iconstv 68 _ ic_0 h.1 dX2_sum_68 ?_
        refine g_istore_2 69 h.1 rfl dX2_sum_69 ?_
        refine g_goto 70 20 h.1 dX2_sum_70 (by decide) ?_
        exact g_le (hX20 _ _ _ _ _ hw) ⟨rfl, rfl, rfl, trivial⟩
      · have hw := hw.2 c
        refine g_aload_1 55 h.1 dX2_sum_55 ?_
        refine g_bipush 56 _ bp_45 h.1 dX2_sum_56 ?_
        refine g_aload_0 58 h.1 dX2_sum_58 ?_
        obtain ⟨k38, n39, k40, n41, a42, a43, hw⟩ := hw
        refine xcX_A_0 59 h (xm_X2_product hAT h.2.2.1 hw) (by omega) a42 a43 q1065 qs28 (fun H hI => x_recvK h rfl rfl hI) q1063 (Nat.le_of_ble_eq_true rfl) dX2_sum_59 (fun r37 ν36 hw => ?_) (fun _ he => hO _ _ _ _ _ he)
        obtain ⟨f45, hw⟩ := hw
        obtain ⟨k46, n47, k48, n49, a50, a51, hw⟩ := hw
        refine xcV_V_2 62 h (xm_X11_add h.2.2.1 hw) (by omega) a50 a51 q1142 q1143 (fun H hI => x_recvR h f45 rfl hI) q1141 (Nat.le_of_ble_eq_true rfl) dX2_sum_62 (fun ν44 hw => ?_)
        refine g_goto 65 20 h.1 dX2_sum_65 (by decide) ?_
        exact g_le (hX20 _ _ _ _ _ hw) ⟨rfl, rfl, rfl, trivial⟩
    · have hw := hw.2 c
      refine g_aload_1 33 h.1 dX2_sum_33 ?_
      refine g_bipush 34 _ bp_43 h.1 dX2_sum_34 ?_
      refine g_aload_0 36 h.1 dX2_sum_36 ?_
      obtain ⟨k54, n55, k56, n57, a58, a59, hw⟩ := hw
      refine xcX_A_0 37 h (xm_X2_product hAT h.2.2.1 hw) (by omega) a58 a59 q1065 qs28 (fun H hI => x_recvK h rfl rfl hI) q1063 (Nat.le_of_ble_eq_true rfl) dX2_sum_37 (fun r53 ν52 hw => ?_) (fun _ he => hO _ _ _ _ _ he)
      obtain ⟨f61, hw⟩ := hw
      obtain ⟨k62, n63, k64, n65, a66, a67, hw⟩ := hw
      refine xcV_V_2 40 h (xm_X11_add h.2.2.1 hw) (by omega) a66 a67 q1142 q1143 (fun H hI => x_recvR h f61 rfl hI) q1141 (Nat.le_of_ble_eq_true rfl) dX2_sum_40 (fun ν60 hw => ?_)
      refine g_goto 43 20 h.1 dX2_sum_43 (by decide) ?_
      exact g_le (hX20 _ _ _ _ _ hw) ⟨rfl, rfl, rfl, trivial⟩
def xw_X2_sum (AT : XN → Nat → Nat → (Nat → XN → Prop) → (XN → Prop) → Prop) (ν : XN) (k n : Nat) (Q : Nat → XN → Prop) (E : XN → Prop) : Prop :=
  (∃ k5 n6, k5 + 1 ≤ k ∧ n6 + 2 ≤ n ∧ ∀ q1, rk ν.2 q1 = 0 → ∀ ν3, ν3 = (ν.1, tN ν.2 q1 12 0) → (∃ k10 n11 k12 n13, k10 + k12 ≤ k5 ∧ n11 + n13 ≤ n6 ∧ xw_X11_init q1 ν3 k10 n11 (fun ν9 => (∃ k18 n19 k20 n21, k18 + k20 ≤ k12 ∧ n19 + n21 ≤ n13 ∧ xw_X2_product AT ν9 k18 n19 (fun r17 ν16 => (rc ν16.2 q1 = 12 ∧ (∃ k26 n27 k28 n29, k26 + k28 ≤ k20 ∧ n27 + n29 ≤ n21 ∧ xw_X11_add q1 (43 : Int32) r17 ν16 k26 n27 (fun ν24 => xw_X2_sum_20 AT q1 (1 : Int32) ν24 k28 n29 Q E)))) E))))
theorem xt_X2_sum {κ : Cx} {S : Adr} {A : Nat → Prop} {mc ms : Nat} {Z : State → Prop} {Q : Nat → XN → Prop} {dA : Nat} {AT : XN → Nat → Nat → (Nat → XN → Prop) → (XN → Prop) → Prop} (hAT : ∀ l ν k n Q E, AT ν k n Q E → xMetX l S A (dA) k n 0 yX2_atom [.ref (S.2.1 1)] ν (pA Q) E) (h : XCx κ cX2_sum RX2 S A (dA + 11) mc ms) (hT : (cxT κ).sig.returnType = some (.object "ShrugHills$Value")) (hN : (cxT κ).name = "sum") (hR : xRet κ S A mc ms Z cX2_sum (pA Q)) {E : XN → Prop} (hO : xOut κ S A mc ms Z E) {ν : XN} {k n : Nat} (hw : xw_X2_sum AT ν k n Q E) : XG κ S A mc ms Z 0 (ν, k, n) [some (.ref (S.2.1 1)), none, none] [] := by
  unfold xw_X2_sum at hw
  obtain ⟨k5, n6, a7, a8, hw⟩ := hw
  refine xn_X2_268 0 a7 a8 h dX2_sum_0 (fun q1 e2 ν3 e4 => ?_)
  have hw := hw q1 e2 ν3 e4
  refine g_dup 3 rfl h.1 dX2_sum_3 ?_
  obtain ⟨k10, n11, k12, n13, a14, a15, hw⟩ := hw
  refine xcIN_V_0 4 h (xm_X11_init h.2.2.1 hw) (by omega) a14 a15 rfl q1025 q1024 (Nat.le_of_ble_eq_true rfl) dX2_sum_4 (fun ν9 hw => ?_)
  refine g_astore_1 7 h.1 rfl dX2_sum_7 ?_
  refine g_aload_1 8 h.1 dX2_sum_8 ?_
  refine g_bipush 9 _ bp_43 h.1 dX2_sum_9 ?_
  refine g_aload_0 11 h.1 dX2_sum_11 ?_
  obtain ⟨k18, n19, k20, n21, a22, a23, hw⟩ := hw
  refine xcX_A_0 12 h (xm_X2_product hAT h.2.2.1 hw) (by omega) a22 a23 q1065 qs28 (fun H hI => x_recvK h rfl rfl hI) q1063 (Nat.le_of_ble_eq_true rfl) dX2_sum_12 (fun r17 ν16 hw => ?_) (fun _ he => hO _ _ _ _ _ he)
  obtain ⟨f25, hw⟩ := hw
  obtain ⟨k26, n27, k28, n29, a30, a31, hw⟩ := hw
  refine xcV_V_2 15 h (xm_X11_add h.2.2.1 hw) (by omega) a30 a31 q1142 q1143 (fun H hI => x_recvR h f25 rfl hI) q1141 (Nat.le_of_ble_eq_true rfl) dX2_sum_15 (fun ν24 hw => ?_)
  refine g_iconstv 18 _ ic_1 h.1 dX2_sum_18 ?_
  refine g_istore_2 19 h.1 rfl dX2_sum_19 ?_
  exact g_le (xt_X2_sum_20 hAT h hT hN hR hO hw) ⟨rfl, rfl, rfl, trivial⟩
theorem xm_X2_sum {l : Launch} {S : Adr} {A : Nat → Prop} {dA : Nat} {AT : XN → Nat → Nat → (Nat → XN → Prop) → (XN → Prop) → Prop} (hAT : ∀ l ν k n Q E, AT ν k n Q E → xMetX l S A (dA) k n 0 yX2_atom [.ref (S.2.1 1)] ν (pA Q) E) (hD : FD xT S xcl A) {ν : XN} {k n : Nat} {Q : Nat → XN → Prop} {E : XN → Prop} (hw : xw_X2_sum AT ν k n Q E) : xMetX l S A (dA + 11) k n 0 yX2_sum [.ref (S.2.1 1)] ν (pA Q) E :=
  x_startX (by decide) hD ⟨⟨by decide, by decide, by show _ = some 0; decide +kernel⟩, by decide, q1021, q176⟩ (Nat.le_of_ble_eq_true rfl) (fun κ Z h hT hN hR hO => xt_X2_sum hAT h hT hN hR hO hw)
def xw_X2_once_10 (AT : XN → Nat → Nat → (Nat → XN → Prop) → (XN → Prop) → Prop) (x2 : Int32) (x3 : Int32) (y0 : Int32) (ν : XN) (k n : Nat) (Q : Nat → XN → Prop) (E : XN → Prop) : Prop :=
  (xw_X2_most y0 x2 ν (fun ν3 => (∀ ν4, ν4 = (sI ν3.1 1 5 x3, ν3.2) → (∃ k8 n9 k10 n11, k8 + k10 ≤ k ∧ n9 + n11 ≤ n ∧ xw_X2_sum AT ν4 k8 n9 (fun r7 ν6 => Q r7 ν6) E))) E)
theorem xt_X2_once_10 {κ : Cx} {S : Adr} {A : Nat → Prop} {mc ms : Nat} {Z : State → Prop} {Q : Nat → XN → Prop} {dA : Nat} {AT : XN → Nat → Nat → (Nat → XN → Prop) → (XN → Prop) → Prop} (hAT : ∀ l ν k n Q E, AT ν k n Q E → xMetX l S A (dA) k n 0 yX2_atom [.ref (S.2.1 1)] ν (pA Q) E) (h : XCx κ cX2_once RX2 S A (dA + 12) mc ms) (hT : (cxT κ).sig.returnType = some (.object "ShrugHills$Value")) (hN : (cxT κ).name = "once") (hR : xRet κ S A mc ms Z cX2_once (pA Q)) {E : XN → Prop} (hO : xOut κ S A mc ms Z E) {x2 : Int32} {x3 : Int32} {y0 : Int32} {ν : XN} {k n : Nat} (hw : xw_X2_once_10 AT x2 x3 y0 ν k n Q E) : XG κ S A mc ms Z 10 (ν, k, n) [some (.ref (S.2.1 1)), none, some (.int x2), some (.int x3)] [.int y0, .ref (S.2.1 1)] := by
  unfold xw_X2_once_10 at hw
  refine g_iload_2 10 h.1 dX2_once_10 ?_
  refine xcX_V_2 11 h (xm_X2_most h.2.2.1 hw) (by omega) (Nat.le_of_eq (Nat.zero_add _)) (Nat.le_of_eq (Nat.zero_add _)) q718 qs13 (fun H hI => x_recvK h rfl rfl hI) q716 (Nat.le_of_ble_eq_true rfl) dX2_once_11 (fun ν3 hw => ?_) (fun _ he => hO _ _ _ _ _ he)
  refine g_aload_0 14 h.1 dX2_once_14 ?_
  refine g_iload_3 15 h.1 dX2_once_15 ?_
  refine xp_X2_235_2 16 h dX2_once_16 (fun ν4 e5 => ?_)
  have hw := hw ν4 e5
  refine g_aload_0 19 h.1 dX2_once_19 ?_
  obtain ⟨k8, n9, k10, n11, a12, a13, hw⟩ := hw
  refine xcX_A_0 20 h (xm_X2_sum hAT h.2.2.1 hw) (by omega) a12 a13 q1020 qs27 (fun H hI => x_recvK h rfl rfl hI) q1018 (Nat.le_of_ble_eq_true rfl) dX2_once_20 (fun r7 ν6 hw => ?_) (fun _ he => hO _ _ _ _ _ he)
  exact hR.2.2.2 23 (some r7) _ _ _ _ _ hT (by first | exact Or.inl ⟨_, rfl⟩ | exact Or.inr ⟨_, rfl⟩) dX2_once_23 ⟨_, rfl, hw⟩
def xw_X2_once (AT : XN → Nat → Nat → (Nat → XN → Prop) → (XN → Prop) → Prop) (x1 : (Option Nat)) (x2 : Int32) (x3 : Int32) (ν : XN) (k n : Nat) (Q : Nat → XN → Prop) (E : XN → Prop) : Prop :=
  ((x1 = none → xw_X2_once_10 AT x2 x3 (0 : Int32) ν k n Q E) ∧ (∀ b1, x1 = some b1 → xw_X2_once_10 AT x2 x3 (1 : Int32) ν k n Q E))
theorem xt_X2_once {κ : Cx} {S : Adr} {A : Nat → Prop} {mc ms : Nat} {Z : State → Prop} {Q : Nat → XN → Prop} {dA : Nat} {AT : XN → Nat → Nat → (Nat → XN → Prop) → (XN → Prop) → Prop} (hAT : ∀ l ν k n Q E, AT ν k n Q E → xMetX l S A (dA) k n 0 yX2_atom [.ref (S.2.1 1)] ν (pA Q) E) (h : XCx κ cX2_once RX2 S A (dA + 12) mc ms) (hT : (cxT κ).sig.returnType = some (.object "ShrugHills$Value")) (hN : (cxT κ).name = "once") (hR : xRet κ S A mc ms Z cX2_once (pA Q)) {E : XN → Prop} (hO : xOut κ S A mc ms Z E) {x1 : (Option Nat)} {x2 : Int32} {x3 : Int32} {ν : XN} {k n : Nat} (hw : xw_X2_once AT x1 x2 x3 ν k n Q E) : XG κ S A mc ms Z 0 (ν, k, n) [some (.ref (S.2.1 1)), some (va_rf x1), some (.int x2), some (.int x3)] [] := by
  unfold xw_X2_once at hw
  refine g_aload_0 0 h.1 dX2_once_0 ?_
  refine g_oload_1 1 h.1 dX2_once_1 ?_
  refine g_ifnull 2 9 h.1 dX2_once_2 (by decide) (fun c => ?_) (fun b1 c => ?_)
  · have hw := hw.1 c
    refine g_iconstv 9 _ ic_0 h.1 dX2_once_9 ?_
    exact g_le (xt_X2_once_10 hAT h hT hN hR hO hw) ⟨rfl, rfl, rfl, trivial⟩
  · have hw := hw.2 b1 c
    refine g_iconstv 5 _ ic_1 h.1 dX2_once_5 ?_
    refine g_goto 6 10 h.1 dX2_once_6 (by decide) ?_
    exact g_le (xt_X2_once_10 hAT h hT hN hR hO hw) ⟨rfl, rfl, rfl, trivial⟩
theorem xm_X2_once {l : Launch} {S : Adr} {A : Nat → Prop} {dA : Nat} {AT : XN → Nat → Nat → (Nat → XN → Prop) → (XN → Prop) → Prop} (hAT : ∀ l ν k n Q E, AT ν k n Q E → xMetX l S A (dA) k n 0 yX2_atom [.ref (S.2.1 1)] ν (pA Q) E) (hD : FD xT S xcl A) {x1 : (Option Nat)} {x2 : Int32} {x3 : Int32} {ν : XN} {k n : Nat} {Q : Nat → XN → Prop} {E : XN → Prop} (hw : xw_X2_once AT x1 x2 x3 ν k n Q E) : xMetX l S A (dA + 12) k n 3 yX2_once [.ref (S.2.1 1), va_rf x1, .int x2, .int x3] ν (pA Q) E :=
  by cases x1 <;> exact x_startX (by decide) hD ⟨⟨by decide, by decide, by show _ = some 3; decide +kernel⟩, by decide, q1017, q176⟩ (Nat.le_of_ble_eq_true rfl) (fun κ Z h hT hN hR hO => xt_X2_once hAT h hT hN hR hO hw)
def xw_X2_passes (x1 : Nat) (ν : XN) (k n : Nat) (Q : Int32 → XN → Prop) (E : XN → Prop) : Prop :=
  (xw_X2_here ν (fun r2 ν1 => (xw_X0_isLetter r2 ν1 (fun r4 ν3 => ((¬ r4 = 0 → (∃ k7 n8 k9 n10, k7 + k9 ≤ k ∧ n8 + n10 ≤ n ∧ xw_X2_word_2 ν3 k7 n8 (fun r6 ν5 => (rc ν5.2 r6 = 11 ∧ (xw_J6_equals r6 x1 ν5 (fun r14 ν13 => ((r14 = 0 → (∀ ν16, ν16 = (sI ν13.1 1 2 (fI ν.1 1 2), ν13.2) → Q (0 : Int32) ν16)) ∧ (¬ r14 = 0 → Q (1 : Int32) ν13)))))) E)) ∧ (r4 = 0 → Q (0 : Int32) ν3))))))
theorem xt_X2_passes {κ : Cx} {S : Adr} {A : Nat → Prop} {mc ms : Nat} {Z : State → Prop} {Q : Int32 → XN → Prop} (h : XCx κ cX2_passes RX2 S A 10 mc ms) (hT : (cxT κ).sig.returnType = some .boolean) (hN : (cxT κ).name = "passes") (hR : xRet κ S A mc ms Z cX2_passes (pI Q)) {E : XN → Prop} (hO : xOut κ S A mc ms Z E) {x1 : Nat} {ν : XN} {k n : Nat} (hw : xw_X2_passes x1 ν k n Q E) : XG κ S A mc ms Z 0 (ν, k, n) [some (.ref (S.2.1 1)), some (.ref x1), none] [] := by
  unfold xw_X2_passes at hw
  refine g_aload_0 0 h.1 dX2_passes_0 ?_
  refine xg_X2_36_2 1 h dX2_passes_1 ?_
  refine g_istore_2 4 h.1 rfl dX2_passes_4 ?_
  refine g_aload_0 5 h.1 dX2_passes_5 ?_
  refine xcV_I_0 6 h (xm_X2_here h.2.2.1 hw) (by decide) (Nat.le_of_eq (Nat.zero_add _)) (Nat.le_of_eq (Nat.zero_add _)) q595 qs6 (fun H hI => x_recvK h rfl rfl hI) q593 (Nat.le_of_ble_eq_true rfl) dX2_passes_6 (fun r2 ν1 hw => ?_)
  refine xcSN_I_1 9 h (xm_X0_isLetter h.2.2.1 hw) (by decide) (Nat.le_of_eq (Nat.zero_add _)) (Nat.le_of_eq (Nat.zero_add _)) q602 q601 (Nat.le_of_ble_eq_true rfl) dX2_passes_9 (fun r4 ν3 hw => ?_)
  refine g_if_ne 12 17 h.1 dX2_passes_12 (by decide) (fun c => ?_) (fun c => ?_)
  · have hw := hw.1 c
    refine g_aload_0 17 h.1 dX2_passes_17 ?_
    obtain ⟨k7, n8, k9, n10, a11, a12, hw⟩ := hw
    refine xcX_A_0 18 h (xm_X2_word_2 h.2.2.1 hw) (by decide) a11 a12 q591 qs5 (fun H hI => x_recvK h rfl rfl hI) q589 (Nat.le_of_ble_eq_true rfl) dX2_passes_18 (fun r6 ν5 hw => ?_) (fun _ he => hO _ _ _ _ _ he)
    refine g_aload_1 21 h.1 dX2_passes_21 ?_
    obtain ⟨f15, hw⟩ := hw
    refine xcV_I_1 22 h (xm_J6_equals h.2.2.1 hw) (by decide) (Nat.le_of_eq (Nat.zero_add _)) (Nat.le_of_eq (Nat.zero_add _)) q694 q695 (fun H hI => x_recvR h f15 rfl hI) q693 (Nat.le_of_ble_eq_true rfl) dX2_passes_22 (fun r14 ν13 hw => ?_)
    refine g_if_eq 25 30 h.1 dX2_passes_25 (by decide) (fun c => ?_) (fun c => ?_)
    · have hw := hw.1 c
      refine g_aload_0 30 h.1 dX2_passes_30 ?_
      refine g_iload_2 31 h.1 dX2_passes_31 ?_
      refine xp_X2_36_2 32 h dX2_passes_32 (fun ν16 e17 => ?_)
      have hw := hw ν16 e17
      refine g_iconstv 35 _ ic_0 h.1 dX2_passes_35 ?_
      exact hR.1 36 _ _ _ _ _ _ hT rfl dX2_passes_36 ⟨_, rfl, hw⟩
    · have hw := hw.2 c
      refine g_iconstv 28 _ ic_1 h.1 dX2_passes_28 ?_
      exact hR.1 29 _ _ _ _ _ _ hT rfl dX2_passes_29 ⟨_, rfl, hw⟩
  · have hw := hw.2 c
    refine g_iconstv 15 _ ic_0 h.1 dX2_passes_15 ?_
    exact hR.1 16 _ _ _ _ _ _ hT rfl dX2_passes_16 ⟨_, rfl, hw⟩
theorem xm_X2_passes {l : Launch} {S : Adr} {A : Nat → Prop} (hD : FD xT S xcl A) {x1 : Nat} {ν : XN} {k n : Nat} {Q : Int32 → XN → Prop} {E : XN → Prop} (hw : xw_X2_passes x1 ν k n Q E) : xMetX l S A 10 k n 1 yX2_passes [.ref (S.2.1 1), .ref x1] ν (pI Q) E :=
  x_startX (by decide) hD ⟨⟨by decide, by decide, by show _ = some 1; decide +kernel⟩, by decide, q1241, q176⟩ (Nat.le_of_ble_eq_true rfl) (fun κ Z h hT hN hR hO => xt_X2_passes h hT hN hR hO hw)
def xw_X2_both_23 (AT : XN → Nat → Nat → (Nat → XN → Prop) → (XN → Prop) → Prop) (FC : XN → Nat → Nat → (Nat → XN → Prop) → (XN → Prop) → Prop) (x1 : Nat) (ν : XN) (k n : Nat) (Q : Nat → XN → Prop) (E : XN → Prop) : Prop :=
  ∀ X23 : Nat → XN → Nat → Nat → Prop, (∀ (x1 : Nat) (ν : XN) (k n : Nat), (∀ b36, fR ν.1 900 17 = .ref b36 → (∃ k40 n41 k42 n43, k40 + k42 ≤ k ∧ n41 + n43 ≤ n ∧ xw_X2_passes b36 ν k40 n41 (fun r39 ν38 => ((r39 = 0 → Q x1 ν38) ∧ (¬ r39 = 0 → (rc ν38.2 x1 = 18 ∧ (∃ k49 n50 k51 n52, k49 + k51 ≤ k42 ∧ n50 + n52 ≤ n43 ∧ FC ν38 k49 n50 (fun r48 ν47 => (∃ b55, (rO ν38.2 x1 0) = some b55 ∧ (rc ν47.2 b55 = 7 ∧ (∃ k60 n61 k62 n63, k60 + k62 ≤ k51 ∧ n61 + n63 ≤ n52 ∧ xw_J2_add b55 r48 ν47 k60 n61 (fun r58 ν57 => X23 x1 ν57 k62 n63))))) E))))) E)) → X23 x1 ν k n) → X23 x1 ν k n
theorem xt_X2_both_23 {κ : Cx} {S : Adr} {A : Nat → Prop} {mc ms : Nat} {Z : State → Prop} {Q : Nat → XN → Prop} {dA : Nat} {AT : XN → Nat → Nat → (Nat → XN → Prop) → (XN → Prop) → Prop} (hAT : ∀ l ν k n Q E, AT ν k n Q E → xMetX l S A (dA) k n 0 yX2_atom [.ref (S.2.1 1)] ν (pA Q) E) {dF : Nat} {FC : XN → Nat → Nat → (Nat → XN → Prop) → (XN → Prop) → Prop} (hFC : ∀ l ν k n Q E, FC ν k n Q E → xMetX l S A (dA + dF) k n 0 yX2_fact [.ref (S.2.1 1)] ν (pA Q) E) (h : XCx κ cX2_both RX2 S A (dA + dF + 11) mc ms) (hT : (cxT κ).sig.returnType = some (.object "ShrugHills$Test")) (hN : (cxT κ).name = "both") (hR : xRet κ S A mc ms Z cX2_both (pA Q)) {E : XN → Prop} (hO : xOut κ S A mc ms Z E) {x1 : Nat} {ν : XN} {k n : Nat} (hw : xw_X2_both_23 AT FC x1 ν k n Q E) : XG κ S A mc ms Z 23 (ν, k, n) [some (.ref (S.2.1 1)), some (.ref x1)] [] := by
  refine hw (fun x1 ν k n => XG κ S A mc ms Z 23 (ν, k, n) [some (.ref (S.2.1 1)), some (.ref x1)] []) ?_
  clear hw
  intro x1 ν k n hw
  have hX23 : ∀ (x1 : Nat) (ν : XN) (k n : Nat), XG κ S A mc ms Z 23 (ν, k, n) [some (.ref (S.2.1 1)), some (.ref x1)] [] → XG κ S A mc ms Z 23 (ν, k, n) [some (.ref (S.2.1 1)), some (.ref x1)] [] := fun _ _ _ _ hh => hh
  refine g_aload_0 23 h.1 dX2_both_23 ?_
  refine x_ldcwS 24 17 rfl h dX2_both_24 (fun b36 e37 => ?_)
  have hw := hw b36 e37
  obtain ⟨k40, n41, k42, n43, a44, a45, hw⟩ := hw
  refine xcX_I_1 27 h (xm_X2_passes h.2.2.1 hw) (by omega) a44 a45 q1240 qs37 (fun H hI => x_recvK h rfl rfl hI) q1238 (Nat.le_of_ble_eq_true rfl) dX2_both_27 (fun r39 ν38 hw => ?_) (fun _ he => hO _ _ _ _ _ he)
  refine g_if_eq 30 50 h.1 dX2_both_30 (by decide) (fun c => ?_) (fun c => ?_)
  · have hw := hw.1 c
    refine g_aload_1 50 h.1 dX2_both_50 ?_
    exact hR.2.2.2 51 (some x1) _ _ _ _ _ hT (by first | exact Or.inl ⟨_, rfl⟩ | exact Or.inr ⟨_, rfl⟩) dX2_both_51 ⟨_, rfl, hw⟩
  · have hw := hw.2 c
    refine g_aload_1 33 h.1 dX2_both_33 ?_
    obtain ⟨f46, hw⟩ := hw
    refine xg_X2_322_17 34 f46 h dX2_both_34 ?_
    refine g_aload_0 37 h.1 dX2_both_37 ?_
    obtain ⟨k49, n50, k51, n52, a53, a54, hw⟩ := hw
    refine xcX_A_0 38 h (hFC _ _ _ _ _ _ hw) (by omega) a53 a54 q1235 qs36 (fun H hI => x_recvK h rfl rfl hI) q1233 (by simp only [List.map_cons, List.map_nil, cat_rf]; exact Nat.le_of_ble_eq_true rfl) dX2_both_38 (fun r48 ν47 hw => ?_) (fun _ he => hO _ _ _ _ _ he)
    obtain ⟨b55, e56, hw⟩ := hw
    rw [e56]
    obtain ⟨f59, hw⟩ := hw
    obtain ⟨k60, n61, k62, n63, a64, a65, hw⟩ := hw
    refine xcF_I_1 41 h h.2.1.2.2.1.2.2.1 (xm_J2_add h.2.2.1 hw) (by omega) a64 a65 ⟨by decide, by decide, by show _ = some 1; decide +kernel⟩ q864 q862 f59 q859 (Nat.le_of_ble_eq_true rfl) dX2_both_41 (fun r58 ν57 hw => ?_)
    refine g_pop 46 rfl h.1 dX2_both_46 ?_
    refine g_goto 47 23 h.1 dX2_both_47 (by decide) ?_
    exact g_le (hX23 _ _ _ _ hw) ⟨rfl, rfl, trivial⟩
def xw_X2_both (AT : XN → Nat → Nat → (Nat → XN → Prop) → (XN → Prop) → Prop) (FC : XN → Nat → Nat → (Nat → XN → Prop) → (XN → Prop) → Prop) (ν : XN) (k n : Nat) (Q : Nat → XN → Prop) (E : XN → Prop) : Prop :=
  (∃ k5 n6, k5 + 1 ≤ k ∧ n6 + 2 ≤ n ∧ ∀ q1, rk ν.2 q1 = 0 → ∀ ν3, ν3 = (ν.1, tN ν.2 q1 18 0) → (∃ k10 n11 k12 n13, k10 + k12 ≤ k5 ∧ n11 + n13 ≤ n6 ∧ xw_X17_init q1 (1 : Int32) ν3 k10 n11 (fun ν9 => (rc ν9.2 q1 = 18 ∧ (∃ k19 n20 k21 n22, k19 + k21 ≤ k12 ∧ n20 + n22 ≤ n13 ∧ FC ν9 k19 n20 (fun r18 ν17 => (∃ b25, (rO ν9.2 q1 0) = some b25 ∧ (rc ν17.2 b25 = 7 ∧ (∃ k30 n31 k32 n33, k30 + k32 ≤ k21 ∧ n31 + n33 ≤ n22 ∧ xw_J2_add b25 r18 ν17 k30 n31 (fun r28 ν27 => xw_X2_both_23 AT FC q1 ν27 k32 n33 Q E))))) E)))))
theorem xt_X2_both {κ : Cx} {S : Adr} {A : Nat → Prop} {mc ms : Nat} {Z : State → Prop} {Q : Nat → XN → Prop} {dA : Nat} {AT : XN → Nat → Nat → (Nat → XN → Prop) → (XN → Prop) → Prop} (hAT : ∀ l ν k n Q E, AT ν k n Q E → xMetX l S A (dA) k n 0 yX2_atom [.ref (S.2.1 1)] ν (pA Q) E) {dF : Nat} {FC : XN → Nat → Nat → (Nat → XN → Prop) → (XN → Prop) → Prop} (hFC : ∀ l ν k n Q E, FC ν k n Q E → xMetX l S A (dA + dF) k n 0 yX2_fact [.ref (S.2.1 1)] ν (pA Q) E) (h : XCx κ cX2_both RX2 S A (dA + dF + 11) mc ms) (hT : (cxT κ).sig.returnType = some (.object "ShrugHills$Test")) (hN : (cxT κ).name = "both") (hR : xRet κ S A mc ms Z cX2_both (pA Q)) {E : XN → Prop} (hO : xOut κ S A mc ms Z E) {ν : XN} {k n : Nat} (hw : xw_X2_both AT FC ν k n Q E) : XG κ S A mc ms Z 0 (ν, k, n) [some (.ref (S.2.1 1)), none] [] := by
  unfold xw_X2_both at hw
  obtain ⟨k5, n6, a7, a8, hw⟩ := hw
  refine xn_X2_317 0 a7 a8 h dX2_both_0 (fun q1 e2 ν3 e4 => ?_)
  have hw := hw q1 e2 ν3 e4
  refine g_dup 3 rfl h.1 dX2_both_3 ?_
  refine g_iconstv 4 _ ic_1 h.1 dX2_both_4 ?_
  obtain ⟨k10, n11, k12, n13, a14, a15, hw⟩ := hw
  refine xcI_V_1 5 h (xm_X17_init h.2.2.1 hw) (by omega) a14 a15 rfl q1213 q1212 (Nat.le_of_ble_eq_true rfl) dX2_both_5 (fun ν9 hw => ?_)
  refine g_astore_1 8 h.1 rfl dX2_both_8 ?_
  refine g_aload_1 9 h.1 dX2_both_9 ?_
  obtain ⟨f16, hw⟩ := hw
  refine xg_X2_322_17 10 f16 h dX2_both_10 ?_
  refine g_aload_0 13 h.1 dX2_both_13 ?_
  obtain ⟨k19, n20, k21, n22, a23, a24, hw⟩ := hw
  refine xcX_A_0 14 h (hFC _ _ _ _ _ _ hw) (by omega) a23 a24 q1235 qs36 (fun H hI => x_recvK h rfl rfl hI) q1233 (by simp only [List.map_cons, List.map_nil, cat_rf]; exact Nat.le_of_ble_eq_true rfl) dX2_both_14 (fun r18 ν17 hw => ?_) (fun _ he => hO _ _ _ _ _ he)
  obtain ⟨b25, e26, hw⟩ := hw
  rw [e26]
  obtain ⟨f29, hw⟩ := hw
  obtain ⟨k30, n31, k32, n33, a34, a35, hw⟩ := hw
  refine xcF_I_1 17 h h.2.1.2.2.1.2.2.1 (xm_J2_add h.2.2.1 hw) (by omega) a34 a35 ⟨by decide, by decide, by show _ = some 1; decide +kernel⟩ q864 q862 f29 q859 (Nat.le_of_ble_eq_true rfl) dX2_both_17 (fun r28 ν27 hw => ?_)
  refine g_pop 22 rfl h.1 dX2_both_22 ?_
  exact g_le (xt_X2_both_23 hAT hFC h hT hN hR hO hw) ⟨rfl, rfl, trivial⟩
theorem xm_X2_both {l : Launch} {S : Adr} {A : Nat → Prop} {dA : Nat} {AT : XN → Nat → Nat → (Nat → XN → Prop) → (XN → Prop) → Prop} (hAT : ∀ l ν k n Q E, AT ν k n Q E → xMetX l S A (dA) k n 0 yX2_atom [.ref (S.2.1 1)] ν (pA Q) E) {dF : Nat} {FC : XN → Nat → Nat → (Nat → XN → Prop) → (XN → Prop) → Prop} (hFC : ∀ l ν k n Q E, FC ν k n Q E → xMetX l S A (dA + dF) k n 0 yX2_fact [.ref (S.2.1 1)] ν (pA Q) E) (hD : FD xT S xcl A) {ν : XN} {k n : Nat} {Q : Nat → XN → Prop} {E : XN → Prop} (hw : xw_X2_both AT FC ν k n Q E) : xMetX l S A (dA + dF + 11) k n 0 yX2_both [.ref (S.2.1 1)] ν (pA Q) E :=
  x_startX (by decide) hD ⟨⟨by decide, by decide, by show _ = some 0; decide +kernel⟩, by decide, q1232, q176⟩ (Nat.le_of_ble_eq_true rfl) (fun κ Z h hT hN hR hO => xt_X2_both hAT hFC h hT hN hR hO hw)
def xw_X2_test_23 (AT : XN → Nat → Nat → (Nat → XN → Prop) → (XN → Prop) → Prop) (FC : XN → Nat → Nat → (Nat → XN → Prop) → (XN → Prop) → Prop) (x1 : Nat) (ν : XN) (k n : Nat) (Q : Nat → XN → Prop) (E : XN → Prop) : Prop :=
  ∀ X23 : Nat → XN → Nat → Nat → Prop, (∀ (x1 : Nat) (ν : XN) (k n : Nat), (∀ b36, fR ν.1 900 16 = .ref b36 → (∃ k40 n41 k42 n43, k40 + k42 ≤ k ∧ n41 + n43 ≤ n ∧ xw_X2_passes b36 ν k40 n41 (fun r39 ν38 => ((r39 = 0 → Q x1 ν38) ∧ (¬ r39 = 0 → (rc ν38.2 x1 = 18 ∧ (∃ k49 n50 k51 n52, k49 + k51 ≤ k42 ∧ n50 + n52 ≤ n43 ∧ xw_X2_both AT FC ν38 k49 n50 (fun r48 ν47 => (∃ b55, (rO ν38.2 x1 0) = some b55 ∧ (rc ν47.2 b55 = 7 ∧ (∃ k60 n61 k62 n63, k60 + k62 ≤ k51 ∧ n61 + n63 ≤ n52 ∧ xw_J2_add b55 r48 ν47 k60 n61 (fun r58 ν57 => X23 x1 ν57 k62 n63))))) E))))) E)) → X23 x1 ν k n) → X23 x1 ν k n
theorem xt_X2_test_23 {κ : Cx} {S : Adr} {A : Nat → Prop} {mc ms : Nat} {Z : State → Prop} {Q : Nat → XN → Prop} {dA : Nat} {AT : XN → Nat → Nat → (Nat → XN → Prop) → (XN → Prop) → Prop} (hAT : ∀ l ν k n Q E, AT ν k n Q E → xMetX l S A (dA) k n 0 yX2_atom [.ref (S.2.1 1)] ν (pA Q) E) {dF : Nat} {FC : XN → Nat → Nat → (Nat → XN → Prop) → (XN → Prop) → Prop} (hFC : ∀ l ν k n Q E, FC ν k n Q E → xMetX l S A (dA + dF) k n 0 yX2_fact [.ref (S.2.1 1)] ν (pA Q) E) (h : XCx κ cX2_test RX2 S A (dA + dF + 12) mc ms) (hT : (cxT κ).sig.returnType = some (.object "ShrugHills$Test")) (hN : (cxT κ).name = "test") (hR : xRet κ S A mc ms Z cX2_test (pA Q)) {E : XN → Prop} (hO : xOut κ S A mc ms Z E) {x1 : Nat} {ν : XN} {k n : Nat} (hw : xw_X2_test_23 AT FC x1 ν k n Q E) : XG κ S A mc ms Z 23 (ν, k, n) [some (.ref (S.2.1 1)), some (.ref x1)] [] := by
  refine hw (fun x1 ν k n => XG κ S A mc ms Z 23 (ν, k, n) [some (.ref (S.2.1 1)), some (.ref x1)] []) ?_
  clear hw
  intro x1 ν k n hw
  have hX23 : ∀ (x1 : Nat) (ν : XN) (k n : Nat), XG κ S A mc ms Z 23 (ν, k, n) [some (.ref (S.2.1 1)), some (.ref x1)] [] → XG κ S A mc ms Z 23 (ν, k, n) [some (.ref (S.2.1 1)), some (.ref x1)] [] := fun _ _ _ _ hh => hh
  refine g_aload_0 23 h.1 dX2_test_23 ?_
  refine x_ldcwS 24 16 rfl h dX2_test_24 (fun b36 e37 => ?_)
  have hw := hw b36 e37
  obtain ⟨k40, n41, k42, n43, a44, a45, hw⟩ := hw
  refine xcX_I_1 27 h (xm_X2_passes h.2.2.1 hw) (by omega) a44 a45 q1240 qs37 (fun H hI => x_recvK h rfl rfl hI) q1238 (Nat.le_of_ble_eq_true rfl) dX2_test_27 (fun r39 ν38 hw => ?_) (fun _ he => hO _ _ _ _ _ he)
  refine g_if_eq 30 50 h.1 dX2_test_30 (by decide) (fun c => ?_) (fun c => ?_)
  · have hw := hw.1 c
    refine g_aload_1 50 h.1 dX2_test_50 ?_
    exact hR.2.2.2 51 (some x1) _ _ _ _ _ hT (by first | exact Or.inl ⟨_, rfl⟩ | exact Or.inr ⟨_, rfl⟩) dX2_test_51 ⟨_, rfl, hw⟩
  · have hw := hw.2 c
    refine g_aload_1 33 h.1 dX2_test_33 ?_
    obtain ⟨f46, hw⟩ := hw
    refine xg_X2_322_17 34 f46 h dX2_test_34 ?_
    refine g_aload_0 37 h.1 dX2_test_37 ?_
    obtain ⟨k49, n50, k51, n52, a53, a54, hw⟩ := hw
    refine xcX_A_0 38 h (xm_X2_both hAT hFC h.2.2.1 hw) (by omega) a53 a54 q1231 qs35 (fun H hI => x_recvK h rfl rfl hI) q1229 (by simp only [List.map_cons, List.map_nil, cat_rf]; exact Nat.le_of_ble_eq_true rfl) dX2_test_38 (fun r48 ν47 hw => ?_) (fun _ he => hO _ _ _ _ _ he)
    obtain ⟨b55, e56, hw⟩ := hw
    rw [e56]
    obtain ⟨f59, hw⟩ := hw
    obtain ⟨k60, n61, k62, n63, a64, a65, hw⟩ := hw
    refine xcF_I_1 41 h h.2.1.2.2.1.2.2.1 (xm_J2_add h.2.2.1 hw) (by omega) a64 a65 ⟨by decide, by decide, by show _ = some 1; decide +kernel⟩ q864 q862 f59 q859 (Nat.le_of_ble_eq_true rfl) dX2_test_41 (fun r58 ν57 hw => ?_)
    refine g_pop 46 rfl h.1 dX2_test_46 ?_
    refine g_goto 47 23 h.1 dX2_test_47 (by decide) ?_
    exact g_le (hX23 _ _ _ _ hw) ⟨rfl, rfl, trivial⟩
def xw_X2_test (AT : XN → Nat → Nat → (Nat → XN → Prop) → (XN → Prop) → Prop) (FC : XN → Nat → Nat → (Nat → XN → Prop) → (XN → Prop) → Prop) (ν : XN) (k n : Nat) (Q : Nat → XN → Prop) (E : XN → Prop) : Prop :=
  (∃ k5 n6, k5 + 1 ≤ k ∧ n6 + 2 ≤ n ∧ ∀ q1, rk ν.2 q1 = 0 → ∀ ν3, ν3 = (ν.1, tN ν.2 q1 18 0) → (∃ k10 n11 k12 n13, k10 + k12 ≤ k5 ∧ n11 + n13 ≤ n6 ∧ xw_X17_init q1 (0 : Int32) ν3 k10 n11 (fun ν9 => (rc ν9.2 q1 = 18 ∧ (∃ k19 n20 k21 n22, k19 + k21 ≤ k12 ∧ n20 + n22 ≤ n13 ∧ xw_X2_both AT FC ν9 k19 n20 (fun r18 ν17 => (∃ b25, (rO ν9.2 q1 0) = some b25 ∧ (rc ν17.2 b25 = 7 ∧ (∃ k30 n31 k32 n33, k30 + k32 ≤ k21 ∧ n31 + n33 ≤ n22 ∧ xw_J2_add b25 r18 ν17 k30 n31 (fun r28 ν27 => xw_X2_test_23 AT FC q1 ν27 k32 n33 Q E))))) E)))))
theorem xt_X2_test {κ : Cx} {S : Adr} {A : Nat → Prop} {mc ms : Nat} {Z : State → Prop} {Q : Nat → XN → Prop} {dA : Nat} {AT : XN → Nat → Nat → (Nat → XN → Prop) → (XN → Prop) → Prop} (hAT : ∀ l ν k n Q E, AT ν k n Q E → xMetX l S A (dA) k n 0 yX2_atom [.ref (S.2.1 1)] ν (pA Q) E) {dF : Nat} {FC : XN → Nat → Nat → (Nat → XN → Prop) → (XN → Prop) → Prop} (hFC : ∀ l ν k n Q E, FC ν k n Q E → xMetX l S A (dA + dF) k n 0 yX2_fact [.ref (S.2.1 1)] ν (pA Q) E) (h : XCx κ cX2_test RX2 S A (dA + dF + 12) mc ms) (hT : (cxT κ).sig.returnType = some (.object "ShrugHills$Test")) (hN : (cxT κ).name = "test") (hR : xRet κ S A mc ms Z cX2_test (pA Q)) {E : XN → Prop} (hO : xOut κ S A mc ms Z E) {ν : XN} {k n : Nat} (hw : xw_X2_test AT FC ν k n Q E) : XG κ S A mc ms Z 0 (ν, k, n) [some (.ref (S.2.1 1)), none] [] := by
  unfold xw_X2_test at hw
  obtain ⟨k5, n6, a7, a8, hw⟩ := hw
  refine xn_X2_317 0 a7 a8 h dX2_test_0 (fun q1 e2 ν3 e4 => ?_)
  have hw := hw q1 e2 ν3 e4
  refine g_dup 3 rfl h.1 dX2_test_3 ?_
  refine g_iconstv 4 _ ic_0 h.1 dX2_test_4 ?_
  obtain ⟨k10, n11, k12, n13, a14, a15, hw⟩ := hw
  refine xcI_V_1 5 h (xm_X17_init h.2.2.1 hw) (by omega) a14 a15 rfl q1213 q1212 (Nat.le_of_ble_eq_true rfl) dX2_test_5 (fun ν9 hw => ?_)
  refine g_astore_1 8 h.1 rfl dX2_test_8 ?_
  refine g_aload_1 9 h.1 dX2_test_9 ?_
  obtain ⟨f16, hw⟩ := hw
  refine xg_X2_322_17 10 f16 h dX2_test_10 ?_
  refine g_aload_0 13 h.1 dX2_test_13 ?_
  obtain ⟨k19, n20, k21, n22, a23, a24, hw⟩ := hw
  refine xcX_A_0 14 h (xm_X2_both hAT hFC h.2.2.1 hw) (by omega) a23 a24 q1231 qs35 (fun H hI => x_recvK h rfl rfl hI) q1229 (by simp only [List.map_cons, List.map_nil, cat_rf]; exact Nat.le_of_ble_eq_true rfl) dX2_test_14 (fun r18 ν17 hw => ?_) (fun _ he => hO _ _ _ _ _ he)
  obtain ⟨b25, e26, hw⟩ := hw
  rw [e26]
  obtain ⟨f29, hw⟩ := hw
  obtain ⟨k30, n31, k32, n33, a34, a35, hw⟩ := hw
  refine xcF_I_1 17 h h.2.1.2.2.1.2.2.1 (xm_J2_add h.2.2.1 hw) (by omega) a34 a35 ⟨by decide, by decide, by show _ = some 1; decide +kernel⟩ q864 q862 f29 q859 (Nat.le_of_ble_eq_true rfl) dX2_test_17 (fun r28 ν27 hw => ?_)
  refine g_pop 22 rfl h.1 dX2_test_22 ?_
  exact g_le (xt_X2_test_23 hAT hFC h hT hN hR hO hw) ⟨rfl, rfl, trivial⟩
theorem xm_X2_test {l : Launch} {S : Adr} {A : Nat → Prop} {dA : Nat} {AT : XN → Nat → Nat → (Nat → XN → Prop) → (XN → Prop) → Prop} (hAT : ∀ l ν k n Q E, AT ν k n Q E → xMetX l S A (dA) k n 0 yX2_atom [.ref (S.2.1 1)] ν (pA Q) E) {dF : Nat} {FC : XN → Nat → Nat → (Nat → XN → Prop) → (XN → Prop) → Prop} (hFC : ∀ l ν k n Q E, FC ν k n Q E → xMetX l S A (dA + dF) k n 0 yX2_fact [.ref (S.2.1 1)] ν (pA Q) E) (hD : FD xT S xcl A) {ν : XN} {k n : Nat} {Q : Nat → XN → Prop} {E : XN → Prop} (hw : xw_X2_test AT FC ν k n Q E) : xMetX l S A (dA + dF + 12) k n 0 yX2_test [.ref (S.2.1 1)] ν (pA Q) E :=
  x_startX (by decide) hD ⟨⟨by decide, by decide, by show _ = some 0; decide +kernel⟩, by decide, q1209, q176⟩ (Nat.le_of_ble_eq_true rfl) (fun κ Z h hT hN hR hO => xt_X2_test hAT hFC h hT hN hR hO hw)
def xw_X2_more_204 (AT : XN → Nat → Nat → (Nat → XN → Prop) → (XN → Prop) → Prop) (FC : XN → Nat → Nat → (Nat → XN → Prop) → (XN → Prop) → Prop) (x2 : Int32) (y0 : Int32) (ν : XN) (k n : Nat) (Q : XN → Prop) (E : XN → Prop) : Prop :=
  (xw_X2_most y0 x2 ν (fun ν71 => (∀ ν72, ν72 = (sI ν71.1 1 5 (31 : Int32), ν71.2) → (∃ b74, fR ν72.1 1 6 = .ref b74 ∧ (∃ k78 n79 k80 n81, k78 + k80 ≤ k ∧ n79 + n81 ≤ n ∧ xw_X2_test AT FC ν72 k78 n79 (fun r77 ν76 => (rk ν76.2 b74 = 2 ∧ (∀ ν84, ν84 = (ν76.1, tO ν76.2 b74 10 (some r77)) → Q ν84))) E)))) E)
theorem xt_X2_more_204 {κ : Cx} {S : Adr} {A : Nat → Prop} {mc ms : Nat} {Z : State → Prop} {Q : XN → Prop} {dA : Nat} {AT : XN → Nat → Nat → (Nat → XN → Prop) → (XN → Prop) → Prop} (hAT : ∀ l ν k n Q E, AT ν k n Q E → xMetX l S A (dA) k n 0 yX2_atom [.ref (S.2.1 1)] ν (pA Q) E) {dF : Nat} {FC : XN → Nat → Nat → (Nat → XN → Prop) → (XN → Prop) → Prop} (hFC : ∀ l ν k n Q E, FC ν k n Q E → xMetX l S A (dA + dF) k n 0 yX2_fact [.ref (S.2.1 1)] ν (pA Q) E) (h : XCx κ cX2_more RX2 S A (dA + dF + 13) mc ms) (hT : (cxT κ).sig.returnType = none) (hN : (cxT κ).name = "more") (hR : xRet κ S A mc ms Z cX2_more (pV Q)) {E : XN → Prop} (hO : xOut κ S A mc ms Z E) {x2 : Int32} {y0 : Int32} {ν : XN} {k n : Nat} (hw : xw_X2_more_204 AT FC x2 y0 ν k n Q E) : XG κ S A mc ms Z 204 (ν, k, n) [some (.ref (S.2.1 1)), none, some (.int x2), none, none] [.int y0, .ref (S.2.1 1)] := by
  unfold xw_X2_more_204 at hw
  refine g_iload_2 204 h.1 dX2_more_204 ?_
  refine xcX_V_2 205 h (xm_X2_most h.2.2.1 hw) (by omega) (Nat.le_of_eq (Nat.zero_add _)) (Nat.le_of_eq (Nat.zero_add _)) q718 qs13 (fun H hI => x_recvK h rfl rfl hI) q716 (Nat.le_of_ble_eq_true rfl) dX2_more_205 (fun ν71 hw => ?_) (fun _ he => hO _ _ _ _ _ he)
  refine g_aload_0 208 h.1 dX2_more_208 ?_
  refine g_bipush 209 _ bp_31 h.1 dX2_more_209 ?_
  refine xp_X2_235_2 211 h dX2_more_211 (fun ν72 e73 => ?_)
  have hw := hw ν72 e73
  refine g_aload_0 214 h.1 dX2_more_214 ?_
  refine xg_X2_103_2 215 h dX2_more_215 ?_
  obtain ⟨b74, e75, hw⟩ := hw
  rw [e75]
  refine g_aload_0 218 h.1 dX2_more_218 ?_
  obtain ⟨k78, n79, k80, n81, a82, a83, hw⟩ := hw
  refine xcX_A_0 219 h (xm_X2_test hAT hFC h.2.2.1 hw) (by omega) a82 a83 q1208 qs34 (fun H hI => x_recvK h rfl rfl hI) q1206 (Nat.le_of_ble_eq_true rfl) dX2_more_219 (fun r77 ν76 hw => ?_) (fun _ he => hO _ _ _ _ _ he)
  obtain ⟨f86, hw⟩ := hw
  refine xp_X2_259_1 222 (some r77) f86 h dX2_more_222 (fun ν84 e85 => ?_)
  have hw := hw ν84 e85
  refine g_goto 225 252 h.1 dX2_more_225 (by decide) ?_
  exact hR.2.2.1 252 _ _ _ _ hT dX2_more_252 ⟨rfl, hw⟩
def xw_X2_more_109 (AT : XN → Nat → Nat → (Nat → XN → Prop) → (XN → Prop) → Prop) (FC : XN → Nat → Nat → (Nat → XN → Prop) → (XN → Prop) → Prop) (x2 : Int32) (x4 : Int32) (ν : XN) (k n : Nat) (Q : XN → Prop) (E : XN → Prop) : Prop :=
  ((x4 = 0 → (∃ b24, fR ν.1 1 6 = .ref b24 ∧ (∃ b26, fR ν.1 1 6 = .ref b26 ∧ (rc ν.2 b26 = 2 ∧ (∃ k31 n32 k33 n34, k31 + k33 ≤ k ∧ n32 + n34 ≤ n ∧ xw_X2_once AT (rO ν.2 b26 8) x2 (63 : Int32) ν k31 n32 (fun r30 ν29 => (rk ν29.2 b24 = 2 ∧ (∀ ν37, ν37 = (ν29.1, tO ν29.2 b24 8 (some r30)) → Q ν37))) E))))) ∧ (¬ x4 = 0 → ((x4 = 1 → (∃ b40, fR ν.1 1 6 = .ref b40 ∧ (∃ b42, fR ν.1 1 6 = .ref b42 ∧ (rc ν.2 b42 = 2 ∧ (∃ k47 n48 k49 n50, k47 + k49 ≤ k ∧ n48 + n50 ≤ n ∧ xw_X2_once AT (rO ν.2 b42 9) x2 (31 : Int32) ν k47 n48 (fun r46 ν45 => (rk ν45.2 b40 = 2 ∧ (∀ ν53, ν53 = (ν45.1, tO ν45.2 b40 9 (some r46)) → Q ν53))) E))))) ∧ (¬ x4 = 1 → ((x4 = 2 → (∃ b56, fR ν.1 1 6 = .ref b56 ∧ (rc ν.2 b56 = 2 ∧ (((rO ν.2 b56 10) = none → xw_X2_more_204 AT FC x2 (0 : Int32) ν k n Q E) ∧ (∀ b59, (rO ν.2 b56 10) = some b59 → xw_X2_more_204 AT FC x2 (1 : Int32) ν k n Q E))))) ∧ (¬ x4 = 2 → ((x4 = 3 → (∃ b61, fR ν.1 1 6 = .ref b61 ∧ (xw_X2_number (0 : Int32) (100 : Int32) ν (fun r64 ν63 => (rk ν63.2 b61 = 2 ∧ (∀ ν65, ν65 = (ν63.1, tI ν63.2 b61 3 r64) → Q ν65))) E))) ∧ (¬ x4 = 3 → (xw_X2_wrong (1 : Int32) x2 ν (fun r69 ν68 => (r69 = 2 ∧ E ν68)))))))))))
theorem xt_X2_more_109 {κ : Cx} {S : Adr} {A : Nat → Prop} {mc ms : Nat} {Z : State → Prop} {Q : XN → Prop} {dA : Nat} {AT : XN → Nat → Nat → (Nat → XN → Prop) → (XN → Prop) → Prop} (hAT : ∀ l ν k n Q E, AT ν k n Q E → xMetX l S A (dA) k n 0 yX2_atom [.ref (S.2.1 1)] ν (pA Q) E) {dF : Nat} {FC : XN → Nat → Nat → (Nat → XN → Prop) → (XN → Prop) → Prop} (hFC : ∀ l ν k n Q E, FC ν k n Q E → xMetX l S A (dA + dF) k n 0 yX2_fact [.ref (S.2.1 1)] ν (pA Q) E) (h : XCx κ cX2_more RX2 S A (dA + dF + 13) mc ms) (hT : (cxT κ).sig.returnType = none) (hN : (cxT κ).name = "more") (hR : xRet κ S A mc ms Z cX2_more (pV Q)) {E : XN → Prop} (hO : xOut κ S A mc ms Z E) {x2 : Int32} {x4 : Int32} {ν : XN} {k n : Nat} (hw : xw_X2_more_109 AT FC x2 x4 ν k n Q E) : XG κ S A mc ms Z 109 (ν, k, n) [some (.ref (S.2.1 1)), none, some (.int x2), none, some (.int x4)] [] := by
  unfold xw_X2_more_109 at hw
  refine g_iload_4 109 h.1 dX2_more_109 ?_
  rcases Classical.em (x4 = 0) with c0 | c0
  · have hw := hw.1 c0
    refine g_tabIn 111 140 29 h.1 dX2_more_111 (by rw [c0]; decide) (by rw [c0]; decide) (by rw [c0]; decide) (by decide) ?_
    refine g_aload_0 140 h.1 dX2_more_140 ?_
    refine xg_X2_103_2 141 h dX2_more_141 ?_
    obtain ⟨b24, e25, hw⟩ := hw
    rw [e25]
    refine g_aload_0 144 h.1 dX2_more_144 ?_
    refine g_aload_0 145 h.1 dX2_more_145 ?_
    refine xg_X2_103_2 146 h dX2_more_146 ?_
    obtain ⟨b26, e27, hw⟩ := hw
    rw [e27]
    obtain ⟨f28, hw⟩ := hw
    refine xg_X2_250_1 149 f28 h dX2_more_149 ?_
    refine g_iload_2 152 h.1 dX2_more_152 ?_
    refine g_bipush 153 _ bp_63 h.1 dX2_more_153 ?_
    obtain ⟨k31, n32, k33, n34, a35, a36, hw⟩ := hw
    refine xcX_A_3 155 h (xm_X2_once hAT h.2.2.1 hw) (by omega) a35 a36 q1016 qs26 (fun H hI => x_recvK h rfl rfl hI) q1014 (Nat.le_of_ble_eq_true rfl) dX2_more_155 (fun r30 ν29 hw => ?_) (fun _ he => hO _ _ _ _ _ he)
    obtain ⟨f39, hw⟩ := hw
    refine xp_X2_250_1 158 (some r30) f39 h dX2_more_158 (fun ν37 e38 => ?_)
    have hw := hw ν37 e38
    refine g_goto 161 252 h.1 dX2_more_161 (by decide) ?_
    exact hR.2.2.1 252 _ _ _ _ hT dX2_more_252 ⟨rfl, hw⟩
  · have hw := hw.2 c0
    rcases Classical.em (x4 = 1) with c1 | c1
    · have hw := hw.1 c1
      refine g_tabIn 111 164 53 h.1 dX2_more_111 (by rw [c1]; decide) (by rw [c1]; decide) (by rw [c1]; decide) (by decide) ?_
      refine g_aload_0 164 h.1 dX2_more_164 ?_
      refine xg_X2_103_2 165 h dX2_more_165 ?_
      obtain ⟨b40, e41, hw⟩ := hw
      rw [e41]
      refine g_aload_0 168 h.1 dX2_more_168 ?_
      refine g_aload_0 169 h.1 dX2_more_169 ?_
      refine xg_X2_103_2 170 h dX2_more_170 ?_
      obtain ⟨b42, e43, hw⟩ := hw
      rw [e43]
      obtain ⟨f44, hw⟩ := hw
      refine xg_X2_257_1 173 f44 h dX2_more_173 ?_
      refine g_iload_2 176 h.1 dX2_more_176 ?_
      refine g_bipush 177 _ bp_31 h.1 dX2_more_177 ?_
      obtain ⟨k47, n48, k49, n50, a51, a52, hw⟩ := hw
      refine xcX_A_3 179 h (xm_X2_once hAT h.2.2.1 hw) (by omega) a51 a52 q1016 qs26 (fun H hI => x_recvK h rfl rfl hI) q1014 (Nat.le_of_ble_eq_true rfl) dX2_more_179 (fun r46 ν45 hw => ?_) (fun _ he => hO _ _ _ _ _ he)
      obtain ⟨f55, hw⟩ := hw
      refine xp_X2_257_1 182 (some r46) f55 h dX2_more_182 (fun ν53 e54 => ?_)
      have hw := hw ν53 e54
      refine g_goto 185 252 h.1 dX2_more_185 (by decide) ?_
      exact hR.2.2.1 252 _ _ _ _ hT dX2_more_252 ⟨rfl, hw⟩
    · have hw := hw.2 c1
      rcases Classical.em (x4 = 2) with c2 | c2
      · have hw := hw.1 c2
        refine g_tabIn 111 188 77 h.1 dX2_more_111 (by rw [c2]; decide) (by rw [c2]; decide) (by rw [c2]; decide) (by decide) ?_
        refine g_aload_0 188 h.1 dX2_more_188 ?_
        refine g_aload_0 189 h.1 dX2_more_189 ?_
        refine xg_X2_103_2 190 h dX2_more_190 ?_
        obtain ⟨b56, e57, hw⟩ := hw
        rw [e57]
        obtain ⟨f58, hw⟩ := hw
        refine xg_X2_259_1 193 f58 h dX2_more_193 ?_
        refine g_ifnull 196 203 h.1 dX2_more_196 (by decide) (fun c => ?_) (fun b59 c => ?_)
        · have hw := hw.1 c
          refine g_iconstv 203 _ ic_0 h.1 dX2_more_203 ?_
          exact g_le (xt_X2_more_204 hAT hFC h hT hN hR hO hw) ⟨rfl, rfl, trivial⟩
        · have hw := hw.2 b59 c
          refine g_iconstv 199 _ ic_1 h.1 dX2_more_199 ?_
          refine g_goto 200 204 h.1 dX2_more_200 (by decide) ?_
          exact g_le (xt_X2_more_204 hAT hFC h hT hN hR hO hw) ⟨rfl, rfl, trivial⟩
      · have hw := hw.2 c2
        rcases Classical.em (x4 = 3) with c3 | c3
        · have hw := hw.1 c3
          refine g_tabIn 111 228 117 h.1 dX2_more_111 (by rw [c3]; decide) (by rw [c3]; decide) (by rw [c3]; decide) (by decide) ?_
          refine g_aload_0 228 h.1 dX2_more_228 ?_
          refine xg_X2_103_2 229 h dX2_more_229 ?_
          obtain ⟨b61, e62, hw⟩ := hw
          rw [e62]
          refine g_aload_0 232 h.1 dX2_more_232 ?_
          refine g_iconstv 233 _ ic_0 h.1 dX2_more_233 ?_
          refine g_bipush 234 _ bp_100 h.1 dX2_more_234 ?_
          refine xcX_I_2 236 h (xm_X2_number h.2.2.1 hw) (by omega) (Nat.le_of_eq (Nat.zero_add _)) (Nat.le_of_eq (Nat.zero_add _)) q702 qs10 (fun H hI => x_recvK h rfl rfl hI) q700 (Nat.le_of_ble_eq_true rfl) dX2_more_236 (fun r64 ν63 hw => ?_) (fun _ he => hO _ _ _ _ _ he)
          obtain ⟨f67, hw⟩ := hw
          refine xp_X2_266_1 239 f67 h dX2_more_239 (fun ν65 e66 => ?_)
          have hw := hw ν65 e66
          refine g_goto 242 252 h.1 dX2_more_242 (by decide) ?_
          exact hR.2.2.1 252 _ _ _ _ hT dX2_more_252 ⟨rfl, hw⟩
        · have hw := hw.2 c3
          refine g_tabOut 111 245 h.1 dX2_more_111 (tabOut_0_3 c0 c1 c2 c3) (by decide) ?_
          refine g_aload_0 245 h.1 dX2_more_245 ?_
          refine g_iconstv 246 _ ic_1 h.1 dX2_more_246 ?_
          refine g_iload_2 247 h.1 dX2_more_247 ?_
          refine xcV_K_2 248 h (xm_X2_wrong h.2.2.1 hw) (by omega) (Nat.le_of_eq (Nat.zero_add _)) (Nat.le_of_eq (Nat.zero_add _)) q606 qs8 (fun H hI => x_recvK h rfl rfl hI) q604 (Nat.le_of_ble_eq_true rfl) dX2_more_248 (fun r69 ν68 hw => ?_)
          obtain ⟨f70, hw⟩ := hw
          subst f70
          exact x_athrow 251 h dX2_more_251 (hO _ _ _ _ _ hw)
def xw_X2_more (AT : XN → Nat → Nat → (Nat → XN → Prop) → (XN → Prop) → Prop) (FC : XN → Nat → Nat → (Nat → XN → Prop) → (XN → Prop) → Prop) (x1 : Nat) (x2 : Int32) (ν : XN) (k n : Nat) (Q : XN → Prop) (E : XN → Prop) : Prop :=
  (rc ν.2 x1 = 11 ∧ (xw_J6_hashCode x1 ν (fun r2 ν1 => ((r2 = 94935213 → (∀ b4, fR ν1.1 900 13 = .ref b4 → (rc ν1.2 x1 = 11 ∧ (xw_J6_equals x1 b4 ν1 (fun r7 ν6 => ((r7 = 0 → xw_X2_more_109 AT FC x2 (-1 : Int32) ν6 k n Q E) ∧ (¬ r7 = 0 → xw_X2_more_109 AT FC x2 (3 : Int32) ν6 k n Q E))))))) ∧ (¬ r2 = 94935213 → ((r2 = 99459988 → (∀ b9, fR ν1.1 900 12 = .ref b9 → (rc ν1.2 x1 = 11 ∧ (xw_J6_equals x1 b9 ν1 (fun r12 ν11 => ((r12 = 0 → xw_X2_more_109 AT FC x2 (-1 : Int32) ν11 k n Q E) ∧ (¬ r12 = 0 → xw_X2_more_109 AT FC x2 (2 : Int32) ν11 k n Q E))))))) ∧ (¬ r2 = 99459988 → ((r2 = 102970056 → (∀ b14, fR ν1.1 900 10 = .ref b14 → (rc ν1.2 x1 = 11 ∧ (xw_J6_equals x1 b14 ν1 (fun r17 ν16 => ((r17 = 0 → xw_X2_more_109 AT FC x2 (-1 : Int32) ν16 k n Q E) ∧ (¬ r17 = 0 → xw_X2_more_109 AT FC x2 (0 : Int32) ν16 k n Q E))))))) ∧ (¬ r2 = 102970056 → ((r2 = 110369291 → (∀ b19, fR ν1.1 900 11 = .ref b19 → (rc ν1.2 x1 = 11 ∧ (xw_J6_equals x1 b19 ν1 (fun r22 ν21 => ((r22 = 0 → xw_X2_more_109 AT FC x2 (-1 : Int32) ν21 k n Q E) ∧ (¬ r22 = 0 → xw_X2_more_109 AT FC x2 (1 : Int32) ν21 k n Q E))))))) ∧ (¬ r2 = 110369291 → xw_X2_more_109 AT FC x2 (-1 : Int32) ν1 k n Q E)))))))))))
theorem xt_X2_more {κ : Cx} {S : Adr} {A : Nat → Prop} {mc ms : Nat} {Z : State → Prop} {Q : XN → Prop} {dA : Nat} {AT : XN → Nat → Nat → (Nat → XN → Prop) → (XN → Prop) → Prop} (hAT : ∀ l ν k n Q E, AT ν k n Q E → xMetX l S A (dA) k n 0 yX2_atom [.ref (S.2.1 1)] ν (pA Q) E) {dF : Nat} {FC : XN → Nat → Nat → (Nat → XN → Prop) → (XN → Prop) → Prop} (hFC : ∀ l ν k n Q E, FC ν k n Q E → xMetX l S A (dA + dF) k n 0 yX2_fact [.ref (S.2.1 1)] ν (pA Q) E) (h : XCx κ cX2_more RX2 S A (dA + dF + 13) mc ms) (hT : (cxT κ).sig.returnType = none) (hN : (cxT κ).name = "more") (hR : xRet κ S A mc ms Z cX2_more (pV Q)) {E : XN → Prop} (hO : xOut κ S A mc ms Z E) {x1 : Nat} {x2 : Int32} {ν : XN} {k n : Nat} (hw : xw_X2_more AT FC x1 x2 ν k n Q E) : XG κ S A mc ms Z 0 (ν, k, n) [some (.ref (S.2.1 1)), some (.ref x1), some (.int x2), none, none] [] := by
  unfold xw_X2_more at hw
  refine g_aload_1 0 h.1 dX2_more_0 ?_
  refine g_astore_3 1 h.1 rfl dX2_more_1 ?_
  refine g_iconstv 2 _ ic_m1 h.1 dX2_more_2 ?_
  refine g_istore_4 3 h.1 rfl dX2_more_3 ?_
  refine g_aload_3 5 h.1 dX2_more_5 ?_
  obtain ⟨f3, hw⟩ := hw
  refine xcV_I_0 6 h (xm_J6_hashCode h.2.2.1 hw) (by omega) (Nat.le_of_eq (Nat.zero_add _)) (Nat.le_of_eq (Nat.zero_add _)) q725 q726 (fun H hI => x_recvR h f3 rfl hI) q724 (Nat.le_of_ble_eq_true rfl) dX2_more_6 (fun r2 ν1 hw => ?_)
  rcases Classical.em (r2 = 94935213) with c0 | c0
  · have hw := hw.1 c0
    refine g_lookup 9 97 88 h.1 dX2_more_9 (by decide) (by rw [c0]; decide) (by decide) ?_
    refine g_aload_3 97 h.1 dX2_more_97 ?_
    refine x_ldcS 98 13 rfl h dX2_more_98 (fun b4 e5 => ?_)
    have hw := hw b4 e5
    obtain ⟨f8, hw⟩ := hw
    refine xcV_I_1 100 h (xm_J6_equals h.2.2.1 hw) (by omega) (Nat.le_of_eq (Nat.zero_add _)) (Nat.le_of_eq (Nat.zero_add _)) q694 q695 (fun H hI => x_recvR h f8 rfl hI) q693 (Nat.le_of_ble_eq_true rfl) dX2_more_100 (fun r7 ν6 hw => ?_)
    refine g_if_eq 103 109 h.1 dX2_more_103 (by decide) (fun c => ?_) (fun c => ?_)
    · have hw := hw.1 c
      exact g_le (xt_X2_more_109 hAT hFC h hT hN hR hO hw) ⟨rfl, rfl, rfl, trivial⟩
    · have hw := hw.2 c
      refine g_iconstv 106 _ ic_3 h.1 dX2_more_106 ?_
      refine g_istore_4 107 h.1 rfl dX2_more_107 ?_
      exact g_le (xt_X2_more_109 hAT hFC h hT hN hR hO hw) ⟨rfl, rfl, rfl, trivial⟩
  · have hw := hw.2 c0
    rcases Classical.em (r2 = 99459988) with c1 | c1
    · have hw := hw.1 c1
      refine g_lookup 9 82 73 h.1 dX2_more_9 (by decide) (by rw [c1]; decide) (by decide) ?_
      refine g_aload_3 82 h.1 dX2_more_82 ?_
      refine x_ldcS 83 12 rfl h dX2_more_83 (fun b9 e10 => ?_)
      have hw := hw b9 e10
      obtain ⟨f13, hw⟩ := hw
      refine xcV_I_1 85 h (xm_J6_equals h.2.2.1 hw) (by omega) (Nat.le_of_eq (Nat.zero_add _)) (Nat.le_of_eq (Nat.zero_add _)) q694 q695 (fun H hI => x_recvR h f13 rfl hI) q693 (Nat.le_of_ble_eq_true rfl) dX2_more_85 (fun r12 ν11 hw => ?_)
      refine g_if_eq 88 109 h.1 dX2_more_88 (by decide) (fun c => ?_) (fun c => ?_)
      · have hw := hw.1 c
        exact g_le (xt_X2_more_109 hAT hFC h hT hN hR hO hw) ⟨rfl, rfl, rfl, trivial⟩
      · have hw := hw.2 c
        refine g_iconstv 91 _ ic_2 h.1 dX2_more_91 ?_
        refine g_istore_4 92 h.1 rfl dX2_more_92 ?_
        refine g_goto 94 109 h.1 dX2_more_94 (by decide) ?_
        exact g_le (xt_X2_more_109 hAT hFC h hT hN hR hO hw) ⟨rfl, rfl, rfl, trivial⟩
    · have hw := hw.2 c1
      rcases Classical.em (r2 = 102970056) with c2 | c2
      · have hw := hw.1 c2
        refine g_lookup 9 52 43 h.1 dX2_more_9 (by decide) (by rw [c2]; decide) (by decide) ?_
        refine g_aload_3 52 h.1 dX2_more_52 ?_
        refine x_ldcS 53 10 rfl h dX2_more_53 (fun b14 e15 => ?_)
        have hw := hw b14 e15
        obtain ⟨f18, hw⟩ := hw
        refine xcV_I_1 55 h (xm_J6_equals h.2.2.1 hw) (by omega) (Nat.le_of_eq (Nat.zero_add _)) (Nat.le_of_eq (Nat.zero_add _)) q694 q695 (fun H hI => x_recvR h f18 rfl hI) q693 (Nat.le_of_ble_eq_true rfl) dX2_more_55 (fun r17 ν16 hw => ?_)
        refine g_if_eq 58 109 h.1 dX2_more_58 (by decide) (fun c => ?_) (fun c => ?_)
        · have hw := hw.1 c
          exact g_le (xt_X2_more_109 hAT hFC h hT hN hR hO hw) ⟨rfl, rfl, rfl, trivial⟩
        · have hw := hw.2 c
          refine g_iconstv 61 _ ic_0 h.1 dX2_more_61 ?_
          refine g_istore_4 62 h.1 rfl dX2_more_62 ?_
          refine g_goto 64 109 h.1 dX2_more_64 (by decide) ?_
          exact g_le (xt_X2_more_109 hAT hFC h hT hN hR hO hw) ⟨rfl, rfl, rfl, trivial⟩
      · have hw := hw.2 c2
        rcases Classical.em (r2 = 110369291) with c3 | c3
        · have hw := hw.1 c3
          refine g_lookup 9 67 58 h.1 dX2_more_9 (by decide) (by rw [c3]; decide) (by decide) ?_
          refine g_aload_3 67 h.1 dX2_more_67 ?_
          refine x_ldcS 68 11 rfl h dX2_more_68 (fun b19 e20 => ?_)
          have hw := hw b19 e20
          obtain ⟨f23, hw⟩ := hw
          refine xcV_I_1 70 h (xm_J6_equals h.2.2.1 hw) (by omega) (Nat.le_of_eq (Nat.zero_add _)) (Nat.le_of_eq (Nat.zero_add _)) q694 q695 (fun H hI => x_recvR h f23 rfl hI) q693 (Nat.le_of_ble_eq_true rfl) dX2_more_70 (fun r22 ν21 hw => ?_)
          refine g_if_eq 73 109 h.1 dX2_more_73 (by decide) (fun c => ?_) (fun c => ?_)
          · have hw := hw.1 c
            exact g_le (xt_X2_more_109 hAT hFC h hT hN hR hO hw) ⟨rfl, rfl, rfl, trivial⟩
          · have hw := hw.2 c
            refine g_iconstv 76 _ ic_1 h.1 dX2_more_76 ?_
            refine g_istore_4 77 h.1 rfl dX2_more_77 ?_
            refine g_goto 79 109 h.1 dX2_more_79 (by decide) ?_
            exact g_le (xt_X2_more_109 hAT hFC h hT hN hR hO hw) ⟨rfl, rfl, rfl, trivial⟩
        · have hw := hw.2 c3
          refine g_lookup 9 109 100 h.1 dX2_more_9 (by decide) (by rw [show (#[(94935213, 88), (99459988, 73), (102970056, 43), (110369291, 58)] : Array (Int × Int)).toList = [(94935213, 88), (99459988, 73), (102970056, 43), (110369291, 58)] from rfl, lv_osw c0 (show (94935213 : Int32).toInt = 94935213 by decide), lv_osw c1 (show (99459988 : Int32).toInt = 99459988 by decide), lv_osw c2 (show (102970056 : Int32).toInt = 102970056 by decide), lv_osw c3 (show (110369291 : Int32).toInt = 110369291 by decide)]; rfl) (by decide) ?_
          exact g_le (xt_X2_more_109 hAT hFC h hT hN hR hO hw) ⟨rfl, rfl, rfl, trivial⟩
theorem xm_X2_more {l : Launch} {S : Adr} {A : Nat → Prop} {dA : Nat} {AT : XN → Nat → Nat → (Nat → XN → Prop) → (XN → Prop) → Prop} (hAT : ∀ l ν k n Q E, AT ν k n Q E → xMetX l S A (dA) k n 0 yX2_atom [.ref (S.2.1 1)] ν (pA Q) E) {dF : Nat} {FC : XN → Nat → Nat → (Nat → XN → Prop) → (XN → Prop) → Prop} (hFC : ∀ l ν k n Q E, FC ν k n Q E → xMetX l S A (dA + dF) k n 0 yX2_fact [.ref (S.2.1 1)] ν (pA Q) E) (hD : FD xT S xcl A) {x1 : Nat} {x2 : Int32} {ν : XN} {k n : Nat} {Q : XN → Prop} {E : XN → Prop} (hw : xw_X2_more AT FC x1 x2 ν k n Q E) : xMetX l S A (dA + dF + 13) k n 2 yX2_more [.ref (S.2.1 1), .ref x1, .int x2] ν (pV Q) E :=
  x_startX (by decide) hD ⟨⟨by decide, by decide, by show _ = some 2; decide +kernel⟩, by decide, q1009, q176⟩ (Nat.le_of_ble_eq_true rfl) (fun κ Z h hT hN hR hO => xt_X2_more hAT hFC h hT hN hR hO hw)
def xw_X2_all_148 (AT : XN → Nat → Nat → (Nat → XN → Prop) → (XN → Prop) → Prop) (FC : XN → Nat → Nat → (Nat → XN → Prop) → (XN → Prop) → Prop) (X76 : XN → Nat → Nat → Prop) (ν : XN) (k n : Nat) (Q : Nat → XN → Prop) (E : XN → Prop) : Prop :=
  (xw_X2_must (59 : Int32) ν (fun ν98 => X76 ν98 k n) E)
theorem xt_X2_all_148 {κ : Cx} {S : Adr} {A : Nat → Prop} {mc ms : Nat} {Z : State → Prop} {Q : Nat → XN → Prop} {dA : Nat} {AT : XN → Nat → Nat → (Nat → XN → Prop) → (XN → Prop) → Prop} (hAT : ∀ l ν k n Q E, AT ν k n Q E → xMetX l S A (dA) k n 0 yX2_atom [.ref (S.2.1 1)] ν (pA Q) E) {dF : Nat} {FC : XN → Nat → Nat → (Nat → XN → Prop) → (XN → Prop) → Prop} (hFC : ∀ l ν k n Q E, FC ν k n Q E → xMetX l S A (dA + dF) k n 0 yX2_fact [.ref (S.2.1 1)] ν (pA Q) E) (h : XCx κ cX2_all RX2 S A (dA + dF + 14) mc ms) (hT : (cxT κ).sig.returnType = some (.object "ShrugHills$Plain")) (hN : (cxT κ).name = "all") (hR : xRet κ S A mc ms Z cX2_all (pA Q)) {E : XN → Prop} (hO : xOut κ S A mc ms Z E) {X76 : XN → Nat → Nat → Prop} (hX76 : ∀ (ν : XN) (k n : Nat), X76 ν k n → XG κ S A mc ms Z 76 (ν, k, n) [some (.ref (S.2.1 1)), none, none] []) {ν : XN} {k n : Nat} (hw : xw_X2_all_148 AT FC X76 ν k n Q E) : XG κ S A mc ms Z 148 (ν, k, n) [some (.ref (S.2.1 1)), none, none] [] := by
  unfold xw_X2_all_148 at hw
  refine g_aload_0 148 h.1 dX2_all_148 ?_
  refine g_bipush 149 _ bp_59 h.1 dX2_all_149 ?_
  refine xcX_V_1 151 h (xm_X2_must h.2.2.1 hw) (by omega) (Nat.le_of_eq (Nat.zero_add _)) (Nat.le_of_eq (Nat.zero_add _)) q714 qs12 (fun H hI => x_recvK h rfl rfl hI) q712 (Nat.le_of_ble_eq_true rfl) dX2_all_151 (fun ν98 hw => ?_) (fun _ he => hO _ _ _ _ _ he)
  refine g_goto 154 76 h.1 dX2_all_154 (by decide) ?_
  exact g_le (hX76 _ _ _ hw) ⟨rfl, trivial⟩
def xw_X2_all_102 (AT : XN → Nat → Nat → (Nat → XN → Prop) → (XN → Prop) → Prop) (FC : XN → Nat → Nat → (Nat → XN → Prop) → (XN → Prop) → Prop) (X76 : XN → Nat → Nat → Prop) (y0 : Int32) (ν : XN) (k n : Nat) (Q : Nat → XN → Prop) (E : XN → Prop) : Prop :=
  (xw_X2_most y0 (fI ν.1 1 2) ν (fun ν68 => (∃ b69, fR ν68.1 1 6 = .ref b69 ∧ (rc ν68.2 b69 = 2 ∧ (rk ν68.2 b69 = 2 ∧ (∀ ν72, ν72 = (ν68.1, tI ν68.2 b69 0 ((rI ν68.2 b69 0) + (1 : Int32))) → (∃ k77 n78 k79 n80, k77 + k79 ≤ k ∧ n78 + n80 ≤ n ∧ xw_X2_word_2 ν72 k77 n78 (fun r76 ν75 => (∃ k85 n86 k87 n88, k85 + k87 ≤ k79 ∧ n86 + n88 ≤ n80 ∧ xw_X2_laid r76 (fI ν75.1 1 3) ν75 k85 n86 (fun r84 ν83 => ((¬ r84 = 0 → xw_X2_all_148 AT FC X76 ν83 k87 n88 Q E) ∧ (r84 = 0 → (∃ k92 n93 k94 n95, k92 + k94 ≤ k87 ∧ n93 + n95 ≤ n88 ∧ xw_X2_more AT FC r76 (fI ν83.1 1 3) ν83 k92 n93 (fun ν91 => xw_X2_all_148 AT FC X76 ν91 k94 n95 Q E) E)))) E)) E)))))) E)
theorem xt_X2_all_102 {κ : Cx} {S : Adr} {A : Nat → Prop} {mc ms : Nat} {Z : State → Prop} {Q : Nat → XN → Prop} {dA : Nat} {AT : XN → Nat → Nat → (Nat → XN → Prop) → (XN → Prop) → Prop} (hAT : ∀ l ν k n Q E, AT ν k n Q E → xMetX l S A (dA) k n 0 yX2_atom [.ref (S.2.1 1)] ν (pA Q) E) {dF : Nat} {FC : XN → Nat → Nat → (Nat → XN → Prop) → (XN → Prop) → Prop} (hFC : ∀ l ν k n Q E, FC ν k n Q E → xMetX l S A (dA + dF) k n 0 yX2_fact [.ref (S.2.1 1)] ν (pA Q) E) (h : XCx κ cX2_all RX2 S A (dA + dF + 14) mc ms) (hT : (cxT κ).sig.returnType = some (.object "ShrugHills$Plain")) (hN : (cxT κ).name = "all") (hR : xRet κ S A mc ms Z cX2_all (pA Q)) {E : XN → Prop} (hO : xOut κ S A mc ms Z E) {X76 : XN → Nat → Nat → Prop} (hX76 : ∀ (ν : XN) (k n : Nat), X76 ν k n → XG κ S A mc ms Z 76 (ν, k, n) [some (.ref (S.2.1 1)), none, none] []) {y0 : Int32} {ν : XN} {k n : Nat} (hw : xw_X2_all_102 AT FC X76 y0 ν k n Q E) : XG κ S A mc ms Z 102 (ν, k, n) [some (.ref (S.2.1 1)), none, none] [.int y0, .ref (S.2.1 1)] := by
  unfold xw_X2_all_102 at hw
  refine g_aload_0 102 h.1 dX2_all_102 ?_
  refine xg_X2_36_2 103 h dX2_all_103 ?_
  refine xcX_V_2 106 h (xm_X2_most h.2.2.1 hw) (by omega) (Nat.le_of_eq (Nat.zero_add _)) (Nat.le_of_eq (Nat.zero_add _)) q718 qs13 (fun H hI => x_recvK h rfl rfl hI) q716 (Nat.le_of_ble_eq_true rfl) dX2_all_106 (fun ν68 hw => ?_) (fun _ he => hO _ _ _ _ _ he)
  refine g_aload_0 109 h.1 dX2_all_109 ?_
  refine xg_X2_103_2 110 h dX2_all_110 ?_
  obtain ⟨b69, e70, hw⟩ := hw
  rw [e70]
  refine g_dup 113 rfl h.1 dX2_all_113 ?_
  obtain ⟨f71, hw⟩ := hw
  refine xg_X2_139_1 114 f71 h dX2_all_114 ?_
  refine g_iconstv 117 _ ic_1 h.1 dX2_all_117 ?_
  refine g_iadd 118 h.1 dX2_all_118 ?_
  obtain ⟨f74, hw⟩ := hw
  refine xp_X2_139_1 119 f74 h dX2_all_119 (fun ν72 e73 => ?_)
  have hw := hw ν72 e73
  refine g_aload_0 122 h.1 dX2_all_122 ?_
  obtain ⟨k77, n78, k79, n80, a81, a82, hw⟩ := hw
  refine xcX_A_0 123 h (xm_X2_word_2 h.2.2.1 hw) (by omega) a81 a82 q591 qs5 (fun H hI => x_recvK h rfl rfl hI) q589 (Nat.le_of_ble_eq_true rfl) dX2_all_123 (fun r76 ν75 hw => ?_) (fun _ he => hO _ _ _ _ _ he)
  refine g_astore_2 126 h.1 rfl dX2_all_126 ?_
  refine g_aload_0 127 h.1 dX2_all_127 ?_
  refine g_aload_2 128 h.1 dX2_all_128 ?_
  refine g_aload_0 129 h.1 dX2_all_129 ?_
  refine xg_X2_61_2 130 h dX2_all_130 ?_
  obtain ⟨k85, n86, k87, n88, a89, a90, hw⟩ := hw
  refine xcX_I_2 133 h (xm_X2_laid h.2.2.1 hw) (by omega) a89 a90 q722 qs14 (fun H hI => x_recvK h rfl rfl hI) q720 (Nat.le_of_ble_eq_true rfl) dX2_all_133 (fun r84 ν83 hw => ?_) (fun _ he => hO _ _ _ _ _ he)
  refine g_if_ne 136 148 h.1 dX2_all_136 (by decide) (fun c => ?_) (fun c => ?_)
  · have hw := hw.1 c
    exact g_le (xt_X2_all_148 hAT hFC h hT hN hR hO hX76 hw) ⟨rfl, trivial⟩
  · have hw := hw.2 c
    refine g_aload_0 139 h.1 dX2_all_139 ?_
    refine g_aload_2 140 h.1 dX2_all_140 ?_
    refine g_aload_0 141 h.1 dX2_all_141 ?_
    refine xg_X2_61_2 142 h dX2_all_142 ?_
    obtain ⟨k92, n93, k94, n95, a96, a97, hw⟩ := hw
    refine xcX_V_2 145 h (xm_X2_more hAT hFC h.2.2.1 hw) (by omega) a96 a97 q1008 qs25 (fun H hI => x_recvK h rfl rfl hI) q1006 (Nat.le_of_ble_eq_true rfl) dX2_all_145 (fun ν91 hw => ?_) (fun _ he => hO _ _ _ _ _ he)
    exact g_le (xt_X2_all_148 hAT hFC h hT hN hR hO hX76 hw) ⟨rfl, trivial⟩
def xw_X2_all_76 (AT : XN → Nat → Nat → (Nat → XN → Prop) → (XN → Prop) → Prop) (FC : XN → Nat → Nat → (Nat → XN → Prop) → (XN → Prop) → Prop) (ν : XN) (k n : Nat) (Q : Nat → XN → Prop) (E : XN → Prop) : Prop :=
  ∀ X76 : XN → Nat → Nat → Prop, (∀ (ν : XN) (k n : Nat), (xw_X2_here ν (fun r62 ν61 => ((r62 = (-1 : Int32) → (∃ b63, fR ν61.1 1 6 = .ref b63 ∧ Q b63 ν61)) ∧ (¬ r62 = (-1 : Int32) → (∃ b65, fR ν61.1 1 6 = .ref b65 ∧ (rc ν61.2 b65 = 2 ∧ ((¬ (rI ν61.2 b65 0) = (80 : Int32) → xw_X2_all_102 AT FC X76 (0 : Int32) ν61 k n Q E) ∧ ((rI ν61.2 b65 0) = (80 : Int32) → xw_X2_all_102 AT FC X76 (1 : Int32) ν61 k n Q E)))))))) → X76 ν k n) → X76 ν k n
theorem xt_X2_all_76 {κ : Cx} {S : Adr} {A : Nat → Prop} {mc ms : Nat} {Z : State → Prop} {Q : Nat → XN → Prop} {dA : Nat} {AT : XN → Nat → Nat → (Nat → XN → Prop) → (XN → Prop) → Prop} (hAT : ∀ l ν k n Q E, AT ν k n Q E → xMetX l S A (dA) k n 0 yX2_atom [.ref (S.2.1 1)] ν (pA Q) E) {dF : Nat} {FC : XN → Nat → Nat → (Nat → XN → Prop) → (XN → Prop) → Prop} (hFC : ∀ l ν k n Q E, FC ν k n Q E → xMetX l S A (dA + dF) k n 0 yX2_fact [.ref (S.2.1 1)] ν (pA Q) E) (h : XCx κ cX2_all RX2 S A (dA + dF + 14) mc ms) (hT : (cxT κ).sig.returnType = some (.object "ShrugHills$Plain")) (hN : (cxT κ).name = "all") (hR : xRet κ S A mc ms Z cX2_all (pA Q)) {E : XN → Prop} (hO : xOut κ S A mc ms Z E) {ν : XN} {k n : Nat} (hw : xw_X2_all_76 AT FC ν k n Q E) : XG κ S A mc ms Z 76 (ν, k, n) [some (.ref (S.2.1 1)), none, none] [] := by
  refine hw (fun ν k n => XG κ S A mc ms Z 76 (ν, k, n) [some (.ref (S.2.1 1)), none, none] []) ?_
  clear hw
  intro ν k n hw
  have hX76 : ∀ (ν : XN) (k n : Nat), XG κ S A mc ms Z 76 (ν, k, n) [some (.ref (S.2.1 1)), none, none] [] → XG κ S A mc ms Z 76 (ν, k, n) [some (.ref (S.2.1 1)), none, none] [] := fun _ _ _ hh => hh
  refine g_aload_0 76 h.1 dX2_all_76 ?_
  refine xcV_I_0 77 h (xm_X2_here h.2.2.1 hw) (by omega) (Nat.le_of_eq (Nat.zero_add _)) (Nat.le_of_eq (Nat.zero_add _)) q595 qs6 (fun H hI => x_recvK h rfl rfl hI) q593 (Nat.le_of_ble_eq_true rfl) dX2_all_77 (fun r62 ν61 hw => ?_)
  refine g_iconstv 80 _ ic_m1 h.1 dX2_all_80 ?_
  refine g_icmp_eq 81 157 h.1 dX2_all_81 (by decide) (fun c => ?_) (fun c => ?_)
  · have hw := hw.1 c
    refine g_aload_0 157 h.1 dX2_all_157 ?_
    refine xg_X2_103_2 158 h dX2_all_158 ?_
    obtain ⟨b63, e64, hw⟩ := hw
    rw [e64]
    exact hR.2.2.2 161 (some b63) _ _ _ _ _ hT (by first | exact Or.inl ⟨_, rfl⟩ | exact Or.inr ⟨_, rfl⟩) dX2_all_161 ⟨_, rfl, hw⟩
  · have hw := hw.2 c
    refine g_aload_0 84 h.1 dX2_all_84 ?_
    refine g_aload_0 85 h.1 dX2_all_85 ?_
    refine xg_X2_103_2 86 h dX2_all_86 ?_
    obtain ⟨b65, e66, hw⟩ := hw
    rw [e66]
    obtain ⟨f67, hw⟩ := hw
    refine xg_X2_139_1 89 f67 h dX2_all_89 ?_
    refine g_bipush 92 _ bp_80 h.1 dX2_all_92 ?_
    refine g_icmp_ne 94 101 h.1 dX2_all_94 (by decide) (fun c => ?_) (fun c => ?_)
    · have hw := hw.1 c
      refine g_iconstv 101 _ ic_0 h.1 dX2_all_101 ?_
      exact g_le (xt_X2_all_102 hAT hFC h hT hN hR hO hX76 hw) ⟨rfl, trivial⟩
    · have hw := hw.2 c
      refine g_iconstv 97 _ ic_1 h.1 dX2_all_97 ?_
      refine g_goto 98 102 h.1 dX2_all_98 (by decide) ?_
      exact g_le (xt_X2_all_102 hAT hFC h hT hN hR hO hX76 hw) ⟨rfl, trivial⟩
def xw_X2_all (AT : XN → Nat → Nat → (Nat → XN → Prop) → (XN → Prop) → Prop) (FC : XN → Nat → Nat → (Nat → XN → Prop) → (XN → Prop) → Prop) (x1 : Int32) (ν : XN) (k n : Nat) (Q : Nat → XN → Prop) (E : XN → Prop) : Prop :=
  (∃ k5 n6, k5 + 1 ≤ k ∧ n6 + 11 ≤ n ∧ ∀ q1, rk ν.2 q1 = 0 → ∀ ν3, ν3 = (ν.1, tN ν.2 q1 2 0) → (∃ k10 n11 k12 n13, k10 + k12 ≤ k5 ∧ n11 + n13 ≤ n6 ∧ xw_X1_init q1 ν3 k10 n11 (fun ν9 => (∀ ν16, ν16 = (sR ν9.1 1 6 (.ref q1), ν9.2) → (∀ ν18, ν18 = (sI ν16.1 1 1 x1, ν16.2) → (∀ ν20, ν20 = (sI ν18.1 1 2 (0 : Int32), ν18.2) → (∀ ν22, ν22 = (sI ν20.1 1 4 (0 : Int32), ν20.2) → (∀ b24, fR ν22.1 900 0 = .ref b24 → (∃ k27 n28 k29 n30, k27 + k29 ≤ k12 ∧ n28 + n30 ≤ n13 ∧ xw_X2_word b24 ν22 k27 n28 (fun ν26 => (∃ b33, fR ν26.1 1 6 = .ref b33 ∧ (xw_X2_number (3 : Int32) (7 : Int32) ν26 (fun r36 ν35 => (rk ν35.2 b33 = 2 ∧ (∀ ν37, ν37 = (ν35.1, tI ν35.2 b33 1 r36) → (∃ b40, fR ν37.1 1 6 = .ref b40 ∧ (∀ b42, fR ν37.1 900 1 = .ref b42 → (∃ k46 n47 k48 n49, k46 + k48 ≤ k29 ∧ n47 + n49 ≤ n30 ∧ xw_X2_number_2 b42 (3 : Int32) (7 : Int32) ν37 k46 n47 (fun r45 ν44 => (rk ν44.2 b40 = 2 ∧ (∀ ν52, ν52 = (ν44.1, tI ν44.2 b40 2 r45) → (xw_X2_must (59 : Int32) ν52 (fun ν55 => (∃ b56, fR ν55.1 1 6 = .ref b56 ∧ (rk ν55.2 b56 = 2 ∧ (∀ ν58, ν58 = (ν55.1, tI ν55.2 b56 0 (1 : Int32)) → xw_X2_all_76 AT FC ν58 k48 n49 Q E)))) E)))) E)))))) E))) E)))))))))
theorem xt_X2_all {κ : Cx} {S : Adr} {A : Nat → Prop} {mc ms : Nat} {Z : State → Prop} {Q : Nat → XN → Prop} {dA : Nat} {AT : XN → Nat → Nat → (Nat → XN → Prop) → (XN → Prop) → Prop} (hAT : ∀ l ν k n Q E, AT ν k n Q E → xMetX l S A (dA) k n 0 yX2_atom [.ref (S.2.1 1)] ν (pA Q) E) {dF : Nat} {FC : XN → Nat → Nat → (Nat → XN → Prop) → (XN → Prop) → Prop} (hFC : ∀ l ν k n Q E, FC ν k n Q E → xMetX l S A (dA + dF) k n 0 yX2_fact [.ref (S.2.1 1)] ν (pA Q) E) (h : XCx κ cX2_all RX2 S A (dA + dF + 14) mc ms) (hT : (cxT κ).sig.returnType = some (.object "ShrugHills$Plain")) (hN : (cxT κ).name = "all") (hR : xRet κ S A mc ms Z cX2_all (pA Q)) {E : XN → Prop} (hO : xOut κ S A mc ms Z E) {x1 : Int32} {ν : XN} {k n : Nat} (hw : xw_X2_all AT FC x1 ν k n Q E) : XG κ S A mc ms Z 0 (ν, k, n) [some (.ref (S.2.1 1)), some (.int x1), none] [] := by
  unfold xw_X2_all at hw
  refine g_aload_0 0 h.1 dX2_all_0 ?_
  obtain ⟨k5, n6, a7, a8, hw⟩ := hw
  refine xn_X2_108 1 a7 a8 h dX2_all_1 (fun q1 e2 ν3 e4 => ?_)
  have hw := hw q1 e2 ν3 e4
  refine g_dup 4 rfl h.1 dX2_all_4 ?_
  obtain ⟨k10, n11, k12, n13, a14, a15, hw⟩ := hw
  refine xcI_V_0 5 h (xm_X1_init h.2.2.1 hw) (by omega) a14 a15 rfl q222 q583 (Nat.le_of_ble_eq_true rfl) dX2_all_5 (fun ν9 hw => ?_)
  refine xp_X2_103_2 8 h dX2_all_8 (fun ν16 e17 => ?_)
  have hw := hw ν16 e17
  refine g_aload_0 11 h.1 dX2_all_11 ?_
  refine g_iload_1 12 h.1 dX2_all_12 ?_
  refine xp_X2_29_2 13 h dX2_all_13 (fun ν18 e19 => ?_)
  have hw := hw ν18 e19
  refine g_aload_0 16 h.1 dX2_all_16 ?_
  refine g_iconstv 17 _ ic_0 h.1 dX2_all_17 ?_
  refine xp_X2_36_2 18 h dX2_all_18 (fun ν20 e21 => ?_)
  have hw := hw ν20 e21
  refine g_aload_0 21 h.1 dX2_all_21 ?_
  refine g_iconstv 22 _ ic_0 h.1 dX2_all_22 ?_
  refine xp_X2_125_2 23 h dX2_all_23 (fun ν22 e23 => ?_)
  have hw := hw ν22 e23
  refine g_aload_0 26 h.1 dX2_all_26 ?_
  refine x_ldcS 27 0 rfl h dX2_all_27 (fun b24 e25 => ?_)
  have hw := hw b24 e25
  obtain ⟨k27, n28, k29, n30, a31, a32, hw⟩ := hw
  refine xcX_V_1 29 h (xm_X2_word h.2.2.1 hw) (by omega) a31 a32 q587 qs4 (fun H hI => x_recvK h rfl rfl hI) q585 (Nat.le_of_ble_eq_true rfl) dX2_all_29 (fun ν26 hw => ?_) (fun _ he => hO _ _ _ _ _ he)
  refine g_aload_0 32 h.1 dX2_all_32 ?_
  refine xg_X2_103_2 33 h dX2_all_33 ?_
  obtain ⟨b33, e34, hw⟩ := hw
  rw [e34]
  refine g_aload_0 36 h.1 dX2_all_36 ?_
  refine g_iconstv 37 _ ic_3 h.1 dX2_all_37 ?_
  refine g_bipush 38 _ bp_7 h.1 dX2_all_38 ?_
  refine xcX_I_2 40 h (xm_X2_number h.2.2.1 hw) (by omega) (Nat.le_of_eq (Nat.zero_add _)) (Nat.le_of_eq (Nat.zero_add _)) q702 qs10 (fun H hI => x_recvK h rfl rfl hI) q700 (Nat.le_of_ble_eq_true rfl) dX2_all_40 (fun r36 ν35 hw => ?_) (fun _ he => hO _ _ _ _ _ he)
  obtain ⟨f39, hw⟩ := hw
  refine xp_X2_118_1 43 f39 h dX2_all_43 (fun ν37 e38 => ?_)
  have hw := hw ν37 e38
  refine g_aload_0 46 h.1 dX2_all_46 ?_
  refine xg_X2_103_2 47 h dX2_all_47 ?_
  obtain ⟨b40, e41, hw⟩ := hw
  rw [e41]
  refine g_aload_0 50 h.1 dX2_all_50 ?_
  refine x_ldcS 51 1 rfl h dX2_all_51 (fun b42 e43 => ?_)
  have hw := hw b42 e43
  refine g_iconstv 53 _ ic_3 h.1 dX2_all_53 ?_
  refine g_bipush 54 _ bp_7 h.1 dX2_all_54 ?_
  obtain ⟨k46, n47, k48, n49, a50, a51, hw⟩ := hw
  refine xcX_I_3 56 h (xm_X2_number_2 h.2.2.1 hw) (by omega) a50 a51 q710 qs11 (fun H hI => x_recvK h rfl rfl hI) q708 (Nat.le_of_ble_eq_true rfl) dX2_all_56 (fun r45 ν44 hw => ?_) (fun _ he => hO _ _ _ _ _ he)
  obtain ⟨f54, hw⟩ := hw
  refine xp_X2_121_1 59 f54 h dX2_all_59 (fun ν52 e53 => ?_)
  have hw := hw ν52 e53
  refine g_aload_0 62 h.1 dX2_all_62 ?_
  refine g_bipush 63 _ bp_59 h.1 dX2_all_63 ?_
  refine xcX_V_1 65 h (xm_X2_must h.2.2.1 hw) (by omega) (Nat.le_of_eq (Nat.zero_add _)) (Nat.le_of_eq (Nat.zero_add _)) q714 qs12 (fun H hI => x_recvK h rfl rfl hI) q712 (Nat.le_of_ble_eq_true rfl) dX2_all_65 (fun ν55 hw => ?_) (fun _ he => hO _ _ _ _ _ he)
  refine g_aload_0 68 h.1 dX2_all_68 ?_
  refine xg_X2_103_2 69 h dX2_all_69 ?_
  obtain ⟨b56, e57, hw⟩ := hw
  rw [e57]
  refine g_iconstv 72 _ ic_1 h.1 dX2_all_72 ?_
  obtain ⟨f60, hw⟩ := hw
  refine xp_X2_139_1 73 f60 h dX2_all_73 (fun ν58 e59 => ?_)
  have hw := hw ν58 e59
  exact g_le (xt_X2_all_76 hAT hFC h hT hN hR hO hw) ⟨rfl, trivial⟩
theorem xm_X2_all {l : Launch} {S : Adr} {A : Nat → Prop} {dA : Nat} {AT : XN → Nat → Nat → (Nat → XN → Prop) → (XN → Prop) → Prop} (hAT : ∀ l ν k n Q E, AT ν k n Q E → xMetX l S A (dA) k n 0 yX2_atom [.ref (S.2.1 1)] ν (pA Q) E) {dF : Nat} {FC : XN → Nat → Nat → (Nat → XN → Prop) → (XN → Prop) → Prop} (hFC : ∀ l ν k n Q E, FC ν k n Q E → xMetX l S A (dA + dF) k n 0 yX2_fact [.ref (S.2.1 1)] ν (pA Q) E) (hD : FD xT S xcl A) {x1 : Int32} {ν : XN} {k n : Nat} {Q : Nat → XN → Prop} {E : XN → Prop} (hw : xw_X2_all AT FC x1 ν k n Q E) : xMetX l S A (dA + dF + 14) k n 1 yX2_all [.ref (S.2.1 1), .int x1] ν (pA Q) E :=
  x_startX (by decide) hD ⟨⟨by decide, by decide, by show _ = some 1; decide +kernel⟩, by decide, q581, q176⟩ (Nat.le_of_ble_eq_true rfl) (fun κ Z h hT hN hR hO => xt_X2_all hAT hFC h hT hN hR hO hw)
def xw_X2_opens (x1 : Int32) (ν : XN) (Q : XN → Prop) (E : XN → Prop) : Prop :=
  ((¬ (fI ν.1 1 4) = (6 : Int32) → (∀ ν1, ν1 = (sI ν.1 1 4 ((fI ν.1 1 4) + (1 : Int32)), ν.2) → Q ν1)) ∧ ((fI ν.1 1 4) = (6 : Int32) → (xw_X2_wrong (4 : Int32) x1 ν (fun r4 ν3 => (r4 = 2 ∧ E ν3)))))
theorem xt_X2_opens {κ : Cx} {S : Adr} {A : Nat → Prop} {Z : State → Prop} {Q : XN → Prop} (h : XCx κ cX2_opens RX2 S A 2 0 0) (hT : (cxT κ).sig.returnType = none) (hN : (cxT κ).name = "opens") (hR : xRet κ S A 0 0 Z cX2_opens (pV Q)) {E : XN → Prop} (hO : xOut κ S A 0 0 Z E) {x1 : Int32} {ν : XN} (hw : xw_X2_opens x1 ν Q E) : XG κ S A 0 0 Z 0 (ν, 0, 0) [some (.ref (S.2.1 1)), some (.int x1)] [] := by
  unfold xw_X2_opens at hw
  refine g_aload_0 0 h.1 dX2_opens_0 ?_
  refine xg_X2_125_2 1 h dX2_opens_1 ?_
  refine g_bipush 4 _ bp_6 h.1 dX2_opens_4 ?_
  refine g_icmp_ne 6 16 h.1 dX2_opens_6 (by decide) (fun c => ?_) (fun c => ?_)
  · have hw := hw.1 c
    refine g_aload_0 16 h.1 dX2_opens_16 ?_
    refine g_dup 17 rfl h.1 dX2_opens_17 ?_
    refine xg_X2_125_2 18 h dX2_opens_18 ?_
    refine g_iconstv 21 _ ic_1 h.1 dX2_opens_21 ?_
    refine g_iadd 22 h.1 dX2_opens_22 ?_
    refine xp_X2_125_2 23 h dX2_opens_23 (fun ν1 e2 => ?_)
    have hw := hw ν1 e2
    exact hR.2.2.1 26 _ _ _ _ hT dX2_opens_26 ⟨rfl, hw⟩
  · have hw := hw.2 c
    refine g_aload_0 9 h.1 dX2_opens_9 ?_
    refine g_iconstv 10 _ ic_4 h.1 dX2_opens_10 ?_
    refine g_iload_1 11 h.1 dX2_opens_11 ?_
    refine xcV_K_2 12 h (xm_X2_wrong h.2.2.1 hw) (by decide) (Nat.le_of_eq (Nat.zero_add _)) (Nat.le_of_eq (Nat.zero_add _)) q606 qs8 (fun H hI => x_recvK h rfl rfl hI) q604 (Nat.le_of_ble_eq_true rfl) dX2_opens_12 (fun r4 ν3 hw => ?_)
    obtain ⟨f5, hw⟩ := hw
    subst f5
    exact x_athrow 15 h dX2_opens_15 (hO _ _ _ _ _ hw)
theorem xm_X2_opens {l : Launch} {S : Adr} {A : Nat → Prop} (hD : FD xT S xcl A) {x1 : Int32} {ν : XN} {Q : XN → Prop} {E : XN → Prop} (hw : xw_X2_opens x1 ν Q E) : xMetX l S A 2 0 0 1 yX2_opens [.ref (S.2.1 1), .int x1] ν (pV Q) E :=
  x_startX (by decide) hD ⟨⟨by decide, by decide, by show _ = some 1; decide +kernel⟩, by decide, q1078, q176⟩ (Nat.le_of_ble_eq_true rfl) (fun κ Z h hT hN hR hO => xt_X2_opens h hT hN hR hO hw)
def xw_X2_within_77 (AT : XN → Nat → Nat → (Nat → XN → Prop) → (XN → Prop) → Prop) (x3 : Nat) (ν : XN) (k n : Nat) (Q : Nat → XN → Prop) (E : XN → Prop) : Prop :=
  (xw_X2_must (41 : Int32) ν (fun ν26 => (∀ ν27, ν27 = (sI ν26.1 1 4 ((fI ν26.1 1 4) - (1 : Int32)), ν26.2) → Q x3 ν27)) E)
theorem xt_X2_within_77 {κ : Cx} {S : Adr} {A : Nat → Prop} {mc ms : Nat} {Z : State → Prop} {Q : Nat → XN → Prop} {dA : Nat} {AT : XN → Nat → Nat → (Nat → XN → Prop) → (XN → Prop) → Prop} (hAT : ∀ l ν k n Q E, AT ν k n Q E → xMetX l S A (dA) k n 0 yX2_atom [.ref (S.2.1 1)] ν (pA Q) E) (h : XCx κ cX2_within RX2 S A (dA + 12) mc ms) (hT : (cxT κ).sig.returnType = some (.object "ShrugHills$Value")) (hN : (cxT κ).name = "within") (hR : xRet κ S A mc ms Z cX2_within (pA Q)) {E : XN → Prop} (hO : xOut κ S A mc ms Z E) {x3 : Nat} {ν : XN} {k n : Nat} (hw : xw_X2_within_77 AT x3 ν k n Q E) : XG κ S A mc ms Z 77 (ν, k, n) [some (.ref (S.2.1 1)), none, none, some (.ref x3)] [] := by
  unfold xw_X2_within_77 at hw
  refine g_aload_0 77 h.1 dX2_within_77 ?_
  refine g_bipush 78 _ bp_41 h.1 dX2_within_78 ?_
  refine xcX_V_1 80 h (xm_X2_must h.2.2.1 hw) (by omega) (Nat.le_of_eq (Nat.zero_add _)) (Nat.le_of_eq (Nat.zero_add _)) q714 qs12 (fun H hI => x_recvK h rfl rfl hI) q712 (Nat.le_of_ble_eq_true rfl) dX2_within_80 (fun ν26 hw => ?_) (fun _ he => hO _ _ _ _ _ he)
  refine g_aload_0 83 h.1 dX2_within_83 ?_
  refine g_dup 84 rfl h.1 dX2_within_84 ?_
  refine xg_X2_125_2 85 h dX2_within_85 ?_
  refine g_iconstv 88 _ ic_1 h.1 dX2_within_88 ?_
  refine g_isub 89 h.1 dX2_within_89 ?_
  refine xp_X2_125_2 90 h dX2_within_90 (fun ν27 e28 => ?_)
  have hw := hw ν27 e28
  refine g_aload_3 93 h.1 dX2_within_93 ?_
  exact hR.2.2.2 94 (some x3) _ _ _ _ _ hT (by first | exact Or.inl ⟨_, rfl⟩ | exact Or.inr ⟨_, rfl⟩) dX2_within_94 ⟨_, rfl, hw⟩
def xw_X2_within_68 (AT : XN → Nat → Nat → (Nat → XN → Prop) → (XN → Prop) → Prop) (x2 : Nat) (y0 : Int32) (y1 : Nat) (y2 : Nat) (ν : XN) (k n : Nat) (Q : Nat → XN → Prop) (E : XN → Prop) : Prop :=
  (∃ k31 n32 k33 n34, k31 + k33 ≤ k ∧ n32 + n34 ≤ n ∧ xw_X2_sum AT ν k31 n32 (fun r30 ν29 => (xw_X12_init y1 y0 x2 r30 ν29 (fun ν37 => xw_X2_within_77 AT y2 ν37 k33 n34 Q E))) E)
theorem xt_X2_within_68 {κ : Cx} {S : Adr} {A : Nat → Prop} {mc ms : Nat} {Z : State → Prop} {Q : Nat → XN → Prop} {dA : Nat} {AT : XN → Nat → Nat → (Nat → XN → Prop) → (XN → Prop) → Prop} (hAT : ∀ l ν k n Q E, AT ν k n Q E → xMetX l S A (dA) k n 0 yX2_atom [.ref (S.2.1 1)] ν (pA Q) E) (h : XCx κ cX2_within RX2 S A (dA + 12) mc ms) (hT : (cxT κ).sig.returnType = some (.object "ShrugHills$Value")) (hN : (cxT κ).name = "within") (hR : xRet κ S A mc ms Z cX2_within (pA Q)) {E : XN → Prop} (hO : xOut κ S A mc ms Z E) {x2 : Nat} {y0 : Int32} {y1 : Nat} {y2 : Nat} {ν : XN} {k n : Nat} (hw : xw_X2_within_68 AT x2 y0 y1 y2 ν k n Q E) : XG κ S A mc ms Z 68 (ν, k, n) [some (.ref (S.2.1 1)), none, some (.ref x2), none] [.int y0, .ref y1, .ref y2] := by
  unfold xw_X2_within_68 at hw
  refine g_aload_2 68 h.1 dX2_within_68 ?_
  refine g_aload_0 69 h.1 dX2_within_69 ?_
  obtain ⟨k31, n32, k33, n34, a35, a36, hw⟩ := hw
  refine xcX_A_0 70 h (xm_X2_sum hAT h.2.2.1 hw) (by omega) a35 a36 q1020 qs27 (fun H hI => x_recvK h rfl rfl hI) q1018 (Nat.le_of_ble_eq_true rfl) dX2_within_70 (fun r30 ν29 hw => ?_) (fun _ he => hO _ _ _ _ _ he)
  refine xcI_V_3 73 h (xm_X12_init h.2.2.1 hw) (by omega) (Nat.le_of_eq (Nat.zero_add _)) (Nat.le_of_eq (Nat.zero_add _)) rfl q1082 q1081 (Nat.le_of_ble_eq_true rfl) dX2_within_73 (fun ν37 hw => ?_)
  refine g_astore_3 76 h.1 rfl dX2_within_76 ?_
  exact g_le (xt_X2_within_77 hAT h hT hN hR hO hw) ⟨rfl, rfl, trivial⟩
def xw_X2_within (AT : XN → Nat → Nat → (Nat → XN → Prop) → (XN → Prop) → Prop) (x1 : Int32) (ν : XN) (k n : Nat) (Q : Nat → XN → Prop) (E : XN → Prop) : Prop :=
  (xw_X2_here ν (fun r2 ν1 => ((r2 = (40 : Int32) → (xw_X2_opens (fI ν1.1 1 2) ν1 (fun ν3 => (∀ ν4, ν4 = (sI ν3.1 1 2 ((fI ν3.1 1 2) + (1 : Int32)), ν3.2) → (∃ k8 n9 k10 n11, k8 + k10 ≤ k ∧ n9 + n11 ≤ n ∧ xw_X2_sum AT ν4 k8 n9 (fun r7 ν6 => ((x1 ≤ 0 → xw_X2_within_77 AT r7 ν6 k10 n11 Q E) ∧ (¬ x1 ≤ 0 → (xw_X2_must (44 : Int32) ν6 (fun ν14 => (∃ k19 n20, k19 + 1 ≤ k10 ∧ n20 + 3 ≤ n11 ∧ ∀ q15, rk ν14.2 q15 = 0 → ∀ ν17, ν17 = (ν14.1, tN ν14.2 q15 13 0) → ((¬ x1 = (2 : Int32) → xw_X2_within_68 AT r7 (0 : Int32) q15 q15 ν17 k19 n20 Q E) ∧ (x1 = (2 : Int32) → xw_X2_within_68 AT r7 (1 : Int32) q15 q15 ν17 k19 n20 Q E)))) E)))) E))) E)) ∧ (¬ r2 = (40 : Int32) → (xw_X2_wrong (1 : Int32) (fI ν1.1 1 2) ν1 (fun r24 ν23 => (r24 = 2 ∧ E ν23)))))))
theorem xt_X2_within {κ : Cx} {S : Adr} {A : Nat → Prop} {mc ms : Nat} {Z : State → Prop} {Q : Nat → XN → Prop} {dA : Nat} {AT : XN → Nat → Nat → (Nat → XN → Prop) → (XN → Prop) → Prop} (hAT : ∀ l ν k n Q E, AT ν k n Q E → xMetX l S A (dA) k n 0 yX2_atom [.ref (S.2.1 1)] ν (pA Q) E) (h : XCx κ cX2_within RX2 S A (dA + 12) mc ms) (hT : (cxT κ).sig.returnType = some (.object "ShrugHills$Value")) (hN : (cxT κ).name = "within") (hR : xRet κ S A mc ms Z cX2_within (pA Q)) {E : XN → Prop} (hO : xOut κ S A mc ms Z E) {x1 : Int32} {ν : XN} {k n : Nat} (hw : xw_X2_within AT x1 ν k n Q E) : XG κ S A mc ms Z 0 (ν, k, n) [some (.ref (S.2.1 1)), some (.int x1), none, none] [] := by
  unfold xw_X2_within at hw
  refine g_aload_0 0 h.1 dX2_within_0 ?_
  refine xcV_I_0 1 h (xm_X2_here h.2.2.1 hw) (by omega) (Nat.le_of_eq (Nat.zero_add _)) (Nat.le_of_eq (Nat.zero_add _)) q595 qs6 (fun H hI => x_recvK h rfl rfl hI) q593 (Nat.le_of_ble_eq_true rfl) dX2_within_1 (fun r2 ν1 hw => ?_)
  refine g_bipush 4 _ bp_40 h.1 dX2_within_4 ?_
  refine g_icmp_eq 6 19 h.1 dX2_within_6 (by decide) (fun c => ?_) (fun c => ?_)
  · have hw := hw.1 c
    refine g_aload_0 19 h.1 dX2_within_19 ?_
    refine g_aload_0 20 h.1 dX2_within_20 ?_
    refine xg_X2_36_2 21 h dX2_within_21 ?_
    refine xcX_V_1 24 h (xm_X2_opens h.2.2.1 hw) (by omega) (Nat.le_of_eq (Nat.zero_add _)) (Nat.le_of_eq (Nat.zero_add _)) q1077 qs31 (fun H hI => x_recvK h rfl rfl hI) q1075 (Nat.le_of_ble_eq_true rfl) dX2_within_24 (fun ν3 hw => ?_) (fun _ he => hO _ _ _ _ _ he)
    refine g_aload_0 27 h.1 dX2_within_27 ?_
    refine g_dup 28 rfl h.1 dX2_within_28 ?_
    refine xg_X2_36_2 29 h dX2_within_29 ?_
    refine g_iconstv 32 _ ic_1 h.1 dX2_within_32 ?_
    refine g_iadd 33 h.1 dX2_within_33 ?_
    refine xp_X2_36_2 34 h dX2_within_34 (fun ν4 e5 => ?_)
    have hw := hw ν4 e5
    refine g_aload_0 37 h.1 dX2_within_37 ?_
    obtain ⟨k8, n9, k10, n11, a12, a13, hw⟩ := hw
    refine xcX_A_0 38 h (xm_X2_sum hAT h.2.2.1 hw) (by omega) a12 a13 q1020 qs27 (fun H hI => x_recvK h rfl rfl hI) q1018 (Nat.le_of_ble_eq_true rfl) dX2_within_38 (fun r7 ν6 hw => ?_) (fun _ he => hO _ _ _ _ _ he)
    refine g_astore_2 41 h.1 rfl dX2_within_41 ?_
    refine g_aload_2 42 h.1 dX2_within_42 ?_
    refine g_astore_3 43 h.1 rfl dX2_within_43 ?_
    refine g_iload_1 44 h.1 dX2_within_44 ?_
    refine g_if_le 45 77 h.1 dX2_within_45 (by decide) (fun c => ?_) (fun c => ?_)
    · have hw := hw.1 c
      exact g_le (xt_X2_within_77 hAT h hT hN hR hO hw) ⟨rfl, rfl, trivial⟩
    · have hw := hw.2 c
      refine g_aload_0 48 h.1 dX2_within_48 ?_
      refine g_bipush 49 _ bp_44 h.1 dX2_within_49 ?_
      refine xcX_V_1 51 h (xm_X2_must h.2.2.1 hw) (by omega) (Nat.le_of_eq (Nat.zero_add _)) (Nat.le_of_eq (Nat.zero_add _)) q714 qs12 (fun H hI => x_recvK h rfl rfl hI) q712 (Nat.le_of_ble_eq_true rfl) dX2_within_51 (fun ν14 hw => ?_) (fun _ he => hO _ _ _ _ _ he)
      obtain ⟨k19, n20, a21, a22, hw⟩ := hw
      refine xn_X2_286 54 a21 a22 h dX2_within_54 (fun q15 e16 ν17 e18 => ?_)
      have hw := hw q15 e16 ν17 e18
      refine g_dup 57 rfl h.1 dX2_within_57 ?_
      refine g_iload_1 58 h.1 dX2_within_58 ?_
      refine g_iconstv 59 _ ic_2 h.1 dX2_within_59 ?_
      refine g_icmp_ne 60 67 h.1 dX2_within_60 (by decide) (fun c => ?_) (fun c => ?_)
      · have hw := hw.1 c
        refine g_iconstv 67 _ ic_0 h.1 dX2_within_67 ?_
        exact g_le (xt_X2_within_68 hAT h hT hN hR hO hw) ⟨rfl, rfl, trivial⟩
      · have hw := hw.2 c
        refine g_iconstv 63 _ ic_1 h.1 dX2_within_63 ?_
        refine g_goto 64 68 h.1 dX2_within_64 (by decide) ?_
        exact g_le (xt_X2_within_68 hAT h hT hN hR hO hw) ⟨rfl, rfl, trivial⟩
  · have hw := hw.2 c
    refine g_aload_0 9 h.1 dX2_within_9 ?_
    refine g_iconstv 10 _ ic_1 h.1 dX2_within_10 ?_
    refine g_aload_0 11 h.1 dX2_within_11 ?_
    refine xg_X2_36_2 12 h dX2_within_12 ?_
    refine xcV_K_2 15 h (xm_X2_wrong h.2.2.1 hw) (by omega) (Nat.le_of_eq (Nat.zero_add _)) (Nat.le_of_eq (Nat.zero_add _)) q606 qs8 (fun H hI => x_recvK h rfl rfl hI) q604 (Nat.le_of_ble_eq_true rfl) dX2_within_15 (fun r24 ν23 hw => ?_)
    obtain ⟨f25, hw⟩ := hw
    subst f25
    exact x_athrow 18 h dX2_within_18 (hO _ _ _ _ _ hw)
theorem xm_X2_within {l : Launch} {S : Adr} {A : Nat → Prop} {dA : Nat} {AT : XN → Nat → Nat → (Nat → XN → Prop) → (XN → Prop) → Prop} (hAT : ∀ l ν k n Q E, AT ν k n Q E → xMetX l S A (dA) k n 0 yX2_atom [.ref (S.2.1 1)] ν (pA Q) E) (hD : FD xT S xcl A) {x1 : Int32} {ν : XN} {k n : Nat} {Q : Nat → XN → Prop} {E : XN → Prop} (hw : xw_X2_within AT x1 ν k n Q E) : xMetX l S A (dA + 12) k n 1 yX2_within [.ref (S.2.1 1), .int x1] ν (pA Q) E :=
  x_startX (by decide) hD ⟨⟨by decide, by decide, by show _ = some 1; decide +kernel⟩, by decide, q1074, q176⟩ (Nat.le_of_ble_eq_true rfl) (fun κ Z h hT hN hR hO => xt_X2_within hAT h hT hN hR hO hw)
def xw_X2_looked (AT : XN → Nat → Nat → (Nat → XN → Prop) → (XN → Prop) → Prop) (x1 : Int32) (ν : XN) (k n : Nat) (Q : Nat → XN → Prop) (E : XN → Prop) : Prop :=
  (xw_X2_opens (fI ν.1 1 3) ν (fun ν1 => (∃ k6 n7, k6 + 1 ≤ k ∧ n7 + 3 ≤ n ∧ ∀ q2, rk ν1.2 q2 = 0 → ∀ ν4, ν4 = (ν1.1, tN ν1.2 q2 16 0) → (∃ k12 n13 k14 n15, k12 + k14 ≤ k6 ∧ n13 + n15 ≤ n7 ∧ AT ν4 k12 n13 (fun r11 ν10 => (xw_X15_init q2 x1 r11 ν10 (fun ν18 => (∀ ν19, ν19 = (sI ν18.1 1 4 ((fI ν18.1 1 4) - (1 : Int32)), ν18.2) → Q q2 ν19)))) E))) E)
theorem xt_X2_looked {κ : Cx} {S : Adr} {A : Nat → Prop} {mc ms : Nat} {Z : State → Prop} {Q : Nat → XN → Prop} {dA : Nat} {AT : XN → Nat → Nat → (Nat → XN → Prop) → (XN → Prop) → Prop} (hAT : ∀ l ν k n Q E, AT ν k n Q E → xMetX l S A (dA) k n 0 yX2_atom [.ref (S.2.1 1)] ν (pA Q) E) (h : XCx κ cX2_looked RX2 S A (dA + 3) mc ms) (hT : (cxT κ).sig.returnType = some (.object "ShrugHills$Value")) (hN : (cxT κ).name = "looked") (hR : xRet κ S A mc ms Z cX2_looked (pA Q)) {E : XN → Prop} (hO : xOut κ S A mc ms Z E) {x1 : Int32} {ν : XN} {k n : Nat} (hw : xw_X2_looked AT x1 ν k n Q E) : XG κ S A mc ms Z 0 (ν, k, n) [some (.ref (S.2.1 1)), some (.int x1), none] [] := by
  unfold xw_X2_looked at hw
  refine g_aload_0 0 h.1 dX2_looked_0 ?_
  refine g_aload_0 1 h.1 dX2_looked_1 ?_
  refine xg_X2_61_2 2 h dX2_looked_2 ?_
  refine xcX_V_1 5 h (xm_X2_opens h.2.2.1 hw) (by omega) (Nat.le_of_eq (Nat.zero_add _)) (Nat.le_of_eq (Nat.zero_add _)) q1077 qs31 (fun H hI => x_recvK h rfl rfl hI) q1075 (Nat.le_of_ble_eq_true rfl) dX2_looked_5 (fun ν1 hw => ?_) (fun _ he => hO _ _ _ _ _ he)
  obtain ⟨k6, n7, a8, a9, hw⟩ := hw
  refine xn_X2_355 8 a8 a9 h dX2_looked_8 (fun q2 e3 ν4 e5 => ?_)
  have hw := hw q2 e3 ν4 e5
  refine g_dup 11 rfl h.1 dX2_looked_11 ?_
  refine g_aload_0 12 h.1 dX2_looked_12 ?_
  refine xg_X2_3_2 13 h dX2_looked_13 ?_
  refine g_iload_1 16 h.1 dX2_looked_16 ?_
  refine g_aload_0 17 h.1 dX2_looked_17 ?_
  obtain ⟨k12, n13, k14, n15, a16, a17, hw⟩ := hw
  refine xcX_A_0 18 h (hAT _ _ _ _ _ _ hw) (by omega) a16 a17 q1069 qs29 (fun H hI => x_recvK h rfl rfl hI) q1067 (Nat.le_of_ble_eq_true rfl) dX2_looked_18 (fun r11 ν10 hw => ?_) (fun _ he => hO _ _ _ _ _ he)
  refine xcI_V_3 21 h (xm_X15_init h.2.2.1 hw) (by omega) (Nat.le_of_eq (Nat.zero_add _)) (Nat.le_of_eq (Nat.zero_add _)) rfl q1126 q1125 (Nat.le_of_ble_eq_true rfl) dX2_looked_21 (fun ν18 hw => ?_)
  refine g_astore_2 24 h.1 rfl dX2_looked_24 ?_
  refine g_aload_0 25 h.1 dX2_looked_25 ?_
  refine g_dup 26 rfl h.1 dX2_looked_26 ?_
  refine xg_X2_125_2 27 h dX2_looked_27 ?_
  refine g_iconstv 30 _ ic_1 h.1 dX2_looked_30 ?_
  refine g_isub 31 h.1 dX2_looked_31 ?_
  refine xp_X2_125_2 32 h dX2_looked_32 (fun ν19 e20 => ?_)
  have hw := hw ν19 e20
  refine g_aload_2 35 h.1 dX2_looked_35 ?_
  exact hR.2.2.2 36 (some q2) _ _ _ _ _ hT (by first | exact Or.inl ⟨_, rfl⟩ | exact Or.inr ⟨_, rfl⟩) dX2_looked_36 ⟨_, rfl, hw⟩
theorem xm_X2_looked {l : Launch} {S : Adr} {A : Nat → Prop} {dA : Nat} {AT : XN → Nat → Nat → (Nat → XN → Prop) → (XN → Prop) → Prop} (hAT : ∀ l ν k n Q E, AT ν k n Q E → xMetX l S A (dA) k n 0 yX2_atom [.ref (S.2.1 1)] ν (pA Q) E) (hD : FD xT S xcl A) {x1 : Int32} {ν : XN} {k n : Nat} {Q : Nat → XN → Prop} {E : XN → Prop} (hw : xw_X2_looked AT x1 ν k n Q E) : xMetX l S A (dA + 3) k n 1 yX2_looked [.ref (S.2.1 1), .int x1] ν (pA Q) E :=
  x_startX (by decide) hD ⟨⟨by decide, by decide, by show _ = some 1; decide +kernel⟩, by decide, q1122, q176⟩ (Nat.le_of_ble_eq_true rfl) (fun κ Z h hT hN hR hO => xt_X2_looked hAT h hT hN hR hO hw)
def xw_X2_atom_159 (AT : XN → Nat → Nat → (Nat → XN → Prop) → (XN → Prop) → Prop) (y0 : Int32) (ν : XN) (k n : Nat) (Q : Nat → XN → Prop) (E : XN → Prop) : Prop :=
  (∃ k81 n82 k83 n84, k81 + k83 ≤ k ∧ n82 + n84 ≤ n ∧ xw_X2_within AT y0 ν k81 n82 (fun r80 ν79 => Q r80 ν79) E)
theorem xt_X2_atom_159 {κ : Cx} {S : Adr} {A : Nat → Prop} {mc ms : Nat} {Z : State → Prop} {Q : Nat → XN → Prop} {dA : Nat} {AT : XN → Nat → Nat → (Nat → XN → Prop) → (XN → Prop) → Prop} (hAT : ∀ l ν k n Q E, AT ν k n Q E → xMetX l S A (dA) k n 0 yX2_atom [.ref (S.2.1 1)] ν (pA Q) E) (h : XCx κ cX2_atom RX2 S A (dA + 13) mc ms) (hT : (cxT κ).sig.returnType = some (.object "ShrugHills$Value")) (hN : (cxT κ).name = "atom") (hR : xRet κ S A mc ms Z cX2_atom (pA Q)) {E : XN → Prop} (hO : xOut κ S A mc ms Z E) {y0 : Int32} {ν : XN} {k n : Nat} (hw : xw_X2_atom_159 AT y0 ν k n Q E) : XG κ S A mc ms Z 159 (ν, k, n) [none, none, none] [.int y0, .ref (S.2.1 1)] := by
  unfold xw_X2_atom_159 at hw
  obtain ⟨k81, n82, k83, n84, a85, a86, hw⟩ := hw
  refine xcX_A_1 159 h (xm_X2_within hAT h.2.2.1 hw) (by omega) a85 a86 q1073 qs30 (fun H hI => x_recvK h rfl rfl hI) q1071 (Nat.le_of_ble_eq_true rfl) dX2_atom_159 (fun r80 ν79 hw => ?_) (fun _ he => hO _ _ _ _ _ he)
  exact hR.2.2.2 162 (some r80) _ _ _ _ _ hT (by first | exact Or.inl ⟨_, rfl⟩ | exact Or.inr ⟨_, rfl⟩) dX2_atom_162 ⟨_, rfl, hw⟩
def xw_X2_atom_143 (AT : XN → Nat → Nat → (Nat → XN → Prop) → (XN → Prop) → Prop) (x1 : Nat) (ν : XN) (k n : Nat) (Q : Nat → XN → Prop) (E : XN → Prop) : Prop :=
  (∀ b74, fR ν.1 900 14 = .ref b74 → (rc ν.2 x1 = 11 ∧ (xw_J6_equals x1 b74 ν (fun r77 ν76 => ((r77 = 0 → xw_X2_atom_159 AT (2 : Int32) ν76 k n Q E) ∧ (¬ r77 = 0 → xw_X2_atom_159 AT (1 : Int32) ν76 k n Q E))))))
theorem xt_X2_atom_143 {κ : Cx} {S : Adr} {A : Nat → Prop} {mc ms : Nat} {Z : State → Prop} {Q : Nat → XN → Prop} {dA : Nat} {AT : XN → Nat → Nat → (Nat → XN → Prop) → (XN → Prop) → Prop} (hAT : ∀ l ν k n Q E, AT ν k n Q E → xMetX l S A (dA) k n 0 yX2_atom [.ref (S.2.1 1)] ν (pA Q) E) (h : XCx κ cX2_atom RX2 S A (dA + 13) mc ms) (hT : (cxT κ).sig.returnType = some (.object "ShrugHills$Value")) (hN : (cxT κ).name = "atom") (hR : xRet κ S A mc ms Z cX2_atom (pA Q)) {E : XN → Prop} (hO : xOut κ S A mc ms Z E) {x1 : Nat} {ν : XN} {k n : Nat} (hw : xw_X2_atom_143 AT x1 ν k n Q E) : XG κ S A mc ms Z 143 (ν, k, n) [some (.ref (S.2.1 1)), some (.ref x1), none] [] := by
  unfold xw_X2_atom_143 at hw
  refine g_aload_0 143 h.1 dX2_atom_143 ?_
  refine g_aload_1 144 h.1 dX2_atom_144 ?_
  refine x_ldcwS 145 14 rfl h dX2_atom_145 (fun b74 e75 => ?_)
  have hw := hw b74 e75
  obtain ⟨f78, hw⟩ := hw
  refine xcV_I_1 148 h (xm_J6_equals h.2.2.1 hw) (by omega) (Nat.le_of_eq (Nat.zero_add _)) (Nat.le_of_eq (Nat.zero_add _)) q694 q695 (fun H hI => x_recvR h f78 rfl hI) q693 (Nat.le_of_ble_eq_true rfl) dX2_atom_148 (fun r77 ν76 hw => ?_)
  refine g_if_eq 151 158 h.1 dX2_atom_151 (by decide) (fun c => ?_) (fun c => ?_)
  · have hw := hw.1 c
    refine g_iconstv 158 _ ic_2 h.1 dX2_atom_158 ?_
    exact g_le (xt_X2_atom_159 hAT h hT hN hR hO hw) trivial
  · have hw := hw.2 c
    refine g_iconstv 154 _ ic_1 h.1 dX2_atom_154 ?_
    refine g_goto 155 159 h.1 dX2_atom_155 (by decide) ?_
    exact g_le (xt_X2_atom_159 hAT h hT hN hR hO hw) trivial
def xw_X2_atom_101 (AT : XN → Nat → Nat → (Nat → XN → Prop) → (XN → Prop) → Prop) (x1 : Nat) (y0 : Int32) (ν : XN) (k n : Nat) (Q : Nat → XN → Prop) (E : XN → Prop) : Prop :=
  ((y0 = (-1 : Int32) → (∀ b53, fR ν.1 900 14 = .ref b53 → (rc ν.2 x1 = 11 ∧ (xw_J6_equals x1 b53 ν (fun r56 ν55 => ((¬ r56 = 0 → xw_X2_atom_143 AT x1 ν55 k n Q E) ∧ (r56 = 0 → (∀ b58, fR ν55.1 900 15 = .ref b58 → (rc ν55.2 x1 = 11 ∧ (xw_J6_equals x1 b58 ν55 (fun r61 ν60 => ((¬ r61 = 0 → xw_X2_atom_143 AT x1 ν60 k n Q E) ∧ (r61 = 0 → (xw_X2_wrong (1 : Int32) (fI ν60.1 1 3) ν60 (fun r64 ν63 => (r64 = 2 ∧ E ν63)))))))))))))))) ∧ (¬ y0 = (-1 : Int32) → (∃ k68 n69 k70 n71, k68 + k70 ≤ k ∧ n69 + n71 ≤ n ∧ xw_X2_looked AT y0 ν k68 n69 (fun r67 ν66 => Q r67 ν66) E)))
theorem xt_X2_atom_101 {κ : Cx} {S : Adr} {A : Nat → Prop} {mc ms : Nat} {Z : State → Prop} {Q : Nat → XN → Prop} {dA : Nat} {AT : XN → Nat → Nat → (Nat → XN → Prop) → (XN → Prop) → Prop} (hAT : ∀ l ν k n Q E, AT ν k n Q E → xMetX l S A (dA) k n 0 yX2_atom [.ref (S.2.1 1)] ν (pA Q) E) (h : XCx κ cX2_atom RX2 S A (dA + 13) mc ms) (hT : (cxT κ).sig.returnType = some (.object "ShrugHills$Value")) (hN : (cxT κ).name = "atom") (hR : xRet κ S A mc ms Z cX2_atom (pA Q)) {E : XN → Prop} (hO : xOut κ S A mc ms Z E) {x1 : Nat} {y0 : Int32} {ν : XN} {k n : Nat} (hw : xw_X2_atom_101 AT x1 y0 ν k n Q E) : XG κ S A mc ms Z 101 (ν, k, n) [some (.ref (S.2.1 1)), some (.ref x1), none] [.int y0] := by
  unfold xw_X2_atom_101 at hw
  refine g_istore_2 101 h.1 rfl dX2_atom_101 ?_
  refine g_iload_2 102 h.1 dX2_atom_102 ?_
  refine g_iconstv 103 _ ic_m1 h.1 dX2_atom_103 ?_
  refine g_icmp_eq 104 113 h.1 dX2_atom_104 (by decide) (fun c => ?_) (fun c => ?_)
  · have hw := hw.1 c
    refine g_aload_1 113 h.1 dX2_atom_113 ?_
    refine x_ldcwS 114 14 rfl h dX2_atom_114 (fun b53 e54 => ?_)
    have hw := hw b53 e54
    obtain ⟨f57, hw⟩ := hw
    refine xcV_I_1 117 h (xm_J6_equals h.2.2.1 hw) (by omega) (Nat.le_of_eq (Nat.zero_add _)) (Nat.le_of_eq (Nat.zero_add _)) q694 q695 (fun H hI => x_recvR h f57 rfl hI) q693 (Nat.le_of_ble_eq_true rfl) dX2_atom_117 (fun r56 ν55 hw => ?_)
    refine g_if_ne 120 143 h.1 dX2_atom_120 (by decide) (fun c => ?_) (fun c => ?_)
    · have hw := hw.1 c
      exact g_le (xt_X2_atom_143 hAT h hT hN hR hO hw) ⟨rfl, rfl, trivial⟩
    · have hw := hw.2 c
      refine g_aload_1 123 h.1 dX2_atom_123 ?_
      refine x_ldcwS 124 15 rfl h dX2_atom_124 (fun b58 e59 => ?_)
      have hw := hw b58 e59
      obtain ⟨f62, hw⟩ := hw
      refine xcV_I_1 127 h (xm_J6_equals h.2.2.1 hw) (by omega) (Nat.le_of_eq (Nat.zero_add _)) (Nat.le_of_eq (Nat.zero_add _)) q694 q695 (fun H hI => x_recvR h f62 rfl hI) q693 (Nat.le_of_ble_eq_true rfl) dX2_atom_127 (fun r61 ν60 hw => ?_)
      refine g_if_ne 130 143 h.1 dX2_atom_130 (by decide) (fun c => ?_) (fun c => ?_)
      · have hw := hw.1 c
        exact g_le (xt_X2_atom_143 hAT h hT hN hR hO hw) ⟨rfl, rfl, trivial⟩
      · have hw := hw.2 c
        refine g_aload_0 133 h.1 dX2_atom_133 ?_
        refine g_iconstv 134 _ ic_1 h.1 dX2_atom_134 ?_
        refine g_aload_0 135 h.1 dX2_atom_135 ?_
        refine xg_X2_61_2 136 h dX2_atom_136 ?_
        refine xcV_K_2 139 h (xm_X2_wrong h.2.2.1 hw) (by omega) (Nat.le_of_eq (Nat.zero_add _)) (Nat.le_of_eq (Nat.zero_add _)) q606 qs8 (fun H hI => x_recvK h rfl rfl hI) q604 (Nat.le_of_ble_eq_true rfl) dX2_atom_139 (fun r64 ν63 hw => ?_)
        obtain ⟨f65, hw⟩ := hw
        subst f65
        exact x_athrow 142 h dX2_atom_142 (hO _ _ _ _ _ hw)
  · have hw := hw.2 c
    refine g_aload_0 107 h.1 dX2_atom_107 ?_
    refine g_iload_2 108 h.1 dX2_atom_108 ?_
    obtain ⟨k68, n69, k70, n71, a72, a73, hw⟩ := hw
    refine xcX_A_1 109 h (xm_X2_looked hAT h.2.2.1 hw) (by omega) a72 a73 q1121 qs32 (fun H hI => x_recvK h rfl rfl hI) q1119 (Nat.le_of_ble_eq_true rfl) dX2_atom_109 (fun r67 ν66 hw => ?_) (fun _ he => hO _ _ _ _ _ he)
    exact hR.2.2.2 112 (some r67) _ _ _ _ _ hT (by first | exact Or.inl ⟨_, rfl⟩ | exact Or.inr ⟨_, rfl⟩) dX2_atom_112 ⟨_, rfl, hw⟩
def xw_X2_atom_80 (AT : XN → Nat → Nat → (Nat → XN → Prop) → (XN → Prop) → Prop) (x1 : Nat) (ν : XN) (k n : Nat) (Q : Nat → XN → Prop) (E : XN → Prop) : Prop :=
  ((¬ (fI ν.1 1 5) = (463 : Int32) → xw_X2_atom_101 AT x1 (-1 : Int32) ν k n Q E) ∧ ((fI ν.1 1 5) = (463 : Int32) → (∀ b49, fR ν.1 901 2 = .ref b49 → (xw_X0_find x1 b49 ν (fun r52 ν51 => xw_X2_atom_101 AT x1 r52 ν51 k n Q E)))))
theorem xt_X2_atom_80 {κ : Cx} {S : Adr} {A : Nat → Prop} {mc ms : Nat} {Z : State → Prop} {Q : Nat → XN → Prop} {dA : Nat} {AT : XN → Nat → Nat → (Nat → XN → Prop) → (XN → Prop) → Prop} (hAT : ∀ l ν k n Q E, AT ν k n Q E → xMetX l S A (dA) k n 0 yX2_atom [.ref (S.2.1 1)] ν (pA Q) E) (h : XCx κ cX2_atom RX2 S A (dA + 13) mc ms) (hT : (cxT κ).sig.returnType = some (.object "ShrugHills$Value")) (hN : (cxT κ).name = "atom") (hR : xRet κ S A mc ms Z cX2_atom (pA Q)) {E : XN → Prop} (hO : xOut κ S A mc ms Z E) {x1 : Nat} {ν : XN} {k n : Nat} (hw : xw_X2_atom_80 AT x1 ν k n Q E) : XG κ S A mc ms Z 80 (ν, k, n) [some (.ref (S.2.1 1)), some (.ref x1), none] [] := by
  unfold xw_X2_atom_80 at hw
  refine g_aload_0 80 h.1 dX2_atom_80 ?_
  refine xg_X2_235_2 81 h dX2_atom_81 ?_
  refine g_sipush 84 _ sp_463 h.1 dX2_atom_84 ?_
  refine g_icmp_ne 87 100 h.1 dX2_atom_87 (by decide) (fun c => ?_) (fun c => ?_)
  · have hw := hw.1 c
    refine g_iconstv 100 _ ic_m1 h.1 dX2_atom_100 ?_
    exact g_le (xt_X2_atom_101 hAT h hT hN hR hO hw) ⟨rfl, rfl, trivial⟩
  · have hw := hw.2 c
    refine g_aload_1 90 h.1 dX2_atom_90 ?_
    refine xs_X2_307 91 h dX2_atom_91 (fun b49 e50 => ?_)
    have hw := hw b49 e50
    refine xcSN_I_2 94 h (xm_X0_find h.2.2.1 hw) (by omega) (Nat.le_of_eq (Nat.zero_add _)) (Nat.le_of_eq (Nat.zero_add _)) q809 q808 (Nat.le_of_ble_eq_true rfl) dX2_atom_94 (fun r52 ν51 hw => ?_)
    refine g_goto 97 101 h.1 dX2_atom_97 (by decide) ?_
    exact g_le (xt_X2_atom_101 hAT h hT hN hR hO hw) ⟨rfl, rfl, trivial⟩
def xw_X2_atom (AT : XN → Nat → Nat → (Nat → XN → Prop) → (XN → Prop) → Prop) (ν : XN) (k n : Nat) (Q : Nat → XN → Prop) (E : XN → Prop) : Prop :=
  (xw_X2_here ν (fun r2 ν1 => ((¬ r2 = (40 : Int32) → (xw_X2_here ν1 (fun r4 ν3 => (xw_X0_isDigit r4 ν3 (fun r6 ν5 => ((r6 = 0 → (∃ k9 n10 k11 n12, k9 + k11 ≤ k ∧ n10 + n12 ≤ n ∧ xw_X2_word_2 ν5 k9 n10 (fun r8 ν7 => (∀ b15, fR ν7.1 901 1 = .ref b15 → (xw_X0_find r8 b15 ν7 (fun r18 ν17 => ((r18 = (-1 : Int32) → xw_X2_atom_80 AT r8 ν17 k11 n12 Q E) ∧ (¬ r18 = (-1 : Int32) → (xw_X0_has (fI ν17.1 1 5) r18 ν17 (fun r20 ν19 => ((r20 = 0 → xw_X2_atom_80 AT r8 ν19 k11 n12 Q E) ∧ (¬ r20 = 0 → (∃ k25 n26, k25 + 1 ≤ k11 ∧ n26 + 1 ≤ n12 ∧ ∀ q21, rk ν19.2 q21 = 0 → ∀ ν23, ν23 = (ν19.1, tN ν19.2 q21 15 0) → (xw_X14_init q21 r18 ν23 (fun ν29 => Q q21 ν29))))))))))))) E)) ∧ (¬ r6 = 0 → (∃ k34 n35, k34 + 1 ≤ k ∧ n35 + 1 ≤ n ∧ ∀ q30, rk ν5.2 q30 = 0 → ∀ ν32, ν32 = (ν5.1, tN ν5.2 q30 14 0) → (xw_X2_number (0 : Int32) (9999 : Int32) ν32 (fun r39 ν38 => (xw_X13_init q30 (Int32.toInt64 r39) ν38 (fun ν40 => Q q30 ν40))) E))))))))) ∧ (r2 = (40 : Int32) → (∃ k43 n44 k45 n46, k43 + k45 ≤ k ∧ n44 + n46 ≤ n ∧ xw_X2_within AT (0 : Int32) ν1 k43 n44 (fun r42 ν41 => Q r42 ν41) E)))))
theorem xt_X2_atom {κ : Cx} {S : Adr} {A : Nat → Prop} {mc ms : Nat} {Z : State → Prop} {Q : Nat → XN → Prop} {dA : Nat} {AT : XN → Nat → Nat → (Nat → XN → Prop) → (XN → Prop) → Prop} (hAT : ∀ l ν k n Q E, AT ν k n Q E → xMetX l S A (dA) k n 0 yX2_atom [.ref (S.2.1 1)] ν (pA Q) E) (h : XCx κ cX2_atom RX2 S A (dA + 13) mc ms) (hT : (cxT κ).sig.returnType = some (.object "ShrugHills$Value")) (hN : (cxT κ).name = "atom") (hR : xRet κ S A mc ms Z cX2_atom (pA Q)) {E : XN → Prop} (hO : xOut κ S A mc ms Z E) {ν : XN} {k n : Nat} (hw : xw_X2_atom AT ν k n Q E) : XG κ S A mc ms Z 0 (ν, k, n) [some (.ref (S.2.1 1)), none, none] [] := by
  unfold xw_X2_atom at hw
  refine g_aload_0 0 h.1 dX2_atom_0 ?_
  refine xcV_I_0 1 h (xm_X2_here h.2.2.1 hw) (by omega) (Nat.le_of_eq (Nat.zero_add _)) (Nat.le_of_eq (Nat.zero_add _)) q595 qs6 (fun H hI => x_recvK h rfl rfl hI) q593 (Nat.le_of_ble_eq_true rfl) dX2_atom_1 (fun r2 ν1 hw => ?_)
  refine g_bipush 4 _ bp_40 h.1 dX2_atom_4 ?_
  refine g_icmp_ne 6 15 h.1 dX2_atom_6 (by decide) (fun c => ?_) (fun c => ?_)
  · have hw := hw.1 c
    refine g_aload_0 15 h.1 dX2_atom_15 ?_
    refine xcV_I_0 16 h (xm_X2_here h.2.2.1 hw) (by omega) (Nat.le_of_eq (Nat.zero_add _)) (Nat.le_of_eq (Nat.zero_add _)) q595 qs6 (fun H hI => x_recvK h rfl rfl hI) q593 (Nat.le_of_ble_eq_true rfl) dX2_atom_16 (fun r4 ν3 hw => ?_)
    refine xcSN_I_1 19 h (xm_X0_isDigit h.2.2.1 hw) (by omega) (Nat.le_of_eq (Nat.zero_add _)) (Nat.le_of_eq (Nat.zero_add _)) q613 q612 (Nat.le_of_ble_eq_true rfl) dX2_atom_19 (fun r6 ν5 hw => ?_)
    refine g_if_eq 22 42 h.1 dX2_atom_22 (by decide) (fun c => ?_) (fun c => ?_)
    · have hw := hw.1 c
      refine g_aload_0 42 h.1 dX2_atom_42 ?_
      obtain ⟨k9, n10, k11, n12, a13, a14, hw⟩ := hw
      refine xcX_A_0 43 h (xm_X2_word_2 h.2.2.1 hw) (by omega) a13 a14 q591 qs5 (fun H hI => x_recvK h rfl rfl hI) q589 (Nat.le_of_ble_eq_true rfl) dX2_atom_43 (fun r8 ν7 hw => ?_) (fun _ he => hO _ _ _ _ _ he)
      refine g_astore_1 46 h.1 rfl dX2_atom_46 ?_
      refine g_aload_1 47 h.1 dX2_atom_47 ?_
      refine xs_X2_300 48 h dX2_atom_48 (fun b15 e16 => ?_)
      have hw := hw b15 e16
      refine xcSN_I_2 51 h (xm_X0_find h.2.2.1 hw) (by omega) (Nat.le_of_eq (Nat.zero_add _)) (Nat.le_of_eq (Nat.zero_add _)) q809 q808 (Nat.le_of_ble_eq_true rfl) dX2_atom_51 (fun r18 ν17 hw => ?_)
      refine g_istore_2 54 h.1 rfl dX2_atom_54 ?_
      refine g_iload_2 55 h.1 dX2_atom_55 ?_
      refine g_iconstv 56 _ ic_m1 h.1 dX2_atom_56 ?_
      refine g_icmp_eq 57 80 h.1 dX2_atom_57 (by decide) (fun c => ?_) (fun c => ?_)
      · have hw := hw.1 c
        exact g_le (xt_X2_atom_80 hAT h hT hN hR hO hw) ⟨rfl, rfl, trivial⟩
      · have hw := hw.2 c
        refine g_aload_0 60 h.1 dX2_atom_60 ?_
        refine xg_X2_235_2 61 h dX2_atom_61 ?_
        refine g_iload_2 64 h.1 dX2_atom_64 ?_
        refine xcSN_I_2 65 h (xm_X0_has h.2.2.1 hw) (by omega) (Nat.le_of_eq (Nat.zero_add _)) (Nat.le_of_eq (Nat.zero_add _)) q983 q982 (Nat.le_of_ble_eq_true rfl) dX2_atom_65 (fun r20 ν19 hw => ?_)
        refine g_if_eq 68 80 h.1 dX2_atom_68 (by decide) (fun c => ?_) (fun c => ?_)
        · have hw := hw.1 c
          exact g_le (xt_X2_atom_80 hAT h hT hN hR hO hw) ⟨rfl, rfl, trivial⟩
        · have hw := hw.2 c
          obtain ⟨k25, n26, a27, a28, hw⟩ := hw
          refine xn_X2_303 71 a27 a28 h dX2_atom_71 (fun q21 e22 ν23 e24 => ?_)
          have hw := hw q21 e22 ν23 e24
          refine g_dup 74 rfl h.1 dX2_atom_74 ?_
          refine g_iload_2 75 h.1 dX2_atom_75 ?_
          refine xcI_V_1 76 h (xm_X14_init h.2.2.1 hw) (by omega) (Nat.le_of_eq (Nat.zero_add _)) (Nat.le_of_eq (Nat.zero_add _)) rfl q1110 q1109 (Nat.le_of_ble_eq_true rfl) dX2_atom_76 (fun ν29 hw => ?_)
          exact hR.2.2.2 79 (some q21) _ _ _ _ _ hT (by first | exact Or.inl ⟨_, rfl⟩ | exact Or.inr ⟨_, rfl⟩) dX2_atom_79 ⟨_, rfl, hw⟩
    · have hw := hw.2 c
      obtain ⟨k34, n35, a36, a37, hw⟩ := hw
      refine xn_X2_295 25 a36 a37 h dX2_atom_25 (fun q30 e31 ν32 e33 => ?_)
      have hw := hw q30 e31 ν32 e33
      refine g_dup 28 rfl h.1 dX2_atom_28 ?_
      refine g_aload_0 29 h.1 dX2_atom_29 ?_
      refine g_iconstv 30 _ ic_0 h.1 dX2_atom_30 ?_
      refine g_sipush 31 _ sp_9999 h.1 dX2_atom_31 ?_
      refine xcX_I_2 34 h (xm_X2_number h.2.2.1 hw) (by omega) (Nat.le_of_eq (Nat.zero_add _)) (Nat.le_of_eq (Nat.zero_add _)) q702 qs10 (fun H hI => x_recvK h rfl rfl hI) q700 (Nat.le_of_ble_eq_true rfl) dX2_atom_34 (fun r39 ν38 hw => ?_) (fun _ he => hO _ _ _ _ _ he)
      refine g_i2l 37 h.1 dX2_atom_37 ?_
      refine xcI_V_1 38 h (xm_X13_init h.2.2.1 hw) (by omega) (Nat.le_of_eq (Nat.zero_add _)) (Nat.le_of_eq (Nat.zero_add _)) rfl q1098 q1097 (Nat.le_of_ble_eq_true rfl) dX2_atom_38 (fun ν40 hw => ?_)
      exact hR.2.2.2 41 (some q30) _ _ _ _ _ hT (by first | exact Or.inl ⟨_, rfl⟩ | exact Or.inr ⟨_, rfl⟩) dX2_atom_41 ⟨_, rfl, hw⟩
  · have hw := hw.2 c
    refine g_aload_0 9 h.1 dX2_atom_9 ?_
    refine g_iconstv 10 _ ic_0 h.1 dX2_atom_10 ?_
    obtain ⟨k43, n44, k45, n46, a47, a48, hw⟩ := hw
    refine xcX_A_1 11 h (xm_X2_within hAT h.2.2.1 hw) (by omega) a47 a48 q1073 qs30 (fun H hI => x_recvK h rfl rfl hI) q1071 (Nat.le_of_ble_eq_true rfl) dX2_atom_11 (fun r42 ν41 hw => ?_) (fun _ he => hO _ _ _ _ _ he)
    exact hR.2.2.2 14 (some r42) _ _ _ _ _ hT (by first | exact Or.inl ⟨_, rfl⟩ | exact Or.inr ⟨_, rfl⟩) dX2_atom_14 ⟨_, rfl, hw⟩
theorem xm_X2_atom {l : Launch} {S : Adr} {A : Nat → Prop} {dA : Nat} {AT : XN → Nat → Nat → (Nat → XN → Prop) → (XN → Prop) → Prop} (hAT : ∀ l ν k n Q E, AT ν k n Q E → xMetX l S A (dA) k n 0 yX2_atom [.ref (S.2.1 1)] ν (pA Q) E) (hD : FD xT S xcl A) {ν : XN} {k n : Nat} {Q : Nat → XN → Prop} {E : XN → Prop} (hw : xw_X2_atom AT ν k n Q E) : xMetX l S A (dA + 13) k n 0 yX2_atom [.ref (S.2.1 1)] ν (pA Q) E :=
  x_startX (by decide) hD ⟨⟨by decide, by decide, by show _ = some 0; decide +kernel⟩, by decide, q1070, q176⟩ (Nat.le_of_ble_eq_true rfl) (fun κ Z h hT hN hR hO => xt_X2_atom hAT h hT hN hR hO hw)
def xw_X2_fact_148 (AT : XN → Nat → Nat → (Nat → XN → Prop) → (XN → Prop) → Prop) (FC : XN → Nat → Nat → (Nat → XN → Prop) → (XN → Prop) → Prop) (x1 : Nat) (x2 : Int32) (ν : XN) (k n : Nat) (Q : Nat → XN → Prop) (E : XN → Prop) : Prop :=
  (∀ ν79, ν79 = (sI ν.1 1 2 ((fI ν.1 1 2) + (1 : Int32)), ν.2) → (∃ k85 n86, k85 + 1 ≤ k ∧ n86 + 3 ≤ n ∧ ∀ q81, rk ν79.2 q81 = 0 → ∀ ν83, ν83 = (ν79.1, tN ν79.2 q81 21 0) → (∃ k91 n92 k93 n94, k91 + k93 ≤ k85 ∧ n92 + n94 ≤ n86 ∧ xw_X2_sum AT ν83 k91 n92 (fun r90 ν89 => (xw_X20_init q81 x1 x2 r90 ν89 (fun ν97 => Q q81 ν97))) E)))
theorem xt_X2_fact_148 {κ : Cx} {S : Adr} {A : Nat → Prop} {mc ms : Nat} {Z : State → Prop} {Q : Nat → XN → Prop} {dA : Nat} {AT : XN → Nat → Nat → (Nat → XN → Prop) → (XN → Prop) → Prop} (hAT : ∀ l ν k n Q E, AT ν k n Q E → xMetX l S A (dA) k n 0 yX2_atom [.ref (S.2.1 1)] ν (pA Q) E) {dF : Nat} {FC : XN → Nat → Nat → (Nat → XN → Prop) → (XN → Prop) → Prop} (hFC : ∀ l ν k n Q E, FC ν k n Q E → xMetX l S A (dA + dF) k n 0 yX2_fact [.ref (S.2.1 1)] ν (pA Q) E) (h : XCx κ cX2_fact RX2 S A (dA + dF + 13) mc ms) (hT : (cxT κ).sig.returnType = some (.object "ShrugHills$Test")) (hN : (cxT κ).name = "fact") (hR : xRet κ S A mc ms Z cX2_fact (pA Q)) {E : XN → Prop} (hO : xOut κ S A mc ms Z E) {x1 : Nat} {x2 : Int32} {ν : XN} {k n : Nat} (hw : xw_X2_fact_148 AT FC x1 x2 ν k n Q E) : XG κ S A mc ms Z 148 (ν, k, n) [some (.ref (S.2.1 1)), some (.ref x1), some (.int x2)] [] := by
  unfold xw_X2_fact_148 at hw
  refine g_aload_0 148 h.1 dX2_fact_148 ?_
  refine g_dup 149 rfl h.1 dX2_fact_149 ?_
  refine xg_X2_36_2 150 h dX2_fact_150 ?_
  refine g_iconstv 153 _ ic_1 h.1 dX2_fact_153 ?_
  refine g_iadd 154 h.1 dX2_fact_154 ?_
  refine xp_X2_36_2 155 h dX2_fact_155 (fun ν79 e80 => ?_)
  have hw := hw ν79 e80
  obtain ⟨k85, n86, a87, a88, hw⟩ := hw
  refine xn_X2_350 158 a87 a88 h dX2_fact_158 (fun q81 e82 ν83 e84 => ?_)
  have hw := hw q81 e82 ν83 e84
  refine g_dup 161 rfl h.1 dX2_fact_161 ?_
  refine g_aload_1 162 h.1 dX2_fact_162 ?_
  refine g_iload_2 163 h.1 dX2_fact_163 ?_
  refine g_aload_0 164 h.1 dX2_fact_164 ?_
  obtain ⟨k91, n92, k93, n94, a95, a96, hw⟩ := hw
  refine xcX_A_0 165 h (xm_X2_sum hAT h.2.2.1 hw) (by omega) a95 a96 q1020 qs27 (fun H hI => x_recvK h rfl rfl hI) q1018 (Nat.le_of_ble_eq_true rfl) dX2_fact_165 (fun r90 ν89 hw => ?_) (fun _ he => hO _ _ _ _ _ he)
  refine xcI_V_3 168 h (xm_X20_init h.2.2.1 hw) (by omega) (Nat.le_of_eq (Nat.zero_add _)) (Nat.le_of_eq (Nat.zero_add _)) rfl q1263 q1262 (Nat.le_of_ble_eq_true rfl) dX2_fact_168 (fun ν97 hw => ?_)
  exact hR.2.2.2 171 (some q81) _ _ _ _ _ hT (by first | exact Or.inl ⟨_, rfl⟩ | exact Or.inr ⟨_, rfl⟩) dX2_fact_171 ⟨_, rfl, hw⟩
def xw_X2_fact (AT : XN → Nat → Nat → (Nat → XN → Prop) → (XN → Prop) → Prop) (FC : XN → Nat → Nat → (Nat → XN → Prop) → (XN → Prop) → Prop) (ν : XN) (k n : Nat) (Q : Nat → XN → Prop) (E : XN → Prop) : Prop :=
  (xw_X2_here ν (fun r2 ν1 => ((¬ r2 = (91 : Int32) → (∀ b3, fR ν1.1 900 18 = .ref b3 → (∃ k7 n8 k9 n10, k7 + k9 ≤ k ∧ n8 + n10 ≤ n ∧ xw_X2_passes b3 ν1 k7 n8 (fun r6 ν5 => ((r6 = 0 → (∀ b13, fR ν5.1 900 19 = .ref b13 → (∃ k17 n18 k19 n20, k17 + k19 ≤ k9 ∧ n18 + n20 ≤ n10 ∧ xw_X2_passes b13 ν5 k17 n18 (fun r16 ν15 => ((r16 = 0 → (∃ k25 n26 k27 n28, k25 + k27 ≤ k19 ∧ n26 + n28 ≤ n20 ∧ xw_X2_sum AT ν15 k25 n26 (fun r24 ν23 => (xw_X2_here ν23 (fun r32 ν31 => ((r32 = (60 : Int32) → xw_X2_fact_148 AT FC r24 r32 ν31 k27 n28 Q E) ∧ (¬ r32 = (60 : Int32) → ((r32 = (62 : Int32) → xw_X2_fact_148 AT FC r24 r32 ν31 k27 n28 Q E) ∧ (¬ r32 = (62 : Int32) → ((r32 = (61 : Int32) → xw_X2_fact_148 AT FC r24 r32 ν31 k27 n28 Q E) ∧ (¬ r32 = (61 : Int32) → (xw_X2_wrong (1 : Int32) (fI ν31.1 1 2) ν31 (fun r34 ν33 => (r34 = 2 ∧ E ν33)))))))))))) E)) ∧ (¬ r16 = 0 → (∃ k40 n41, k40 + 1 ≤ k19 ∧ n41 + 0 ≤ n20 ∧ ∀ q36, rk ν15.2 q36 = 0 → ∀ ν38, ν38 = (ν15.1, tN ν15.2 q36 20 0) → (xw_X19_init q36 ν38 (fun ν44 => Q q36 ν44)))))) E))) ∧ (¬ r6 = 0 → (xw_X2_opens (fI ν5.1 1 3) ν5 (fun ν45 => (∃ k50 n51, k50 + 1 ≤ k9 ∧ n51 + 1 ≤ n10 ∧ ∀ q46, rk ν45.2 q46 = 0 → ∀ ν48, ν48 = (ν45.1, tN ν45.2 q46 19 0) → (∃ k56 n57 k58 n59, k56 + k58 ≤ k50 ∧ n57 + n59 ≤ n51 ∧ FC ν48 k56 n57 (fun r55 ν54 => (xw_X18_init q46 r55 ν54 (fun ν62 => (∀ ν63, ν63 = (sI ν62.1 1 4 ((fI ν62.1 1 4) - (1 : Int32)), ν62.2) → Q q46 ν63)))) E))) E)))) E))) ∧ (r2 = (91 : Int32) → (xw_X2_opens (fI ν1.1 1 2) ν1 (fun ν65 => (∀ ν66, ν66 = (sI ν65.1 1 2 ((fI ν65.1 1 2) + (1 : Int32)), ν65.2) → (∃ k70 n71 k72 n73, k70 + k72 ≤ k ∧ n71 + n73 ≤ n ∧ xw_X2_test AT FC ν66 k70 n71 (fun r69 ν68 => (xw_X2_must (93 : Int32) ν68 (fun ν76 => (∀ ν77, ν77 = (sI ν76.1 1 4 ((fI ν76.1 1 4) - (1 : Int32)), ν76.2) → Q r69 ν77)) E)) E))) E)))))
theorem xt_X2_fact {κ : Cx} {S : Adr} {A : Nat → Prop} {mc ms : Nat} {Z : State → Prop} {Q : Nat → XN → Prop} {dA : Nat} {AT : XN → Nat → Nat → (Nat → XN → Prop) → (XN → Prop) → Prop} (hAT : ∀ l ν k n Q E, AT ν k n Q E → xMetX l S A (dA) k n 0 yX2_atom [.ref (S.2.1 1)] ν (pA Q) E) {dF : Nat} {FC : XN → Nat → Nat → (Nat → XN → Prop) → (XN → Prop) → Prop} (hFC : ∀ l ν k n Q E, FC ν k n Q E → xMetX l S A (dA + dF) k n 0 yX2_fact [.ref (S.2.1 1)] ν (pA Q) E) (h : XCx κ cX2_fact RX2 S A (dA + dF + 13) mc ms) (hT : (cxT κ).sig.returnType = some (.object "ShrugHills$Test")) (hN : (cxT κ).name = "fact") (hR : xRet κ S A mc ms Z cX2_fact (pA Q)) {E : XN → Prop} (hO : xOut κ S A mc ms Z E) {ν : XN} {k n : Nat} (hw : xw_X2_fact AT FC ν k n Q E) : XG κ S A mc ms Z 0 (ν, k, n) [some (.ref (S.2.1 1)), none, none] [] := by
  unfold xw_X2_fact at hw
  refine g_aload_0 0 h.1 dX2_fact_0 ?_
  refine xcV_I_0 1 h (xm_X2_here h.2.2.1 hw) (by omega) (Nat.le_of_eq (Nat.zero_add _)) (Nat.le_of_eq (Nat.zero_add _)) q595 qs6 (fun H hI => x_recvK h rfl rfl hI) q593 (Nat.le_of_ble_eq_true rfl) dX2_fact_1 (fun r2 ν1 hw => ?_)
  refine g_bipush 4 _ bp_91 h.1 dX2_fact_4 ?_
  refine g_icmp_ne 6 50 h.1 dX2_fact_6 (by decide) (fun c => ?_) (fun c => ?_)
  · have hw := hw.1 c
    refine g_aload_0 50 h.1 dX2_fact_50 ?_
    refine x_ldcwS 51 18 rfl h dX2_fact_51 (fun b3 e4 => ?_)
    have hw := hw b3 e4
    obtain ⟨k7, n8, k9, n10, a11, a12, hw⟩ := hw
    refine xcX_I_1 54 h (xm_X2_passes h.2.2.1 hw) (by omega) a11 a12 q1240 qs37 (fun H hI => x_recvK h rfl rfl hI) q1238 (Nat.le_of_ble_eq_true rfl) dX2_fact_54 (fun r6 ν5 hw => ?_) (fun _ he => hO _ _ _ _ _ he)
    refine g_if_eq 57 92 h.1 dX2_fact_57 (by decide) (fun c => ?_) (fun c => ?_)
    · have hw := hw.1 c
      refine g_aload_0 92 h.1 dX2_fact_92 ?_
      refine x_ldcwS 93 19 rfl h dX2_fact_93 (fun b13 e14 => ?_)
      have hw := hw b13 e14
      obtain ⟨k17, n18, k19, n20, a21, a22, hw⟩ := hw
      refine xcX_I_1 96 h (xm_X2_passes h.2.2.1 hw) (by omega) a21 a22 q1240 qs37 (fun H hI => x_recvK h rfl rfl hI) q1238 (Nat.le_of_ble_eq_true rfl) dX2_fact_96 (fun r16 ν15 hw => ?_) (fun _ he => hO _ _ _ _ _ he)
      refine g_if_eq 99 110 h.1 dX2_fact_99 (by decide) (fun c => ?_) (fun c => ?_)
      · have hw := hw.1 c
        refine g_aload_0 110 h.1 dX2_fact_110 ?_
        obtain ⟨k25, n26, k27, n28, a29, a30, hw⟩ := hw
        refine xcX_A_0 111 h (xm_X2_sum hAT h.2.2.1 hw) (by omega) a29 a30 q1020 qs27 (fun H hI => x_recvK h rfl rfl hI) q1018 (Nat.le_of_ble_eq_true rfl) dX2_fact_111 (fun r24 ν23 hw => ?_) (fun _ he => hO _ _ _ _ _ he)
        refine g_astore_1 114 h.1 rfl dX2_fact_114 ?_
        refine g_aload_0 115 h.1 dX2_fact_115 ?_
        refine xcV_I_0 116 h (xm_X2_here h.2.2.1 hw) (by omega) (Nat.le_of_eq (Nat.zero_add _)) (Nat.le_of_eq (Nat.zero_add _)) q595 qs6 (fun H hI => x_recvK h rfl rfl hI) q593 (Nat.le_of_ble_eq_true rfl) dX2_fact_116 (fun r32 ν31 hw => ?_)
        refine g_istore_2 119 h.1 rfl dX2_fact_119 ?_
        refine g_iload_2 120 h.1 dX2_fact_120 ?_
        refine g_bipush 121 _ bp_60 h.1 dX2_fact_121 ?_
        refine g_icmp_eq 123 148 h.1 dX2_fact_123 (by decide) (fun c => ?_) (fun c => ?_)
        · have hw := hw.1 c
          exact g_le (xt_X2_fact_148 hAT hFC h hT hN hR hO hw) ⟨rfl, rfl, rfl, trivial⟩
        · have hw := hw.2 c
          refine g_iload_2 126 h.1 dX2_fact_126 ?_
          refine g_bipush 127 _ bp_62 h.1 dX2_fact_127 ?_
          refine g_icmp_eq 129 148 h.1 dX2_fact_129 (by decide) (fun c => ?_) (fun c => ?_)
          · have hw := hw.1 c
            exact g_le (xt_X2_fact_148 hAT hFC h hT hN hR hO hw) ⟨rfl, rfl, rfl, trivial⟩
          · have hw := hw.2 c
            refine g_iload_2 132 h.1 dX2_fact_132 ?_
            refine g_bipush 133 _ bp_61 h.1 dX2_fact_133 ?_
            refine g_icmp_eq 135 148 h.1 dX2_fact_135 (by decide) (fun c => ?_) (fun c => ?_)
            · have hw := hw.1 c
              exact g_le (xt_X2_fact_148 hAT hFC h hT hN hR hO hw) ⟨rfl, rfl, rfl, trivial⟩
            · have hw := hw.2 c
              refine g_aload_0 138 h.1 dX2_fact_138 ?_
              refine g_iconstv 139 _ ic_1 h.1 dX2_fact_139 ?_
              refine g_aload_0 140 h.1 dX2_fact_140 ?_
              refine xg_X2_36_2 141 h dX2_fact_141 ?_
              refine xcV_K_2 144 h (xm_X2_wrong h.2.2.1 hw) (by omega) (Nat.le_of_eq (Nat.zero_add _)) (Nat.le_of_eq (Nat.zero_add _)) q606 qs8 (fun H hI => x_recvK h rfl rfl hI) q604 (Nat.le_of_ble_eq_true rfl) dX2_fact_144 (fun r34 ν33 hw => ?_)
              obtain ⟨f35, hw⟩ := hw
              subst f35
              exact x_athrow 147 h dX2_fact_147 (hO _ _ _ _ _ hw)
      · have hw := hw.2 c
        obtain ⟨k40, n41, a42, a43, hw⟩ := hw
        refine xn_X2_347 102 a42 a43 h dX2_fact_102 (fun q36 e37 ν38 e39 => ?_)
        have hw := hw q36 e37 ν38 e39
        refine g_dup 105 rfl h.1 dX2_fact_105 ?_
        refine xcIN_V_0 106 h (xm_X19_init h.2.2.1 hw) (by omega) (Nat.le_of_eq (Nat.zero_add _)) (Nat.le_of_eq (Nat.zero_add _)) rfl q1256 q1255 (Nat.le_of_ble_eq_true rfl) dX2_fact_106 (fun ν44 hw => ?_)
        exact hR.2.2.2 109 (some q36) _ _ _ _ _ hT (by first | exact Or.inl ⟨_, rfl⟩ | exact Or.inr ⟨_, rfl⟩) dX2_fact_109 ⟨_, rfl, hw⟩
    · have hw := hw.2 c
      refine g_aload_0 60 h.1 dX2_fact_60 ?_
      refine g_aload_0 61 h.1 dX2_fact_61 ?_
      refine xg_X2_61_2 62 h dX2_fact_62 ?_
      refine xcX_V_1 65 h (xm_X2_opens h.2.2.1 hw) (by omega) (Nat.le_of_eq (Nat.zero_add _)) (Nat.le_of_eq (Nat.zero_add _)) q1077 qs31 (fun H hI => x_recvK h rfl rfl hI) q1075 (Nat.le_of_ble_eq_true rfl) dX2_fact_65 (fun ν45 hw => ?_) (fun _ he => hO _ _ _ _ _ he)
      obtain ⟨k50, n51, a52, a53, hw⟩ := hw
      refine xn_X2_340 68 a52 a53 h dX2_fact_68 (fun q46 e47 ν48 e49 => ?_)
      have hw := hw q46 e47 ν48 e49
      refine g_dup 71 rfl h.1 dX2_fact_71 ?_
      refine g_aload_0 72 h.1 dX2_fact_72 ?_
      obtain ⟨k56, n57, k58, n59, a60, a61, hw⟩ := hw
      refine xcX_A_0 73 h (hFC _ _ _ _ _ _ hw) (by omega) a60 a61 q1235 qs36 (fun H hI => x_recvK h rfl rfl hI) q1233 (Nat.le_of_ble_eq_true rfl) dX2_fact_73 (fun r55 ν54 hw => ?_) (fun _ he => hO _ _ _ _ _ he)
      refine xcI_V_1 76 h (xm_X18_init h.2.2.1 hw) (by omega) (Nat.le_of_eq (Nat.zero_add _)) (Nat.le_of_eq (Nat.zero_add _)) rfl q1245 q1244 (Nat.le_of_ble_eq_true rfl) dX2_fact_76 (fun ν62 hw => ?_)
      refine g_astore_1 79 h.1 rfl dX2_fact_79 ?_
      refine g_aload_0 80 h.1 dX2_fact_80 ?_
      refine g_dup 81 rfl h.1 dX2_fact_81 ?_
      refine xg_X2_125_2 82 h dX2_fact_82 ?_
      refine g_iconstv 85 _ ic_1 h.1 dX2_fact_85 ?_
      refine g_isub 86 h.1 dX2_fact_86 ?_
      refine xp_X2_125_2 87 h dX2_fact_87 (fun ν63 e64 => ?_)
      have hw := hw ν63 e64
      refine g_aload_1 90 h.1 dX2_fact_90 ?_
      exact hR.2.2.2 91 (some q46) _ _ _ _ _ hT (by first | exact Or.inl ⟨_, rfl⟩ | exact Or.inr ⟨_, rfl⟩) dX2_fact_91 ⟨_, rfl, hw⟩
  · have hw := hw.2 c
    refine g_aload_0 9 h.1 dX2_fact_9 ?_
    refine g_aload_0 10 h.1 dX2_fact_10 ?_
    refine xg_X2_36_2 11 h dX2_fact_11 ?_
    refine xcX_V_1 14 h (xm_X2_opens h.2.2.1 hw) (by omega) (Nat.le_of_eq (Nat.zero_add _)) (Nat.le_of_eq (Nat.zero_add _)) q1077 qs31 (fun H hI => x_recvK h rfl rfl hI) q1075 (Nat.le_of_ble_eq_true rfl) dX2_fact_14 (fun ν65 hw => ?_) (fun _ he => hO _ _ _ _ _ he)
    refine g_aload_0 17 h.1 dX2_fact_17 ?_
    refine g_dup 18 rfl h.1 dX2_fact_18 ?_
    refine xg_X2_36_2 19 h dX2_fact_19 ?_
    refine g_iconstv 22 _ ic_1 h.1 dX2_fact_22 ?_
    refine g_iadd 23 h.1 dX2_fact_23 ?_
    refine xp_X2_36_2 24 h dX2_fact_24 (fun ν66 e67 => ?_)
    have hw := hw ν66 e67
    refine g_aload_0 27 h.1 dX2_fact_27 ?_
    obtain ⟨k70, n71, k72, n73, a74, a75, hw⟩ := hw
    refine xcX_A_0 28 h (xm_X2_test hAT hFC h.2.2.1 hw) (by omega) a74 a75 q1208 qs34 (fun H hI => x_recvK h rfl rfl hI) q1206 (Nat.le_of_ble_eq_true rfl) dX2_fact_28 (fun r69 ν68 hw => ?_) (fun _ he => hO _ _ _ _ _ he)
    refine g_astore_1 31 h.1 rfl dX2_fact_31 ?_
    refine g_aload_0 32 h.1 dX2_fact_32 ?_
    refine g_bipush 33 _ bp_93 h.1 dX2_fact_33 ?_
    refine xcX_V_1 35 h (xm_X2_must h.2.2.1 hw) (by omega) (Nat.le_of_eq (Nat.zero_add _)) (Nat.le_of_eq (Nat.zero_add _)) q714 qs12 (fun H hI => x_recvK h rfl rfl hI) q712 (Nat.le_of_ble_eq_true rfl) dX2_fact_35 (fun ν76 hw => ?_) (fun _ he => hO _ _ _ _ _ he)
    refine g_aload_0 38 h.1 dX2_fact_38 ?_
    refine g_dup 39 rfl h.1 dX2_fact_39 ?_
    refine xg_X2_125_2 40 h dX2_fact_40 ?_
    refine g_iconstv 43 _ ic_1 h.1 dX2_fact_43 ?_
    refine g_isub 44 h.1 dX2_fact_44 ?_
    refine xp_X2_125_2 45 h dX2_fact_45 (fun ν77 e78 => ?_)
    have hw := hw ν77 e78
    refine g_aload_1 48 h.1 dX2_fact_48 ?_
    exact hR.2.2.2 49 (some r69) _ _ _ _ _ hT (by first | exact Or.inl ⟨_, rfl⟩ | exact Or.inr ⟨_, rfl⟩) dX2_fact_49 ⟨_, rfl, hw⟩
theorem xm_X2_fact {l : Launch} {S : Adr} {A : Nat → Prop} {dA : Nat} {AT : XN → Nat → Nat → (Nat → XN → Prop) → (XN → Prop) → Prop} (hAT : ∀ l ν k n Q E, AT ν k n Q E → xMetX l S A (dA) k n 0 yX2_atom [.ref (S.2.1 1)] ν (pA Q) E) {dF : Nat} {FC : XN → Nat → Nat → (Nat → XN → Prop) → (XN → Prop) → Prop} (hFC : ∀ l ν k n Q E, FC ν k n Q E → xMetX l S A (dA + dF) k n 0 yX2_fact [.ref (S.2.1 1)] ν (pA Q) E) (hD : FD xT S xcl A) {ν : XN} {k n : Nat} {Q : Nat → XN → Prop} {E : XN → Prop} (hw : xw_X2_fact AT FC ν k n Q E) : xMetX l S A (dA + dF + 13) k n 0 yX2_fact [.ref (S.2.1 1)] ν (pA Q) E :=
  x_startX (by decide) hD ⟨⟨by decide, by decide, by show _ = some 0; decide +kernel⟩, by decide, q1236, q176⟩ (Nat.le_of_ble_eq_true rfl) (fun κ Z h hT hN hR hO => xt_X2_fact hAT hFC h hT hN hR hO hw)
def xw_X2_question_82 (AT : XN → Nat → Nat → (Nat → XN → Prop) → (XN → Prop) → Prop) (FC : XN → Nat → Nat → (Nat → XN → Prop) → (XN → Prop) → Prop) (y0 : Nat) (ν : XN) (k n : Nat) (Q : Nat → XN → Prop) (E : XN → Prop) : Prop :=
  (xw_X2_here ν (fun r59 ν58 => ((r59 = (-1 : Int32) → Q y0 ν58) ∧ (¬ r59 = (-1 : Int32) → (xw_X2_wrong (1 : Int32) (fI ν58.1 1 2) ν58 (fun r61 ν60 => (r61 = 2 ∧ E ν60)))))))
theorem xt_X2_question_82 {κ : Cx} {S : Adr} {A : Nat → Prop} {mc ms : Nat} {Z : State → Prop} {Q : Nat → XN → Prop} {dA : Nat} {AT : XN → Nat → Nat → (Nat → XN → Prop) → (XN → Prop) → Prop} (hAT : ∀ l ν k n Q E, AT ν k n Q E → xMetX l S A (dA) k n 0 yX2_atom [.ref (S.2.1 1)] ν (pA Q) E) {dF : Nat} {FC : XN → Nat → Nat → (Nat → XN → Prop) → (XN → Prop) → Prop} (hFC : ∀ l ν k n Q E, FC ν k n Q E → xMetX l S A (dA + dF) k n 0 yX2_fact [.ref (S.2.1 1)] ν (pA Q) E) (h : XCx κ cX2_question RX2 S A (dA + dF + 13) mc ms) (hT : (cxT κ).sig.returnType = some (.object "ShrugHills$Question")) (hN : (cxT κ).name = "question") (hR : xRet κ S A mc ms Z cX2_question (pA Q)) {E : XN → Prop} (hO : xOut κ S A mc ms Z E) {y0 : Nat} {ν : XN} {k n : Nat} (hw : xw_X2_question_82 AT FC y0 ν k n Q E) : XG κ S A mc ms Z 82 (ν, k, n) [some (.ref (S.2.1 1)), none, none, none] [.ref y0] := by
  unfold xw_X2_question_82 at hw
  refine g_astore_3 82 h.1 rfl dX2_question_82 ?_
  refine g_aload_0 83 h.1 dX2_question_83 ?_
  refine xcV_I_0 84 h (xm_X2_here h.2.2.1 hw) (by omega) (Nat.le_of_eq (Nat.zero_add _)) (Nat.le_of_eq (Nat.zero_add _)) q595 qs6 (fun H hI => x_recvK h rfl rfl hI) q593 (Nat.le_of_ble_eq_true rfl) dX2_question_84 (fun r59 ν58 hw => ?_)
  refine g_iconstv 87 _ ic_m1 h.1 dX2_question_87 ?_
  refine g_icmp_eq 88 101 h.1 dX2_question_88 (by decide) (fun c => ?_) (fun c => ?_)
  · have hw := hw.1 c
    refine g_aload_3 101 h.1 dX2_question_101 ?_
    exact hR.2.2.2 102 (some y0) _ _ _ _ _ hT (by first | exact Or.inl ⟨_, rfl⟩ | exact Or.inr ⟨_, rfl⟩) dX2_question_102 ⟨_, rfl, hw⟩
  · have hw := hw.2 c
    refine g_aload_0 91 h.1 dX2_question_91 ?_
    refine g_iconstv 92 _ ic_1 h.1 dX2_question_92 ?_
    refine g_aload_0 93 h.1 dX2_question_93 ?_
    refine xg_X2_36_2 94 h dX2_question_94 ?_
    refine xcV_K_2 97 h (xm_X2_wrong h.2.2.1 hw) (by omega) (Nat.le_of_eq (Nat.zero_add _)) (Nat.le_of_eq (Nat.zero_add _)) q606 qs8 (fun H hI => x_recvK h rfl rfl hI) q604 (Nat.le_of_ble_eq_true rfl) dX2_question_97 (fun r61 ν60 hw => ?_)
    obtain ⟨f62, hw⟩ := hw
    subst f62
    exact x_athrow 100 h dX2_question_100 (hO _ _ _ _ _ hw)
def xw_X2_question (AT : XN → Nat → Nat → (Nat → XN → Prop) → (XN → Prop) → Prop) (FC : XN → Nat → Nat → (Nat → XN → Prop) → (XN → Prop) → Prop) (x1 : Int32) (ν : XN) (k n : Nat) (Q : Nat → XN → Prop) (E : XN → Prop) : Prop :=
  (∀ ν1, ν1 = (sI ν.1 1 1 x1, ν.2) → (∀ ν3, ν3 = (sI ν1.1 1 2 (0 : Int32), ν1.2) → (∀ ν5, ν5 = (sI ν3.1 1 4 (0 : Int32), ν3.2) → (∀ ν7, ν7 = (sI ν5.1 1 5 (463 : Int32), ν5.2) → (∃ k11 n12 k13 n14, k11 + k13 ≤ k ∧ n12 + n14 ≤ n ∧ xw_X2_word_2 ν7 k11 n12 (fun r10 ν9 => (∀ b17, fR ν9.1 901 3 = .ref b17 → (xw_X0_find r10 b17 ν9 (fun r20 ν19 => ((¬ r20 = (-1 : Int32) → (((3 : Int32) ≤ r20 → (∃ k25 n26, k25 + 1 ≤ k13 ∧ n26 + 5 ≤ n14 ∧ ∀ q21, rk ν19.2 q21 = 0 → ∀ ν23, ν23 = (ν19.1, tN ν19.2 q21 22 0) → (∃ k31 n32 k33 n34, k31 + k33 ≤ k25 ∧ n32 + n34 ≤ n26 ∧ xw_X2_sum AT ν23 k31 n32 (fun r30 ν29 => (xw_X21_init q21 r20 none (some r30) ν29 (fun ν37 => xw_X2_question_82 AT FC q21 ν37 k33 n34 Q E))) E))) ∧ (¬ (3 : Int32) ≤ r20 → (∃ k42 n43, k42 + 1 ≤ k13 ∧ n43 + 5 ≤ n14 ∧ ∀ q38, rk ν19.2 q38 = 0 → ∀ ν40, ν40 = (ν19.1, tN ν19.2 q38 22 0) → (∃ k48 n49 k50 n51, k48 + k50 ≤ k42 ∧ n49 + n51 ≤ n43 ∧ xw_X2_test AT FC ν40 k48 n49 (fun r47 ν46 => (xw_X21_init q38 r20 (some r47) none ν46 (fun ν54 => xw_X2_question_82 AT FC q38 ν54 k50 n51 Q E))) E))))) ∧ (r20 = (-1 : Int32) → (xw_X2_wrong (1 : Int32) (fI ν19.1 1 3) ν19 (fun r56 ν55 => (r56 = 2 ∧ E ν55))))))))) E)))))
theorem xt_X2_question {κ : Cx} {S : Adr} {A : Nat → Prop} {mc ms : Nat} {Z : State → Prop} {Q : Nat → XN → Prop} {dA : Nat} {AT : XN → Nat → Nat → (Nat → XN → Prop) → (XN → Prop) → Prop} (hAT : ∀ l ν k n Q E, AT ν k n Q E → xMetX l S A (dA) k n 0 yX2_atom [.ref (S.2.1 1)] ν (pA Q) E) {dF : Nat} {FC : XN → Nat → Nat → (Nat → XN → Prop) → (XN → Prop) → Prop} (hFC : ∀ l ν k n Q E, FC ν k n Q E → xMetX l S A (dA + dF) k n 0 yX2_fact [.ref (S.2.1 1)] ν (pA Q) E) (h : XCx κ cX2_question RX2 S A (dA + dF + 13) mc ms) (hT : (cxT κ).sig.returnType = some (.object "ShrugHills$Question")) (hN : (cxT κ).name = "question") (hR : xRet κ S A mc ms Z cX2_question (pA Q)) {E : XN → Prop} (hO : xOut κ S A mc ms Z E) {x1 : Int32} {ν : XN} {k n : Nat} (hw : xw_X2_question AT FC x1 ν k n Q E) : XG κ S A mc ms Z 0 (ν, k, n) [some (.ref (S.2.1 1)), some (.int x1), none, none] [] := by
  unfold xw_X2_question at hw
  refine g_aload_0 0 h.1 dX2_question_0 ?_
  refine g_iload_1 1 h.1 dX2_question_1 ?_
  refine xp_X2_29_2 2 h dX2_question_2 (fun ν1 e2 => ?_)
  have hw := hw ν1 e2
  refine g_aload_0 5 h.1 dX2_question_5 ?_
  refine g_iconstv 6 _ ic_0 h.1 dX2_question_6 ?_
  refine xp_X2_36_2 7 h dX2_question_7 (fun ν3 e4 => ?_)
  have hw := hw ν3 e4
  refine g_aload_0 10 h.1 dX2_question_10 ?_
  refine g_iconstv 11 _ ic_0 h.1 dX2_question_11 ?_
  refine xp_X2_125_2 12 h dX2_question_12 (fun ν5 e6 => ?_)
  have hw := hw ν5 e6
  refine g_aload_0 15 h.1 dX2_question_15 ?_
  refine g_sipush 16 _ sp_463 h.1 dX2_question_16 ?_
  refine xp_X2_235_2 19 h dX2_question_19 (fun ν7 e8 => ?_)
  have hw := hw ν7 e8
  refine g_aload_0 22 h.1 dX2_question_22 ?_
  obtain ⟨k11, n12, k13, n14, a15, a16, hw⟩ := hw
  refine xcX_A_0 23 h (xm_X2_word_2 h.2.2.1 hw) (by omega) a15 a16 q591 qs5 (fun H hI => x_recvK h rfl rfl hI) q589 (Nat.le_of_ble_eq_true rfl) dX2_question_23 (fun r10 ν9 hw => ?_) (fun _ he => hO _ _ _ _ _ he)
  refine xs_X2_360 26 h dX2_question_26 (fun b17 e18 => ?_)
  have hw := hw b17 e18
  refine xcSN_I_2 29 h (xm_X0_find h.2.2.1 hw) (by omega) (Nat.le_of_eq (Nat.zero_add _)) (Nat.le_of_eq (Nat.zero_add _)) q809 q808 (Nat.le_of_ble_eq_true rfl) dX2_question_29 (fun r20 ν19 hw => ?_)
  refine g_istore_2 32 h.1 rfl dX2_question_32 ?_
  refine g_iload_2 33 h.1 dX2_question_33 ?_
  refine g_iconstv 34 _ ic_m1 h.1 dX2_question_34 ?_
  refine g_icmp_ne 35 48 h.1 dX2_question_35 (by decide) (fun c => ?_) (fun c => ?_)
  · have hw := hw.1 c
    refine g_iload_2 48 h.1 dX2_question_48 ?_
    refine g_iconstv 49 _ ic_3 h.1 dX2_question_49 ?_
    refine g_icmp_ge 50 69 h.1 dX2_question_50 (by decide) (fun c => ?_) (fun c => ?_)
    · have hw := hw.1 c
      obtain ⟨k25, n26, a27, a28, hw⟩ := hw
      refine xn_X2_363 69 a27 a28 h dX2_question_69 (fun q21 e22 ν23 e24 => ?_)
      have hw := hw q21 e22 ν23 e24
      refine g_dup 72 rfl h.1 dX2_question_72 ?_
      refine g_iload_2 73 h.1 dX2_question_73 ?_
      refine g_null 74 h.1 dX2_question_74 ?_
      refine g_aload_0 75 h.1 dX2_question_75 ?_
      obtain ⟨k31, n32, k33, n34, a35, a36, hw⟩ := hw
      refine xcX_A_0 76 h (xm_X2_sum hAT h.2.2.1 hw) (by omega) a35 a36 q1020 qs27 (fun H hI => x_recvK h rfl rfl hI) q1018 (by simp only [List.map_cons, List.map_nil, cat_rf]; exact Nat.le_of_ble_eq_true rfl) dX2_question_76 (fun r30 ν29 hw => ?_) (fun _ he => hO _ _ _ _ _ he)
      refine xcI_V_3 79 h (xm_X21_init h.2.2.1 hw) (by omega) (Nat.le_of_eq (Nat.zero_add _)) (Nat.le_of_eq (Nat.zero_add _)) rfl q1689 q1688 (Nat.le_of_ble_eq_true rfl) dX2_question_79 (fun ν37 hw => ?_)
      exact g_le (xt_X2_question_82 hAT hFC h hT hN hR hO hw) ⟨rfl, trivial⟩
    · have hw := hw.2 c
      obtain ⟨k42, n43, a44, a45, hw⟩ := hw
      refine xn_X2_363 53 a44 a45 h dX2_question_53 (fun q38 e39 ν40 e41 => ?_)
      have hw := hw q38 e39 ν40 e41
      refine g_dup 56 rfl h.1 dX2_question_56 ?_
      refine g_iload_2 57 h.1 dX2_question_57 ?_
      refine g_aload_0 58 h.1 dX2_question_58 ?_
      obtain ⟨k48, n49, k50, n51, a52, a53, hw⟩ := hw
      refine xcX_A_0 59 h (xm_X2_test hAT hFC h.2.2.1 hw) (by omega) a52 a53 q1208 qs34 (fun H hI => x_recvK h rfl rfl hI) q1206 (Nat.le_of_ble_eq_true rfl) dX2_question_59 (fun r47 ν46 hw => ?_) (fun _ he => hO _ _ _ _ _ he)
      refine g_null 62 h.1 dX2_question_62 ?_
      refine xcI_V_3 63 h (xm_X21_init h.2.2.1 hw) (by omega) (Nat.le_of_eq (Nat.zero_add _)) (Nat.le_of_eq (Nat.zero_add _)) rfl q1689 q1688 (Nat.le_of_ble_eq_true rfl) dX2_question_63 (fun ν54 hw => ?_)
      refine g_goto 66 82 h.1 dX2_question_66 (by decide) ?_
      exact g_le (xt_X2_question_82 hAT hFC h hT hN hR hO hw) ⟨rfl, trivial⟩
  · have hw := hw.2 c
    refine g_aload_0 38 h.1 dX2_question_38 ?_
    refine g_iconstv 39 _ ic_1 h.1 dX2_question_39 ?_
    refine g_aload_0 40 h.1 dX2_question_40 ?_
    refine xg_X2_61_2 41 h dX2_question_41 ?_
    refine xcV_K_2 44 h (xm_X2_wrong h.2.2.1 hw) (by omega) (Nat.le_of_eq (Nat.zero_add _)) (Nat.le_of_eq (Nat.zero_add _)) q606 qs8 (fun H hI => x_recvK h rfl rfl hI) q604 (Nat.le_of_ble_eq_true rfl) dX2_question_44 (fun r56 ν55 hw => ?_)
    obtain ⟨f57, hw⟩ := hw
    subst f57
    exact x_athrow 47 h dX2_question_47 (hO _ _ _ _ _ hw)
theorem xm_X2_question {l : Launch} {S : Adr} {A : Nat → Prop} {dA : Nat} {AT : XN → Nat → Nat → (Nat → XN → Prop) → (XN → Prop) → Prop} (hAT : ∀ l ν k n Q E, AT ν k n Q E → xMetX l S A (dA) k n 0 yX2_atom [.ref (S.2.1 1)] ν (pA Q) E) {dF : Nat} {FC : XN → Nat → Nat → (Nat → XN → Prop) → (XN → Prop) → Prop} (hFC : ∀ l ν k n Q E, FC ν k n Q E → xMetX l S A (dA + dF) k n 0 yX2_fact [.ref (S.2.1 1)] ν (pA Q) E) (hD : FD xT S xcl A) {x1 : Int32} {ν : XN} {k n : Nat} {Q : Nat → XN → Prop} {E : XN → Prop} (hw : xw_X2_question AT FC x1 ν k n Q E) : xMetX l S A (dA + dF + 13) k n 1 yX2_question [.ref (S.2.1 1), .int x1] ν (pA Q) E :=
  x_startX (by decide) hD ⟨⟨by decide, by decide, by show _ = some 1; decide +kernel⟩, by decide, q1683, q176⟩ (Nat.le_of_ble_eq_true rfl) (fun κ Z h hT hN hR hO => xt_X2_question hAT hFC h hT hN hR hO hw)
