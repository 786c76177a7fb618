/-! plain and ask, walked (written by gen_xw.py) -/
def xw_X0_plain (AT : XN → Nat → Nat → (Nat → XN → Prop) → (XN → Prop) → Prop) (FC : XN → Nat → Nat → (Nat → XN → Prop) → (XN → Prop) → Prop) (ν : XN) (k n : Nat) (Q : Int32 → XN → Prop) : Prop :=
  (∀ ν1, ν1 = (sI ν.1 0 3 (0 : Int32), ν.2) → (∀ ν3, ν3 = (sI ν1.1 0 4 (-1 : Int32), ν1.2) → (xw_X0_taken ν3 (fun r6 ν5 => (∃ k10 n11 k12 n13, k10 + k12 ≤ k ∧ n11 + n13 ≤ n ∧ xw_X2_all AT FC r6 ν5 k10 n11 (fun r9 ν8 => (∀ ν22, ν22 = (sR ν8.1 0 0 (.ref r9), ν8.2) → (xw_X5_begins 10 ν22 (fun ν24 => (∀ ν25, ν25 = (sI ν24.1 0 21 (0 : Int32), ν24.2) → (∀ ν27, ν27 = (sI ν25.1 0 18 (0 : Int32), ν25.2) → (∃ b29, fR ν27.1 0 0 = .ref b29 ∧ (rc ν27.2 b29 = 2 ∧ Q (rI ν27.2 b29 0) ν27)))))))) (fun ν7 => (∀ ν16, ν16 = (sI ν7.1 0 3 (fI ν7.1 2 6), ν7.2) → (∀ ν18, ν18 = (sI ν16.1 0 4 (fI ν16.1 2 7), ν16.2) → (xw_X0_refuses (1 : Int32) ν18 (fun r21 ν20 => Q r21 ν20))))))))))
theorem xt_X0_plain {κ : Cx} {S : Adr} {A : Nat → Prop} {mc ms : Nat} {Z : State → Prop} {Q : Int32 → XN → Prop} {dA : Nat} {AT : XN → Nat → Nat → (Nat → XN → Prop) → (XN → Prop) → Prop} (hAT : ∀ l ν k n Q E, AT ν k n Q E → xMetX l S A (dA) k n 0 yX2_atom [.ref (S.2.1 1)] ν (pA Q) E) {dF : Nat} {FC : XN → Nat → Nat → (Nat → XN → Prop) → (XN → Prop) → Prop} (hFC : ∀ l ν k n Q E, FC ν k n Q E → xMetX l S A (dA + dF) k n 0 yX2_fact [.ref (S.2.1 1)] ν (pA Q) E) (h : XCx κ cX0_plain RX0 S A (dA + dF + 15) mc ms) (hT : (cxT κ).sig.returnType = some .int) (hN : (cxT κ).name = "plain") (hR : xRet κ S A mc ms Z cX0_plain (pI Q)) (hH : (cxC κ).exceptionTable.toList = tableOf [(10, 25, 28, 137)]) {ν : XN} {k n : Nat} (hw : xw_X0_plain AT FC ν k n Q) : XG κ S A mc ms Z 0 (ν, k, n) [some (.ref (S.2.1 0)), none] [] := by
  unfold xw_X0_plain at hw
  refine g_aload_0 0 h.1 dX0_plain_0 ?_
  refine g_iconstv 1 _ ic_0 h.1 dX0_plain_1 ?_
  refine xp_X0_126_0 2 h dX0_plain_2 (fun ν1 e2 => ?_)
  have hw := hw ν1 e2
  refine g_aload_0 5 h.1 dX0_plain_5 ?_
  refine g_iconstv 6 _ ic_m1 h.1 dX0_plain_6 ?_
  refine xp_X0_39_0 7 h dX0_plain_7 (fun ν3 e4 => ?_)
  have hw := hw ν3 e4
  refine g_aload_0 10 h.1 dX0_plain_10 ?_
  refine g_aload_0 11 h.1 dX0_plain_11 ?_
  refine xg_X0_48_0 12 h dX0_plain_12 ?_
  refine g_aload_0 15 h.1 dX0_plain_15 ?_
  refine xcV_I_0 16 h (xm_X0_taken h.2.2.1 hw) (by omega) (Nat.le_of_eq (Nat.zero_add _)) (Nat.le_of_eq (Nat.zero_add _)) q576 qs3 (fun H hI => x_recvK h rfl rfl hI) q574 (Nat.le_of_ble_eq_true rfl) dX0_plain_16 (fun r6 ν5 hw => ?_)
  obtain ⟨k10, n11, k12, n13, a14, a15, hw⟩ := hw
  refine xcX_A_1 19 h (xm_X2_all hAT hFC h.2.2.1 hw) (by omega) a14 a15 q579 q580 (fun H hI => x_recvK h rfl rfl hI) q578 (Nat.le_of_ble_eq_true rfl) dX0_plain_19 (fun r9 ν8 hw => ?_) (fun ν7 hw => x_catch 19 hH (by decide) (by decide) h q573 ?_)
  rotate_left
  · skip
    refine g_astore_1 28 h.1 rfl dX0_plain_28 ?_
    refine g_aload_0 29 h.1 dX0_plain_29 ?_
    refine g_aload_1 30 h.1 dX0_plain_30 ?_
    refine xg_X0_139_3 31 h dX0_plain_31 ?_
    refine xp_X0_126_0 34 h dX0_plain_34 (fun ν16 e17 => ?_)
    have hw := hw ν16 e17
    refine g_aload_0 37 h.1 dX0_plain_37 ?_
    refine g_aload_1 38 h.1 dX0_plain_38 ?_
    refine xg_X0_142_3 39 h dX0_plain_39 ?_
    refine xp_X0_39_0 42 h dX0_plain_42 (fun ν18 e19 => ?_)
    have hw := hw ν18 e19
    refine g_aload_0 45 h.1 dX0_plain_45 ?_
    refine g_iconstv 46 _ ic_1 h.1 dX0_plain_46 ?_
    refine xcV_I_1 47 h (xm_X0_refuses h.2.2.1 hw) (by omega) (Nat.le_of_eq (Nat.zero_add _)) (Nat.le_of_eq (Nat.zero_add _)) q559 qs1 (fun H hI => x_recvK h rfl rfl hI) q557 (Nat.le_of_ble_eq_true rfl) dX0_plain_47 (fun r21 ν20 hw => ?_)
    exact hR.1 50 _ _ _ _ _ _ hT rfl dX0_plain_50 ⟨_, rfl, hw⟩
  refine xp_X0_31_0 22 h dX0_plain_22 (fun ν22 e23 => ?_)
  have hw := hw ν22 e23
  refine g_goto 25 51 h.1 dX0_plain_25 (by decide) ?_
  refine g_aload_0 51 h.1 dX0_plain_51 ?_
  refine xg_X0_69_0 52 h dX0_plain_52 ?_
  refine xcV_V_0 55 h (xm_X5_begins h.2.2.1 hw) (by omega) (Nat.le_of_eq (Nat.zero_add _)) (Nat.le_of_eq (Nat.zero_add _)) q1279 q1280 (fun H hI => x_recvK h rfl rfl hI) q1278 (Nat.le_of_ble_eq_true rfl) dX0_plain_55 (fun ν24 hw => ?_)
  refine g_aload_0 58 h.1 dX0_plain_58 ?_
  refine g_iconstv 59 _ ic_0 h.1 dX0_plain_59 ?_
  refine xp_X0_148_0 60 h dX0_plain_60 (fun ν25 e26 => ?_)
  have hw := hw ν25 e26
  refine g_aload_0 63 h.1 dX0_plain_63 ?_
  refine g_iconstv 64 _ ic_0 h.1 dX0_plain_64 ?_
  refine xp_X0_151_0 65 h dX0_plain_65 (fun ν27 e28 => ?_)
  have hw := hw ν27 e28
  refine g_aload_0 68 h.1 dX0_plain_68 ?_
  refine xg_X0_31_0 69 h dX0_plain_69 ?_
  obtain ⟨b29, e30, hw⟩ := hw
  rw [e30]
  obtain ⟨f31, hw⟩ := hw
  refine xg_X0_154_1 72 f31 h dX0_plain_72 ?_
  exact hR.1 75 _ _ _ _ _ _ hT rfl dX0_plain_75 ⟨_, rfl, hw⟩
theorem xm_X0_plain {l : Launch} {S : Adr} {A : Nat → Prop} {dA : Nat} {AT : XN → Nat → Nat → (Nat → XN → Prop) → (XN → Prop) → Prop} (hAT : ∀ l ν k n Q E, AT ν k n Q E → xMetX l S A (dA) k n 0 yX2_atom [.ref (S.2.1 1)] ν (pA Q) E) {dF : Nat} {FC : XN → Nat → Nat → (Nat → XN → Prop) → (XN → Prop) → Prop} (hFC : ∀ l ν k n Q E, FC ν k n Q E → xMetX l S A (dA + dF) k n 0 yX2_fact [.ref (S.2.1 1)] ν (pA Q) E) (hD : FD xT S xcl A) {ν : XN} {k n : Nat} {Q : Int32 → XN → Prop} (hw : xw_X0_plain AT FC ν k n Q) : xMetH l S A (dA + dF + 15) k n 0 yX0_plain [.ref (S.2.1 0)] ν (pI Q) :=
  x_startH (by decide) hD ⟨⟨by decide, by decide, by show _ = some 0; decide +kernel⟩, by decide, q572, q171⟩ (Nat.le_of_ble_eq_true rfl) (fun κ Z h hT hN hR hH => xt_X0_plain hAT hFC h hT hN hR hH hw)
def xw_X0_ask_64 (VA : Nat → Nat → XN → (Int64 → XN → Prop) → Prop) (TA : Nat → Nat → XN → (Int32 → XN → Prop) → Prop) (AT : XN → Nat → Nat → (Nat → XN → Prop) → (XN → Prop) → Prop) (FC : XN → Nat → Nat → (Nat → XN → Prop) → (XN → Prop) → Prop) (x2 : Nat) (ν : XN) (k n : Nat) (Q : Int64 → XN → Prop) : Prop :=
  ∀ X64 : Nat → XN → Nat → Nat → Prop, (∀ (x2 : Nat) (ν : XN) (k n : Nat), (xw_X0_people ν (fun r25 ν24 => ((r25 ≤ (fI ν.1 0 23) → (rc ν24.2 x2 = 22 ∧ (xw_X21_answer x2 ν24 (fun r27 ν26 => Q r27 ν26)))) ∧ (¬ r25 ≤ (fI ν.1 0 23) → (xok 1 (xft 10 4) ∧ (vp_in (fI ν24.1 0 23) (xlen (xft 10 4)) ∧ (xok 1 (xft 10 5) ∧ (vp_in (fI ν24.1 0 23) (xlen (xft 10 5)) ∧ (xok 4 (xft 4 0) ∧ (vp_in (0 : Int32) (xlen (xft 4 0)) ∧ (∀ ν33, ν33 = (sB ν24.1 (xft 4 0) (Int32.toNatClampNeg (0 : Int32)) (Int32.toInt64 (fA ν24.1 (xft 10 5) (Int32.toNatClampNeg (fI ν24.1 0 23)))), ν24.2) → (xok 1 (xft 10 3) ∧ (vp_in (fA ν24.1 (xft 10 4) (Int32.toNatClampNeg (fI ν24.1 0 23))) (xlen (xft 10 3)) ∧ (xok 4 (xft 4 0) ∧ (vp_in (1 : Int32) (xlen (xft 4 0)) ∧ (∀ ν39, ν39 = (sB ν33.1 (xft 4 0) (Int32.toNatClampNeg (1 : Int32)) (Int32.toInt64 (fA ν33.1 (xft 10 3) (Int32.toNatClampNeg (fA ν24.1 (xft 10 4) (Int32.toNatClampNeg (fI ν24.1 0 23)))))), ν33.2) → (xok 1 (xft 10 6) ∧ (vp_in (fI ν39.1 0 23) (xlen (xft 10 6)) ∧ (xw_J16_bitCount (fA ν39.1 (xft 10 6) (Int32.toNatClampNeg (fI ν39.1 0 23))) ν39 (fun r46 ν45 => (xok 4 (xft 4 0) ∧ (vp_in (2 : Int32) (xlen (xft 4 0)) ∧ (∀ ν47, ν47 = (sB ν45.1 (xft 4 0) (Int32.toNatClampNeg (2 : Int32)) (Int32.toInt64 r46), ν45.2) → (xok 4 (xft 4 0) ∧ (vp_in (3 : Int32) (xlen (xft 4 0)) ∧ (∀ ν51, ν51 = (sB ν47.1 (xft 4 0) (Int32.toNatClampNeg (3 : Int32)) (Int32.toInt64 (fI ν47.1 10 0)), ν47.2) → (xok 4 (xft 4 0) ∧ (vp_in (6 : Int32) (xlen (xft 4 0)) ∧ (∀ ν55, ν55 = (sB ν51.1 (xft 4 0) (Int32.toNatClampNeg (6 : Int32)) (Int32.toInt64 (fI ν51.1 0 23)), ν51.2) → (xok 4 (xft 4 0) ∧ (vp_in (7 : Int32) (xlen (xft 4 0)) ∧ (∀ ν59, ν59 = (sB ν55.1 (xft 4 0) (Int32.toNatClampNeg (7 : Int32)) (Int32.toInt64 ((fA ν24.1 (xft 10 4) (Int32.toNatClampNeg (fI ν24.1 0 23))) - (fA ν24.1 (xft 10 4) (Int32.toNatClampNeg (fI ν24.1 0 23))) / (8 : Int32) * (8 : Int32))), ν55.2) → (xok 4 (xft 4 0) ∧ (vp_in (8 : Int32) (xlen (xft 4 0)) ∧ (∀ ν63, ν63 = (sB ν59.1 (xft 4 0) (Int32.toNatClampNeg (8 : Int32)) (Int32.toInt64 ((fA ν24.1 (xft 10 4) (Int32.toNatClampNeg (fI ν24.1 0 23))) / (8 : Int32))), ν59.2) → (rc ν63.2 x2 = 22 ∧ (xw_X21_meets VA TA x2 (fI ν63.1 0 23) 4 ν63 (fun ν67 => (∀ ν69, ν69 = (sI ν67.1 0 23 ((fI ν67.1 0 23) + (1 : Int32)), ν67.2) → X64 x2 ν69 k n))))))))))))))))))))))))))))))))))))))) → X64 x2 ν k n) → X64 x2 ν k n
theorem xt_X0_ask_64 {κ : Cx} {S : Adr} {A : Nat → Prop} {mc ms : Nat} {Z : State → Prop} {Q : Int64 → XN → Prop} {dV : Nat} {VA : Nat → Nat → XN → (Int64 → XN → Prop) → Prop} {TA : Nat → Nat → XN → (Int32 → XN → Prop) → Prop} (hV : HVT S A dV VA TA) {dA : Nat} {AT : XN → Nat → Nat → (Nat → XN → Prop) → (XN → Prop) → Prop} (hAT : ∀ l ν k n Q E, AT ν k n Q E → xMetX l S A (dA) k n 0 yX2_atom [.ref (S.2.1 1)] ν (pA Q) E) {dF : Nat} {FC : XN → Nat → Nat → (Nat → XN → Prop) → (XN → Prop) → Prop} (hFC : ∀ l ν k n Q E, FC ν k n Q E → xMetX l S A (dA + dF) k n 0 yX2_fact [.ref (S.2.1 1)] ν (pA Q) E) (h : XCx κ cX0_ask RX0 S A (dV + dA + dF + 14) mc ms) (hT : (cxT κ).sig.returnType = some .long) (hN : (cxT κ).name = "ask") (hR : xRet κ S A mc ms Z cX0_ask (pJ Q)) (hH : (cxC κ).exceptionTable.toList = tableOf [(26, 35, 38, 137)]) {x2 : Nat} {ν : XN} {k n : Nat} (hw : xw_X0_ask_64 VA TA AT FC x2 ν k n Q) : XG κ S A mc ms Z 64 (ν, k, n) [some (.ref (S.2.1 0)), none, some (.ref x2), none] [] := by
  refine hw (fun x2 ν k n => XG κ S A mc ms Z 64 (ν, k, n) [some (.ref (S.2.1 0)), none, some (.ref x2), none] []) ?_
  clear hw
  intro x2 ν k n hw
  have hX64 : ∀ (x2 : Nat) (ν : XN) (k n : Nat), XG κ S A mc ms Z 64 (ν, k, n) [some (.ref (S.2.1 0)), none, some (.ref x2), none] [] → XG κ S A mc ms Z 64 (ν, k, n) [some (.ref (S.2.1 0)), none, some (.ref x2), none] [] := fun _ _ _ _ hh => hh
  refine g_aload_0 64 h.1 dX0_ask_64 ?_
  refine xg_X0_337_0 65 h dX0_ask_65 ?_
  refine g_aload_0 68 h.1 dX0_ask_68 ?_
  refine xcV_I_0 69 h (xm_X0_people h.2.2.1 hw) (by omega) (Nat.le_of_eq (Nat.zero_add _)) (Nat.le_of_eq (Nat.zero_add _)) q1284 qs38 (fun H hI => x_recvK h rfl rfl hI) q1303 (Nat.le_of_ble_eq_true rfl) dX0_ask_69 (fun r25 ν24 hw => ?_)
  refine g_icmp_ge 72 241 h.1 dX0_ask_72 (by decide) (fun c => ?_) (fun c => ?_)
  · have hw := hw.1 c
    refine g_aload_2 241 h.1 dX0_ask_241 ?_
    obtain ⟨f28, hw⟩ := hw
    refine xcV_J_0 242 h (xm_X21_answer h.2.2.1 hw) (by omega) (Nat.le_of_eq (Nat.zero_add _)) (Nat.le_of_eq (Nat.zero_add _)) q1718 q1719 (fun H hI => x_recvR h f28 rfl hI) q1717 (Nat.le_of_ble_eq_true rfl) dX0_ask_242 (fun r27 ν26 hw => ?_)
    exact hR.2.1 245 _ _ _ _ _ hT dX0_ask_245 ⟨_, rfl, hw⟩
  · have hw := hw.2 c
    refine g_aload_0 75 h.1 dX0_ask_75 ?_
    refine xg_X0_69_0 76 h dX0_ask_76 ?_
    refine xg_X0_216_5 79 rfl h dX0_ask_79 ?_
    refine g_aload_0 82 h.1 dX0_ask_82 ?_
    refine xg_X0_337_0 83 h dX0_ask_83 ?_
    obtain ⟨f29, hw⟩ := hw
    obtain ⟨f30, hw⟩ := hw
    refine xa_iald 86 f29 f30 h dX0_ask_86 ?_
    refine g_istore_3 87 h.1 rfl dX0_ask_87 ?_
    refine g_aload_0 88 h.1 dX0_ask_88 ?_
    refine xg_X0_59_0 89 h dX0_ask_89 ?_
    refine xg_X0_349_4 92 rfl h dX0_ask_92 ?_
    refine g_iconstv 95 _ ic_0 h.1 dX0_ask_95 ?_
    refine g_aload_0 96 h.1 dX0_ask_96 ?_
    refine xg_X0_69_0 97 h dX0_ask_97 ?_
    refine xg_X0_219_5 100 rfl h dX0_ask_100 ?_
    refine g_aload_0 103 h.1 dX0_ask_103 ?_
    refine xg_X0_337_0 104 h dX0_ask_104 ?_
    obtain ⟨f31, hw⟩ := hw
    obtain ⟨f32, hw⟩ := hw
    refine xa_iald 107 f31 f32 h dX0_ask_107 ?_
    refine g_i2l 108 h.1 dX0_ask_108 ?_
    obtain ⟨f35, hw⟩ := hw
    obtain ⟨f36, hw⟩ := hw
    refine xa_last 109 f35 f36 h dX0_ask_109 (fun ν33 e34 => ?_)
    have hw := hw ν33 e34
    refine g_aload_0 110 h.1 dX0_ask_110 ?_
    refine xg_X0_59_0 111 h dX0_ask_111 ?_
    refine xg_X0_349_4 114 rfl h dX0_ask_114 ?_
    refine g_iconstv 117 _ ic_1 h.1 dX0_ask_117 ?_
    refine g_aload_0 118 h.1 dX0_ask_118 ?_
    refine xg_X0_69_0 119 h dX0_ask_119 ?_
    refine xg_X0_198_5 122 rfl h dX0_ask_122 ?_
    refine g_iload_3 125 h.1 dX0_ask_125 ?_
    obtain ⟨f37, hw⟩ := hw
    obtain ⟨f38, hw⟩ := hw
    refine xa_iald 126 f37 f38 h dX0_ask_126 ?_
    refine g_i2l 127 h.1 dX0_ask_127 ?_
    obtain ⟨f41, hw⟩ := hw
    obtain ⟨f42, hw⟩ := hw
    refine xa_last 128 f41 f42 h dX0_ask_128 (fun ν39 e40 => ?_)
    have hw := hw ν39 e40
    refine g_aload_0 129 h.1 dX0_ask_129 ?_
    refine xg_X0_59_0 130 h dX0_ask_130 ?_
    refine xg_X0_349_4 133 rfl h dX0_ask_133 ?_
    refine g_iconstv 136 _ ic_2 h.1 dX0_ask_136 ?_
    refine g_aload_0 137 h.1 dX0_ask_137 ?_
    refine xg_X0_69_0 138 h dX0_ask_138 ?_
    refine xg_X0_222_5 141 rfl h dX0_ask_141 ?_
    refine g_aload_0 144 h.1 dX0_ask_144 ?_
    refine xg_X0_337_0 145 h dX0_ask_145 ?_
    obtain ⟨f43, hw⟩ := hw
    obtain ⟨f44, hw⟩ := hw
    refine xa_iald 148 f43 f44 h dX0_ask_148 ?_
    refine xcS_I_1 149 h (xm_J16_bitCount h.2.2.1 hw) (by omega) (Nat.le_of_eq (Nat.zero_add _)) (Nat.le_of_eq (Nat.zero_add _)) q1373 q1588 (Nat.le_of_ble_eq_true rfl) dX0_ask_149 (fun r46 ν45 hw => ?_)
    refine g_i2l 152 h.1 dX0_ask_152 ?_
    obtain ⟨f49, hw⟩ := hw
    obtain ⟨f50, hw⟩ := hw
    refine xa_last 153 f49 f50 h dX0_ask_153 (fun ν47 e48 => ?_)
    have hw := hw ν47 e48
    refine g_aload_0 154 h.1 dX0_ask_154 ?_
    refine xg_X0_59_0 155 h dX0_ask_155 ?_
    refine xg_X0_349_4 158 rfl h dX0_ask_158 ?_
    refine g_iconstv 161 _ ic_3 h.1 dX0_ask_161 ?_
    refine g_aload_0 162 h.1 dX0_ask_162 ?_
    refine xg_X0_69_0 163 h dX0_ask_163 ?_
    refine xg_X0_191_5 166 rfl h dX0_ask_166 ?_
    refine g_i2l 169 h.1 dX0_ask_169 ?_
    obtain ⟨f53, hw⟩ := hw
    obtain ⟨f54, hw⟩ := hw
    refine xa_last 170 f53 f54 h dX0_ask_170 (fun ν51 e52 => ?_)
    have hw := hw ν51 e52
    refine g_aload_0 171 h.1 dX0_ask_171 ?_
    refine xg_X0_59_0 172 h dX0_ask_172 ?_
    refine xg_X0_349_4 175 rfl h dX0_ask_175 ?_
    refine g_bipush 178 _ bp_6 h.1 dX0_ask_178 ?_
    refine g_aload_0 180 h.1 dX0_ask_180 ?_
    refine xg_X0_337_0 181 h dX0_ask_181 ?_
    refine g_i2l 184 h.1 dX0_ask_184 ?_
    obtain ⟨f57, hw⟩ := hw
    obtain ⟨f58, hw⟩ := hw
    refine xa_last 185 f57 f58 h dX0_ask_185 (fun ν55 e56 => ?_)
    have hw := hw ν55 e56
    refine g_aload_0 186 h.1 dX0_ask_186 ?_
    refine xg_X0_59_0 187 h dX0_ask_187 ?_
    refine xg_X0_349_4 190 rfl h dX0_ask_190 ?_
    refine g_bipush 193 _ bp_7 h.1 dX0_ask_193 ?_
    refine g_iload_3 195 h.1 dX0_ask_195 ?_
    refine g_bipush 196 _ bp_8 h.1 dX0_ask_196 ?_
    refine g_irem 198 (by decide) h.1 dX0_ask_198 ?_
    refine g_i2l 199 h.1 dX0_ask_199 ?_
    obtain ⟨f61, hw⟩ := hw
    obtain ⟨f62, hw⟩ := hw
    refine xa_last 200 f61 f62 h dX0_ask_200 (fun ν59 e60 => ?_)
    have hw := hw ν59 e60
    refine g_aload_0 201 h.1 dX0_ask_201 ?_
    refine xg_X0_59_0 202 h dX0_ask_202 ?_
    refine xg_X0_349_4 205 rfl h dX0_ask_205 ?_
    refine g_bipush 208 _ bp_8 h.1 dX0_ask_208 ?_
    refine g_iload_3 210 h.1 dX0_ask_210 ?_
    refine g_bipush 211 _ bp_8 h.1 dX0_ask_211 ?_
    refine g_idiv 213 (by decide) h.1 dX0_ask_213 ?_
    refine g_i2l 214 h.1 dX0_ask_214 ?_
    obtain ⟨f65, hw⟩ := hw
    obtain ⟨f66, hw⟩ := hw
    refine xa_last 215 f65 f66 h dX0_ask_215 (fun ν63 e64 => ?_)
    have hw := hw ν63 e64
    refine g_aload_2 216 h.1 dX0_ask_216 ?_
    refine g_aload_0 217 h.1 dX0_ask_217 ?_
    refine xg_X0_337_0 218 h dX0_ask_218 ?_
    refine g_aload_0 221 h.1 dX0_ask_221 ?_
    refine xg_X0_59_0 222 h dX0_ask_222 ?_
    obtain ⟨f68, hw⟩ := hw
    refine xcV_V_2 225 h (xm_X21_meets hV h.2.2.1 hw) (by omega) (Nat.le_of_eq (Nat.zero_add _)) (Nat.le_of_eq (Nat.zero_add _)) q1710 q1711 (fun H hI => x_recvR h f68 rfl hI) q1709 (Nat.le_of_ble_eq_true rfl) dX0_ask_225 (fun ν67 hw => ?_)
    refine g_aload_0 228 h.1 dX0_ask_228 ?_
    refine g_dup 229 rfl h.1 dX0_ask_229 ?_
    refine xg_X0_337_0 230 h dX0_ask_230 ?_
    refine g_iconstv 233 _ ic_1 h.1 dX0_ask_233 ?_
    refine g_iadd 234 h.1 dX0_ask_234 ?_
    refine xp_X0_337_0 235 h dX0_ask_235 (fun ν69 e70 => ?_)
    have hw := hw ν69 e70
    refine g_goto 238 64 h.1 dX0_ask_238 (by decide) ?_
    exact g_le (hX64 _ _ _ _ hw) ⟨rfl, rfl, trivial⟩
def xw_X0_ask (VA : Nat → Nat → XN → (Int64 → XN → Prop) → Prop) (TA : Nat → Nat → XN → (Int32 → XN → Prop) → Prop) (AT : XN → Nat → Nat → (Nat → XN → Prop) → (XN → Prop) → Prop) (FC : XN → Nat → Nat → (Nat → XN → Prop) → (XN → Prop) → Prop) (ν : XN) (k n : Nat) (Q : Int64 → XN → Prop) : Prop :=
  (xw_X0_taken ν (fun r2 ν1 => (xw_X0_isPlain ν1 (fun r4 ν3 => ((¬ r4 = 0 → (∀ ν5, ν5 = (sI ν3.1 0 3 (0 : Int32), ν3.2) → (∀ ν7, ν7 = (sI ν5.1 0 4 (-1 : Int32), ν5.2) → (∃ k12 n13 k14 n15, k12 + k14 ≤ k ∧ n13 + n15 ≤ n ∧ xw_X2_question AT FC r2 ν7 k12 n13 (fun r11 ν10 => (∀ ν22, ν22 = (sI ν10.1 0 23 (0 : Int32), ν10.2) → xw_X0_ask_64 VA TA AT FC r11 ν22 k14 n15 Q)) (fun ν9 => (∀ ν18, ν18 = (sI ν9.1 0 3 (fI ν9.1 2 6), ν9.2) → (∀ ν20, ν20 = (sI ν18.1 0 4 (fI ν18.1 2 7), ν18.2) → Q (-1000000000000000 : Int64) ν20))))))) ∧ (r4 = 0 → Q (-1000000000000000 : Int64) ν3))))))
theorem xt_X0_ask {κ : Cx} {S : Adr} {A : Nat → Prop} {mc ms : Nat} {Z : State → Prop} {Q : Int64 → XN → Prop} {dV : Nat} {VA : Nat → Nat → XN → (Int64 → XN → Prop) → Prop} {TA : Nat → Nat → XN → (Int32 → XN → Prop) → Prop} (hV : HVT S A dV VA TA) {dA : Nat} {AT : XN → Nat → Nat → (Nat → XN → Prop) → (XN → Prop) → Prop} (hAT : ∀ l ν k n Q E, AT ν k n Q E → xMetX l S A (dA) k n 0 yX2_atom [.ref (S.2.1 1)] ν (pA Q) E) {dF : Nat} {FC : XN → Nat → Nat → (Nat → XN → Prop) → (XN → Prop) → Prop} (hFC : ∀ l ν k n Q E, FC ν k n Q E → xMetX l S A (dA + dF) k n 0 yX2_fact [.ref (S.2.1 1)] ν (pA Q) E) (h : XCx κ cX0_ask RX0 S A (dV + dA + dF + 14) mc ms) (hT : (cxT κ).sig.returnType = some .long) (hN : (cxT κ).name = "ask") (hR : xRet κ S A mc ms Z cX0_ask (pJ Q)) (hH : (cxC κ).exceptionTable.toList = tableOf [(26, 35, 38, 137)]) {ν : XN} {k n : Nat} (hw : xw_X0_ask VA TA AT FC ν k n Q) : XG κ S A mc ms Z 0 (ν, k, n) [some (.ref (S.2.1 0)), none, none, none] [] := by
  unfold xw_X0_ask at hw
  refine g_aload_0 0 h.1 dX0_ask_0 ?_
  refine xcV_I_0 1 h (xm_X0_taken h.2.2.1 hw) (by omega) (Nat.le_of_eq (Nat.zero_add _)) (Nat.le_of_eq (Nat.zero_add _)) q576 qs3 (fun H hI => x_recvK h rfl rfl hI) q574 (Nat.le_of_ble_eq_true rfl) dX0_ask_1 (fun r2 ν1 hw => ?_)
  refine g_istore_1 4 h.1 rfl dX0_ask_4 ?_
  refine g_aload_0 5 h.1 dX0_ask_5 ?_
  refine xcV_I_0 6 h (xm_X0_isPlain h.2.2.1 hw) (by omega) (Nat.le_of_eq (Nat.zero_add _)) (Nat.le_of_eq (Nat.zero_add _)) q1512 qs52 (fun H hI => x_recvK h rfl rfl hI) q1510 (Nat.le_of_ble_eq_true rfl) dX0_ask_6 (fun r4 ν3 hw => ?_)
  refine g_if_ne 9 16 h.1 dX0_ask_9 (by decide) (fun c => ?_) (fun c => ?_)
  · have hw := hw.1 c
    refine g_aload_0 16 h.1 dX0_ask_16 ?_
    refine g_iconstv 17 _ ic_0 h.1 dX0_ask_17 ?_
    refine xp_X0_126_0 18 h dX0_ask_18 (fun ν5 e6 => ?_)
    have hw := hw ν5 e6
    refine g_aload_0 21 h.1 dX0_ask_21 ?_
    refine g_iconstv 22 _ ic_m1 h.1 dX0_ask_22 ?_
    refine xp_X0_39_0 23 h dX0_ask_23 (fun ν7 e8 => ?_)
    have hw := hw ν7 e8
    refine g_aload_0 26 h.1 dX0_ask_26 ?_
    refine xg_X0_48_0 27 h dX0_ask_27 ?_
    refine g_iload_1 30 h.1 dX0_ask_30 ?_
    obtain ⟨k12, n13, k14, n15, a16, a17, hw⟩ := hw
    refine xcX_A_1 31 h (xm_X2_question hAT hFC h.2.2.1 hw) (by omega) a16 a17 q1681 q1682 (fun H hI => x_recvK h rfl rfl hI) q1680 (Nat.le_of_ble_eq_true rfl) dX0_ask_31 (fun r11 ν10 hw => ?_) (fun ν9 hw => x_catch 31 hH (by decide) (by decide) h q573 ?_)
    rotate_left
    · skip
      refine g_astore_3 38 h.1 rfl dX0_ask_38 ?_
      refine g_aload_0 39 h.1 dX0_ask_39 ?_
      refine g_aload_3 40 h.1 dX0_ask_40 ?_
      refine xg_X0_139_3 41 h dX0_ask_41 ?_
      refine xp_X0_126_0 44 h dX0_ask_44 (fun ν18 e19 => ?_)
      have hw := hw ν18 e19
      refine g_aload_0 47 h.1 dX0_ask_47 ?_
      refine g_aload_3 48 h.1 dX0_ask_48 ?_
      refine xg_X0_142_3 49 h dX0_ask_49 ?_
      refine xp_X0_39_0 52 h dX0_ask_52 (fun ν20 e21 => ?_)
      have hw := hw ν20 e21
      refine g_ldc2 55 h.1 q1679 dX0_ask_55 ?_
      exact hR.2.1 58 _ _ _ _ _ hT dX0_ask_58 ⟨_, rfl, hw⟩
    refine g_astore_2 34 h.1 rfl dX0_ask_34 ?_
    refine g_goto 35 59 h.1 dX0_ask_35 (by decide) ?_
    refine g_aload_0 59 h.1 dX0_ask_59 ?_
    refine g_iconstv 60 _ ic_0 h.1 dX0_ask_60 ?_
    refine xp_X0_337_0 61 h dX0_ask_61 (fun ν22 e23 => ?_)
    have hw := hw ν22 e23
    exact g_le (xt_X0_ask_64 hV hAT hFC h hT hN hR hH hw) ⟨rfl, rfl, trivial⟩
  · have hw := hw.2 c
    refine g_ldc2 12 h.1 q1679 dX0_ask_12 ?_
    exact hR.2.1 15 _ _ _ _ _ hT dX0_ask_15 ⟨_, rfl, hw⟩
theorem xm_X0_ask {l : Launch} {S : Adr} {A : Nat → Prop} {dV : Nat} {VA : Nat → Nat → XN → (Int64 → XN → Prop) → Prop} {TA : Nat → Nat → XN → (Int32 → XN → Prop) → Prop} (hV : HVT S A dV VA TA) {dA : Nat} {AT : XN → Nat → Nat → (Nat → XN → Prop) → (XN → Prop) → Prop} (hAT : ∀ l ν k n Q E, AT ν k n Q E → xMetX l S A (dA) k n 0 yX2_atom [.ref (S.2.1 1)] ν (pA Q) E) {dF : Nat} {FC : XN → Nat → Nat → (Nat → XN → Prop) → (XN → Prop) → Prop} (hFC : ∀ l ν k n Q E, FC ν k n Q E → xMetX l S A (dA + dF) k n 0 yX2_fact [.ref (S.2.1 1)] ν (pA Q) E) (hD : FD xT S xcl A) {ν : XN} {k n : Nat} {Q : Int64 → XN → Prop} (hw : xw_X0_ask VA TA AT FC ν k n Q) : xMetH l S A (dV + dA + dF + 14) k n 0 yX0_ask [.ref (S.2.1 0)] ν (pJ Q) :=
  x_startH (by decide) hD ⟨⟨by decide, by decide, by show _ = some 0; decide +kernel⟩, by decide, q1678, q171⟩ (Nat.le_of_ble_eq_true rfl) (fun κ Z h hT hN hR hH => xt_X0_ask hV hAT hFC h hT hN hR hH hw)
