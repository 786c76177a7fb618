/-! THE REFERENCE, walked: for each cut point of each method its predicate and its walk (written by gen_w.py) -/
def mw_isDigit (x0 : Int32) (σ : FS) (Q : Int32 → FS → Prop) : Prop :=
  ((x0 < (48 : Int32) → Q (0 : Int32) σ) ∧ (¬ x0 < (48 : Int32) → (((57 : Int32) < x0 → Q (0 : Int32) σ) ∧ (¬ (57 : Int32) < x0 → Q (1 : Int32) σ))))
theorem mt_isDigit {κ : Cx} {S : Adr} {Z : State → Prop} {Q : Int32 → FS → Prop} (h : MCx κ cX6_isDigit S 1) (hR : RetZ κ S Z cX6_isDigit Q) {x0 : Int32} {σ : FS} (hw : mw_isDigit x0 σ Q) : MG κ S Z 0 σ [some (.int x0)] [] := by
  unfold mw_isDigit at hw
  refine g_iload_0 0 h.1 dX6_isDigit_0 ?_
  refine g_bipush 1 _ bp_48 h.1 dX6_isDigit_1 ?_
  refine g_icmp_lt 3 16 h.1 dX6_isDigit_3 (by decide) (fun c => ?_) (fun c => ?_)
  · have hw := hw.1 c
    refine g_iconstv 16 _ ic_0 h.1 dX6_isDigit_16 ?_
    exact hR 17 _ _ _ dX6_isDigit_17 rfl hw
  · have hw := hw.2 c
    refine g_iload_0 6 h.1 dX6_isDigit_6 ?_
    refine g_bipush 7 _ bp_57 h.1 dX6_isDigit_7 ?_
    refine g_icmp_gt 9 16 h.1 dX6_isDigit_9 (by decide) (fun c => ?_) (fun c => ?_)
    · have hw := hw.1 c
      refine g_iconstv 16 _ ic_0 h.1 dX6_isDigit_16 ?_
      exact hR 17 _ _ _ dX6_isDigit_17 rfl hw
    · have hw := hw.2 c
      refine g_iconstv 12 _ ic_1 h.1 dX6_isDigit_12 ?_
      refine g_goto 13 17 h.1 dX6_isDigit_13 (by decide) ?_
      exact hR 17 _ _ _ dX6_isDigit_17 rfl hw
theorem mm_isDigit {l : Launch} {S : Adr} (hD : MD S) {x0 : Int32} {σ : FS} {Q : Int32 → FS → Prop} (hw : mw_isDigit x0 σ Q) : mMetS l S 1 yX6_isDigit [.int x0] σ (mQi S Q) :=
  m_smetZ hD ⟨rfl, by decide, by show _ = some 1; decide +kernel, q2146⟩ q2145 (Nat.le_of_ble_eq_true rfl) (fun κ Z h hR => mt_isDigit h hR hw)
def mw_isIn (x0 : Int64) (x2 : Int64) (x4 : Int64) (σ : FS) (Q : Int32 → FS → Prop) : Prop :=
  (((lg_cmp x0 x2) < 0 → Q (0 : Int32) σ) ∧ (¬ (lg_cmp x0 x2) < 0 → ((0 < (lg_cmp x0 x4) → Q (0 : Int32) σ) ∧ (¬ 0 < (lg_cmp x0 x4) → Q (1 : Int32) σ))))
theorem mt_isIn {κ : Cx} {S : Adr} {Z : State → Prop} {Q : Int32 → FS → Prop} (h : MCx κ cX6_isIn S 1) (hR : RetZ κ S Z cX6_isIn Q) {x0 : Int64} {x2 : Int64} {x4 : Int64} {σ : FS} (hw : mw_isIn x0 x2 x4 σ Q) : MG κ S Z 0 σ [some (.long x0), none, some (.long x2), none, some (.long x4), none] [] := by
  unfold mw_isIn at hw
  refine g_lload_0 0 h.1 dX6_isIn_0 ?_
  refine g_lload_2 1 h.1 dX6_isIn_1 ?_
  refine g_lcmp 2 h.1 dX6_isIn_2 ?_
  refine g_if_lt 3 17 h.1 dX6_isIn_3 (by decide) (fun c => ?_) (fun c => ?_)
  · have hw := hw.1 c
    refine g_iconstv 17 _ ic_0 h.1 dX6_isIn_17 ?_
    exact hR 18 _ _ _ dX6_isIn_18 rfl hw
  · have hw := hw.2 c
    refine g_lload_0 6 h.1 dX6_isIn_6 ?_
    refine g_lload_4 7 h.1 dX6_isIn_7 ?_
    refine g_lcmp 9 h.1 dX6_isIn_9 ?_
    refine g_if_gt 10 17 h.1 dX6_isIn_10 (by decide) (fun c => ?_) (fun c => ?_)
    · have hw := hw.1 c
      refine g_iconstv 17 _ ic_0 h.1 dX6_isIn_17 ?_
      exact hR 18 _ _ _ dX6_isIn_18 rfl hw
    · have hw := hw.2 c
      refine g_iconstv 13 _ ic_1 h.1 dX6_isIn_13 ?_
      refine g_goto 14 18 h.1 dX6_isIn_14 (by decide) ?_
      exact hR 18 _ _ _ dX6_isIn_18 rfl hw
theorem mm_isIn {l : Launch} {S : Adr} (hD : MD S) {x0 : Int64} {x2 : Int64} {x4 : Int64} {σ : FS} {Q : Int32 → FS → Prop} (hw : mw_isIn x0 x2 x4 σ Q) : mMetS l S 1 yX6_isIn [.long x0, .long x2, .long x4] σ (mQi S Q) :=
  m_smetZ hD ⟨rfl, by decide, by show _ = some 3; decide +kernel, q2149⟩ q2148 (Nat.le_of_ble_eq_true rfl) (fun κ Z h hR => mt_isIn h hR hw)
def mw_number_30 (σ : FS) (Q : Int32 → FS → Prop) : Prop :=
  mw_fail (1 : Int32) (fI σ 0 2) σ (fun σ5 => Q (0 : Int32) σ5)
theorem mt_number_30 {κ : Cx} {S : Adr} {Z : State → Prop} {Q : Int32 → FS → Prop} (h : MCx κ cX6_number S 2) (hR : RetI κ S Z cX6_number Q) {σ : FS} (hw : mw_number_30 σ Q) : MG κ S Z 30 σ [some (.ref (S.2.1 0)), none, none, none, none] [] := by
  unfold mw_number_30 at hw
  refine g_aload_0 30 h.1 dX6_number_30 ?_
  refine g_iconstv 31 _ ic_1 h.1 dX6_number_31 ?_
  refine g_aload_0 32 h.1 dX6_number_32 ?_
  refine mg_2 33 h dX6_number_33 ?_
  refine m_callV_2 36 h (mm_fail h.2.2.1 hw) (by decide) q2136 (Nat.le_of_ble_eq_true rfl) dX6_number_36 (fun σ5 hw => ?_)
  refine g_iconstv 39 _ ic_0 h.1 dX6_number_39 ?_
  exact hR 40 _ _ _ dX6_number_40 hw
def mw_number_129 (x1 : Int32) (x2 : Int32) (x3 : Int32) (x4 : Int32) (σ : FS) (Q : Int32 → FS → Prop) : Prop :=
  (∀ σ10, σ10 = sI σ 0 4 (fI σ 0 2) → (∀ σ11, σ11 = sI σ10 0 10 x3 → mw_isIn (Int32.toInt64 x4) (Int32.toInt64 x1) (Int32.toInt64 x2) σ11 (fun r13 σ12 => ((¬ r13 = 0 → Q x4 σ12) ∧ (r13 = 0 → mw_fail (2 : Int32) (fI σ12 0 10) σ12 (fun σ14 => Q x4 σ14))))))
theorem mt_number_129 {κ : Cx} {S : Adr} {Z : State → Prop} {Q : Int32 → FS → Prop} (h : MCx κ cX6_number S 2) (hR : RetI κ S Z cX6_number Q) {x1 : Int32} {x2 : Int32} {x3 : Int32} {x4 : Int32} {σ : FS} (hw : mw_number_129 x1 x2 x3 x4 σ Q) : MG κ S Z 129 σ [some (.ref (S.2.1 0)), some (.int x1), some (.int x2), some (.int x3), some (.int x4)] [] := by
  unfold mw_number_129 at hw
  refine g_aload_0 129 h.1 dX6_number_129 ?_
  refine g_aload_0 130 h.1 dX6_number_130 ?_
  refine mg_2 131 h dX6_number_131 ?_
  refine mp_4 134 h dX6_number_134 ?_
  have hw := hw _ rfl
  refine g_aload_0 137 h.1 dX6_number_137 ?_
  refine g_iload_3 138 h.1 dX6_number_138 ?_
  refine mp_10 139 h dX6_number_139 ?_
  have hw := hw _ rfl
  refine g_iload_4 142 h.1 dX6_number_142 ?_
  refine g_i2l 144 h.1 dX6_number_144 ?_
  refine g_iload_1 145 h.1 dX6_number_145 ?_
  refine g_i2l 146 h.1 dX6_number_146 ?_
  refine g_iload_2 147 h.1 dX6_number_147 ?_
  refine g_i2l 148 h.1 dX6_number_148 ?_
  refine m_scallI_3 149 h (mm_isIn h.2.2.1 hw) (by decide) q2147 (Nat.le_of_ble_eq_true rfl) dX6_number_149 (fun r13 σ12 hw => ?_)
  refine g_if_ne 152 164 h.1 dX6_number_152 (by decide) (fun c => ?_) (fun c => ?_)
  · have hw := hw.1 c
    refine g_iload_4 164 h.1 dX6_number_164 ?_
    exact hR 166 _ _ _ dX6_number_166 hw
  · have hw := hw.2 c
    refine g_aload_0 155 h.1 dX6_number_155 ?_
    refine g_iconstv 156 _ ic_2 h.1 dX6_number_156 ?_
    refine g_aload_0 157 h.1 dX6_number_157 ?_
    refine mg_10 158 h dX6_number_158 ?_
    refine m_callV_2 161 h (mm_fail h.2.2.1 hw) (by decide) q2136 (Nat.le_of_ble_eq_true rfl) dX6_number_161 (fun σ14 hw => ?_)
    refine g_iload_4 164 h.1 dX6_number_164 ?_
    exact hR 166 _ _ _ dX6_number_166 hw
def mw_number_49 (x1 : Int32) (x2 : Int32) (x3 : Int32) (x4 : Int32) (σ : FS) (Q : Int32 → FS → Prop) : Prop :=
  ∀ X49 : Int32 → Int32 → Int32 → Int32 → FS → Prop, (∀ (x1 : Int32) (x2 : Int32) (x3 : Int32) (x4 : Int32) (σ : FS), (((fI σ 0 3) ≤ (fI σ 0 2) → mw_number_129 x1 x2 x3 x4 σ Q) ∧ (¬ (fI σ 0 3) ≤ (fI σ 0 2) → (vp_in (fI σ 0 2) 1600 ∧ mw_isDigit (fA σ 0 (Int32.toNatClampNeg (fI σ 0 2))) σ (fun r7 σ6 => ((r7 = 0 → mw_number_129 x1 x2 x3 x4 σ6 Q) ∧ (¬ r7 = 0 → ((¬ ((fI σ6 0 2) - x3) = (4 : Int32) → (vp_in (fI σ6 0 2) 1600 ∧ (∀ σ8, σ8 = sI σ6 0 2 ((fI σ6 0 2) + (1 : Int32)) → X49 x1 x2 x3 ((((10 : Int32) * x4) + (fA σ6 0 (Int32.toNatClampNeg (fI σ6 0 2)))) - (48 : Int32)) σ8))) ∧ (((fI σ6 0 2) - x3) = (4 : Int32) → mw_fail (1 : Int32) (fI σ6 0 2) σ6 (fun σ9 => Q (0 : Int32) σ9))))))))) → X49 x1 x2 x3 x4 σ) → X49 x1 x2 x3 x4 σ
theorem mt_number_49 {κ : Cx} {S : Adr} {Z : State → Prop} {Q : Int32 → FS → Prop} (h : MCx κ cX6_number S 2) (hR : RetI κ S Z cX6_number Q) {x1 : Int32} {x2 : Int32} {x3 : Int32} {x4 : Int32} {σ : FS} (hw : mw_number_49 x1 x2 x3 x4 σ Q) : MG κ S Z 49 σ [some (.ref (S.2.1 0)), some (.int x1), some (.int x2), some (.int x3), some (.int x4)] [] := by
  refine hw (fun x1 x2 x3 x4 σ => MG κ S Z 49 σ [some (.ref (S.2.1 0)), some (.int x1), some (.int x2), some (.int x3), some (.int x4)] []) ?_
  clear hw
  intro x1 x2 x3 x4 σ hw
  have hX49 : ∀ (x1 : Int32) (x2 : Int32) (x3 : Int32) (x4 : Int32) (σ : FS), MG κ S Z 49 σ [some (.ref (S.2.1 0)), some (.int x1), some (.int x2), some (.int x3), some (.int x4)] [] → MG κ S Z 49 σ [some (.ref (S.2.1 0)), some (.int x1), some (.int x2), some (.int x3), some (.int x4)] [] := fun _ _ _ _ _ hh => hh
  refine g_aload_0 49 h.1 dX6_number_49 ?_
  refine mg_2 50 h dX6_number_50 ?_
  refine g_aload_0 53 h.1 dX6_number_53 ?_
  refine mg_3 54 h dX6_number_54 ?_
  refine g_icmp_ge 57 129 h.1 dX6_number_57 (by decide) (fun c => ?_) (fun c => ?_)
  · have hw := hw.1 c
    exact g_le (mt_number_129 h hR hw) ⟨rfl, rfl, rfl, rfl, rfl, trivial⟩
  · have hw := hw.2 c
    refine g_aload_0 60 h.1 dX6_number_60 ?_
    refine mg_0 61 h dX6_number_61 ?_
    refine g_aload_0 64 h.1 dX6_number_64 ?_
    refine mg_2 65 h dX6_number_65 ?_
    refine m_iald 68 rfl hw.1 h dX6_number_68 ?_
    have hw := hw.2
    refine m_scallI_1 69 h (mm_isDigit h.2.2.1 hw) (by decide) q2144 (Nat.le_of_ble_eq_true rfl) dX6_number_69 (fun r7 σ6 hw => ?_)
    refine g_if_eq 72 129 h.1 dX6_number_72 (by decide) (fun c => ?_) (fun c => ?_)
    · have hw := hw.1 c
      exact g_le (mt_number_129 h hR hw) ⟨rfl, rfl, rfl, rfl, rfl, trivial⟩
    · have hw := hw.2 c
      refine g_aload_0 75 h.1 dX6_number_75 ?_
      refine mg_2 76 h dX6_number_76 ?_
      refine g_iload_3 79 h.1 dX6_number_79 ?_
      refine g_isub 80 h.1 dX6_number_80 ?_
      refine g_iconstv 81 _ ic_4 h.1 dX6_number_81 ?_
      refine g_icmp_ne 82 96 h.1 dX6_number_82 (by decide) (fun c => ?_) (fun c => ?_)
      · have hw := hw.1 c
        refine g_bipush 96 _ bp_10 h.1 dX6_number_96 ?_
        refine g_iload_4 98 h.1 dX6_number_98 ?_
        refine g_imul 100 h.1 dX6_number_100 ?_
        refine g_aload_0 101 h.1 dX6_number_101 ?_
        refine mg_0 102 h dX6_number_102 ?_
        refine g_aload_0 105 h.1 dX6_number_105 ?_
        refine mg_2 106 h dX6_number_106 ?_
        refine m_iald 109 rfl hw.1 h dX6_number_109 ?_
        have hw := hw.2
        refine g_iadd 110 h.1 dX6_number_110 ?_
        refine g_bipush 111 _ bp_48 h.1 dX6_number_111 ?_
        refine g_isub 113 h.1 dX6_number_113 ?_
        refine g_istore_4 114 h.1 rfl dX6_number_114 ?_
        refine g_aload_0 116 h.1 dX6_number_116 ?_
        refine g_dup 117 rfl h.1 dX6_number_117 ?_
        refine mg_2 118 h dX6_number_118 ?_
        refine g_iconstv 121 _ ic_1 h.1 dX6_number_121 ?_
        refine g_iadd 122 h.1 dX6_number_122 ?_
        refine mp_2 123 h dX6_number_123 ?_
        have hw := hw _ rfl
        refine g_goto 126 49 h.1 dX6_number_126 (by decide) ?_
        exact g_le (hX49 _ _ _ _ _ hw) ⟨rfl, rfl, rfl, rfl, rfl, trivial⟩
      · have hw := hw.2 c
        refine g_aload_0 85 h.1 dX6_number_85 ?_
        refine g_iconstv 86 _ ic_1 h.1 dX6_number_86 ?_
        refine g_aload_0 87 h.1 dX6_number_87 ?_
        refine mg_2 88 h dX6_number_88 ?_
        refine m_callV_2 91 h (mm_fail h.2.2.1 hw) (by decide) q2136 (Nat.le_of_ble_eq_true rfl) dX6_number_91 (fun σ9 hw => ?_)
        refine g_iconstv 94 _ ic_0 h.1 dX6_number_94 ?_
        exact hR 95 _ _ _ dX6_number_95 hw
def mw_number (x1 : Int32) (x2 : Int32) (σ : FS) (Q : Int32 → FS → Prop) : Prop :=
  (((fI σ 0 5) = 0 → mw_look σ (fun r2 σ1 => mw_isDigit r2 σ1 (fun r4 σ3 => ((r4 = 0 → mw_number_30 σ3 Q) ∧ (¬ r4 = 0 → ((¬ (fI σ3 0 2) = (fI σ3 0 4) → mw_number_49 x1 x2 (fI σ3 0 2) (0 : Int32) σ3 Q) ∧ ((fI σ3 0 2) = (fI σ3 0 4) → mw_number_30 σ3 Q))))))) ∧ (¬ (fI σ 0 5) = 0 → Q (0 : Int32) σ))
theorem mt_number {κ : Cx} {S : Adr} {Z : State → Prop} {Q : Int32 → FS → Prop} (h : MCx κ cX6_number S 2) (hR : RetI κ S Z cX6_number Q) {x1 : Int32} {x2 : Int32} {σ : FS} (hw : mw_number x1 x2 σ Q) : MG κ S Z 0 σ [some (.ref (S.2.1 0)), some (.int x1), some (.int x2), none, none] [] := by
  unfold mw_number at hw
  refine g_aload_0 0 h.1 dX6_number_0 ?_
  refine mg_5 1 h dX6_number_1 ?_
  refine g_if_eq 4 9 h.1 dX6_number_4 (by decide) (fun c => ?_) (fun c => ?_)
  · have hw := hw.1 c
    refine g_aload_0 9 h.1 dX6_number_9 ?_
    refine m_callI_0 10 h (mm_look h.2.2.1 hw) (by decide) q2129 (Nat.le_of_ble_eq_true rfl) dX6_number_10 (fun r2 σ1 hw => ?_)
    refine m_scallI_1 13 h (mm_isDigit h.2.2.1 hw) (by decide) q2144 (Nat.le_of_ble_eq_true rfl) dX6_number_13 (fun r4 σ3 hw => ?_)
    refine g_if_eq 16 30 h.1 dX6_number_16 (by decide) (fun c => ?_) (fun c => ?_)
    · have hw := hw.1 c
      exact g_le (mt_number_30 h hR hw) ⟨rfl, trivial⟩
    · have hw := hw.2 c
      refine g_aload_0 19 h.1 dX6_number_19 ?_
      refine mg_2 20 h dX6_number_20 ?_
      refine g_aload_0 23 h.1 dX6_number_23 ?_
      refine mg_4 24 h dX6_number_24 ?_
      refine g_icmp_ne 27 41 h.1 dX6_number_27 (by decide) (fun c => ?_) (fun c => ?_)
      · have hw := hw.1 c
        refine g_aload_0 41 h.1 dX6_number_41 ?_
        refine mg_2 42 h dX6_number_42 ?_
        refine g_istore_3 45 h.1 rfl dX6_number_45 ?_
        refine g_iconstv 46 _ ic_0 h.1 dX6_number_46 ?_
        refine g_istore_4 47 h.1 rfl dX6_number_47 ?_
        exact g_le (mt_number_49 h hR hw) ⟨rfl, rfl, rfl, rfl, rfl, trivial⟩
      · have hw := hw.2 c
        exact g_le (mt_number_30 h hR hw) ⟨rfl, trivial⟩
  · have hw := hw.2 c
    refine g_iconstv 7 _ ic_0 h.1 dX6_number_7 ?_
    exact hR 8 _ _ _ dX6_number_8 hw
theorem mm_number {l : Launch} {S : Adr} (hD : MD S) {x1 : Int32} {x2 : Int32} {σ : FS} {Q : Int32 → FS → Prop} (hw : mw_number x1 x2 σ Q) : mMet l S 2 yX6_number [.int x1, .int x2] σ (mQi S Q) :=
  m_metI hD ⟨rfl, by decide, by show _ = some 2; decide +kernel, q2143⟩ q2142 qs73 (Nat.le_of_ble_eq_true rfl) (fun κ Z h hR => mt_number h hR hw)
def mw_qAsksWord (x1 : Int32) (σ : FS) (Q : FS → Prop) : Prop :=
  ((x1 = 0 → mw_needs 91 σ (fun σ1 => Q σ1)) ∧ (¬ x1 = 0 → ((x1 = 1 → mw_needs 92 σ (fun σ2 => Q σ2)) ∧ (¬ x1 = 1 → ((x1 = 2 → mw_needs 93 σ (fun σ3 => Q σ3)) ∧ (¬ x1 = 2 → ((x1 = 3 → mw_needs 94 σ (fun σ4 => Q σ4)) ∧ (¬ x1 = 3 → ((x1 = 4 → mw_needs 95 σ (fun σ5 => Q σ5)) ∧ (¬ x1 = 4 → ((x1 = 5 → mw_needs 96 σ (fun σ6 => Q σ6)) ∧ (¬ x1 = 5 → ((x1 = 6 → mw_needs 97 σ (fun σ7 => Q σ7)) ∧ (¬ x1 = 6 → ((x1 = 7 → mw_needs 98 σ (fun σ8 => Q σ8)) ∧ (¬ x1 = 7 → ((x1 = 8 → mw_needs 99 σ (fun σ9 => Q σ9)) ∧ (¬ x1 = 8 → ((x1 = 9 → mw_needs 100 σ (fun σ10 => Q σ10)) ∧ (¬ x1 = 9 → mw_needs 101 σ (fun σ11 => Q σ11)))))))))))))))))))))
theorem mt_qAsksWord {κ : Cx} {S : Adr} {Z : State → Prop} {Q : FS → Prop} (h : MCx κ cX6_qAsksWord S 5) (hR : RetV κ S Z cX6_qAsksWord Q) {x1 : Int32} {σ : FS} (hw : mw_qAsksWord x1 σ Q) : MG κ S Z 0 σ [some (.ref (S.2.1 0)), some (.int x1)] [] := by
  unfold mw_qAsksWord at hw
  refine g_iload_1 0 h.1 dX6_qAsksWord_0 ?_
  rcases Classical.em (x1 = 0) with c0 | c0
  · have hw := hw.1 c0
    refine g_tabIn 1 56 55 h.1 dX6_qAsksWord_1 (by rw [c0]; decide) (by rw [c0]; decide) (by rw [c0]; decide) (by decide) ?_
    refine g_aload_0 56 h.1 dX6_qAsksWord_56 ?_
    refine g_aload_0 57 h.1 dX6_qAsksWord_57 ?_
    refine mg_91 58 h dX6_qAsksWord_58 ?_
    refine m_callV_1 61 h (mm_needs h.2.2.1 hw) (by decide) q2117 (Nat.le_of_ble_eq_true rfl) dX6_qAsksWord_61 (fun σ1 hw => ?_)
    refine g_goto 64 174 h.1 dX6_qAsksWord_64 (by decide) ?_
    exact hR 174 _ _ dX6_qAsksWord_174 hw
  · have hw := hw.2 c0
    rcases Classical.em (x1 = 1) with c1 | c1
    · have hw := hw.1 c1
      refine g_tabIn 1 67 66 h.1 dX6_qAsksWord_1 (by rw [c1]; decide) (by rw [c1]; decide) (by rw [c1]; decide) (by decide) ?_
      refine g_aload_0 67 h.1 dX6_qAsksWord_67 ?_
      refine g_aload_0 68 h.1 dX6_qAsksWord_68 ?_
      refine mg_92 69 h dX6_qAsksWord_69 ?_
      refine m_callV_1 72 h (mm_needs h.2.2.1 hw) (by decide) q2117 (Nat.le_of_ble_eq_true rfl) dX6_qAsksWord_72 (fun σ2 hw => ?_)
      refine g_goto 75 174 h.1 dX6_qAsksWord_75 (by decide) ?_
      exact hR 174 _ _ dX6_qAsksWord_174 hw
    · have hw := hw.2 c1
      rcases Classical.em (x1 = 2) with c2 | c2
      · have hw := hw.1 c2
        refine g_tabIn 1 78 77 h.1 dX6_qAsksWord_1 (by rw [c2]; decide) (by rw [c2]; decide) (by rw [c2]; decide) (by decide) ?_
        refine g_aload_0 78 h.1 dX6_qAsksWord_78 ?_
        refine g_aload_0 79 h.1 dX6_qAsksWord_79 ?_
        refine mg_93 80 h dX6_qAsksWord_80 ?_
        refine m_callV_1 83 h (mm_needs h.2.2.1 hw) (by decide) q2117 (Nat.le_of_ble_eq_true rfl) dX6_qAsksWord_83 (fun σ3 hw => ?_)
        refine g_goto 86 174 h.1 dX6_qAsksWord_86 (by decide) ?_
        exact hR 174 _ _ dX6_qAsksWord_174 hw
      · have hw := hw.2 c2
        rcases Classical.em (x1 = 3) with c3 | c3
        · have hw := hw.1 c3
          refine g_tabIn 1 89 88 h.1 dX6_qAsksWord_1 (by rw [c3]; decide) (by rw [c3]; decide) (by rw [c3]; decide) (by decide) ?_
          refine g_aload_0 89 h.1 dX6_qAsksWord_89 ?_
          refine g_aload_0 90 h.1 dX6_qAsksWord_90 ?_
          refine mg_94 91 h dX6_qAsksWord_91 ?_
          refine m_callV_1 94 h (mm_needs h.2.2.1 hw) (by decide) q2117 (Nat.le_of_ble_eq_true rfl) dX6_qAsksWord_94 (fun σ4 hw => ?_)
          refine g_goto 97 174 h.1 dX6_qAsksWord_97 (by decide) ?_
          exact hR 174 _ _ dX6_qAsksWord_174 hw
        · have hw := hw.2 c3
          rcases Classical.em (x1 = 4) with c4 | c4
          · have hw := hw.1 c4
            refine g_tabIn 1 100 99 h.1 dX6_qAsksWord_1 (by rw [c4]; decide) (by rw [c4]; decide) (by rw [c4]; decide) (by decide) ?_
            refine g_aload_0 100 h.1 dX6_qAsksWord_100 ?_
            refine g_aload_0 101 h.1 dX6_qAsksWord_101 ?_
            refine mg_95 102 h dX6_qAsksWord_102 ?_
            refine m_callV_1 105 h (mm_needs h.2.2.1 hw) (by decide) q2117 (Nat.le_of_ble_eq_true rfl) dX6_qAsksWord_105 (fun σ5 hw => ?_)
            refine g_goto 108 174 h.1 dX6_qAsksWord_108 (by decide) ?_
            exact hR 174 _ _ dX6_qAsksWord_174 hw
          · have hw := hw.2 c4
            rcases Classical.em (x1 = 5) with c5 | c5
            · have hw := hw.1 c5
              refine g_tabIn 1 111 110 h.1 dX6_qAsksWord_1 (by rw [c5]; decide) (by rw [c5]; decide) (by rw [c5]; decide) (by decide) ?_
              refine g_aload_0 111 h.1 dX6_qAsksWord_111 ?_
              refine g_aload_0 112 h.1 dX6_qAsksWord_112 ?_
              refine mg_96 113 h dX6_qAsksWord_113 ?_
              refine m_callV_1 116 h (mm_needs h.2.2.1 hw) (by decide) q2117 (Nat.le_of_ble_eq_true rfl) dX6_qAsksWord_116 (fun σ6 hw => ?_)
              refine g_goto 119 174 h.1 dX6_qAsksWord_119 (by decide) ?_
              exact hR 174 _ _ dX6_qAsksWord_174 hw
            · have hw := hw.2 c5
              rcases Classical.em (x1 = 6) with c6 | c6
              · have hw := hw.1 c6
                refine g_tabIn 1 122 121 h.1 dX6_qAsksWord_1 (by rw [c6]; decide) (by rw [c6]; decide) (by rw [c6]; decide) (by decide) ?_
                refine g_aload_0 122 h.1 dX6_qAsksWord_122 ?_
                refine g_aload_0 123 h.1 dX6_qAsksWord_123 ?_
                refine mg_97 124 h dX6_qAsksWord_124 ?_
                refine m_callV_1 127 h (mm_needs h.2.2.1 hw) (by decide) q2117 (Nat.le_of_ble_eq_true rfl) dX6_qAsksWord_127 (fun σ7 hw => ?_)
                refine g_goto 130 174 h.1 dX6_qAsksWord_130 (by decide) ?_
                exact hR 174 _ _ dX6_qAsksWord_174 hw
              · have hw := hw.2 c6
                rcases Classical.em (x1 = 7) with c7 | c7
                · have hw := hw.1 c7
                  refine g_tabIn 1 133 132 h.1 dX6_qAsksWord_1 (by rw [c7]; decide) (by rw [c7]; decide) (by rw [c7]; decide) (by decide) ?_
                  refine g_aload_0 133 h.1 dX6_qAsksWord_133 ?_
                  refine g_aload_0 134 h.1 dX6_qAsksWord_134 ?_
                  refine mg_98 135 h dX6_qAsksWord_135 ?_
                  refine m_callV_1 138 h (mm_needs h.2.2.1 hw) (by decide) q2117 (Nat.le_of_ble_eq_true rfl) dX6_qAsksWord_138 (fun σ8 hw => ?_)
                  refine g_goto 141 174 h.1 dX6_qAsksWord_141 (by decide) ?_
                  exact hR 174 _ _ dX6_qAsksWord_174 hw
                · have hw := hw.2 c7
                  rcases Classical.em (x1 = 8) with c8 | c8
                  · have hw := hw.1 c8
                    refine g_tabIn 1 144 143 h.1 dX6_qAsksWord_1 (by rw [c8]; decide) (by rw [c8]; decide) (by rw [c8]; decide) (by decide) ?_
                    refine g_aload_0 144 h.1 dX6_qAsksWord_144 ?_
                    refine g_aload_0 145 h.1 dX6_qAsksWord_145 ?_
                    refine mg_99 146 h dX6_qAsksWord_146 ?_
                    refine m_callV_1 149 h (mm_needs h.2.2.1 hw) (by decide) q2117 (Nat.le_of_ble_eq_true rfl) dX6_qAsksWord_149 (fun σ9 hw => ?_)
                    refine g_goto 152 174 h.1 dX6_qAsksWord_152 (by decide) ?_
                    exact hR 174 _ _ dX6_qAsksWord_174 hw
                  · have hw := hw.2 c8
                    rcases Classical.em (x1 = 9) with c9 | c9
                    · have hw := hw.1 c9
                      refine g_tabIn 1 155 154 h.1 dX6_qAsksWord_1 (by rw [c9]; decide) (by rw [c9]; decide) (by rw [c9]; decide) (by decide) ?_
                      refine g_aload_0 155 h.1 dX6_qAsksWord_155 ?_
                      refine g_aload_0 156 h.1 dX6_qAsksWord_156 ?_
                      refine mg_100 157 h dX6_qAsksWord_157 ?_
                      refine m_callV_1 160 h (mm_needs h.2.2.1 hw) (by decide) q2117 (Nat.le_of_ble_eq_true rfl) dX6_qAsksWord_160 (fun σ10 hw => ?_)
                      refine g_goto 163 174 h.1 dX6_qAsksWord_163 (by decide) ?_
                      exact hR 174 _ _ dX6_qAsksWord_174 hw
                    · have hw := hw.2 c9
                      refine g_tabOut 1 166 h.1 dX6_qAsksWord_1 (tabOut_0_9 c0 c1 c2 c3 c4 c5 c6 c7 c8 c9) (by decide) ?_
                      refine g_aload_0 166 h.1 dX6_qAsksWord_166 ?_
                      refine g_aload_0 167 h.1 dX6_qAsksWord_167 ?_
                      refine mg_101 168 h dX6_qAsksWord_168 ?_
                      refine m_callV_1 171 h (mm_needs h.2.2.1 hw) (by decide) q2117 (Nat.le_of_ble_eq_true rfl) dX6_qAsksWord_171 (fun σ11 hw => ?_)
                      exact hR 174 _ _ dX6_qAsksWord_174 hw
theorem mm_qAsksWord {l : Launch} {S : Adr} (hD : MD S) {x1 : Int32} {σ : FS} {Q : FS → Prop} (hw : mw_qAsksWord x1 σ Q) : mMet l S 5 yX6_qAsksWord [.int x1] σ (mQv S Q) :=
  m_metV hD ⟨rfl, by decide, by show _ = some 1; decide +kernel, q2251⟩ q2250 qs98 (Nat.le_of_ble_eq_true rfl) (fun κ Z h hR => mt_qAsksWord h hR hw)
def mw_qOpens (x1 : Int32) (x2 : Int32) (σ : FS) (Q : FS → Prop) : Prop :=
  (((fI σ 0 5) = 0 → ((¬ (fI σ 0 106) = (6 : Int32) → (∀ σ1, σ1 = sI σ 0 106 ((fI σ 0 106) + (1 : Int32)) → (vp_in (fI σ1 0 105) 1700 ∧ ∀ σ2, σ2 = sA σ1 104 (Int32.toNatClampNeg (fI σ1 0 105)) x1 → (∀ σ3, σ3 = sI σ2 0 105 ((fI σ2 0 105) + (1 : Int32)) → Q σ3)))) ∧ ((fI σ 0 106) = (6 : Int32) → mw_fail (4 : Int32) x2 σ (fun σ4 => Q σ4)))) ∧ (¬ (fI σ 0 5) = 0 → Q σ))
theorem mt_qOpens {κ : Cx} {S : Adr} {Z : State → Prop} {Q : FS → Prop} (h : MCx κ cX6_qOpens S 2) (hR : RetV κ S Z cX6_qOpens Q) {x1 : Int32} {x2 : Int32} {σ : FS} (hw : mw_qOpens x1 x2 σ Q) : MG κ S Z 0 σ [some (.ref (S.2.1 0)), some (.int x1), some (.int x2)] [] := by
  unfold mw_qOpens at hw
  refine g_aload_0 0 h.1 dX6_qOpens_0 ?_
  refine mg_5 1 h dX6_qOpens_1 ?_
  refine g_if_eq 4 8 h.1 dX6_qOpens_4 (by decide) (fun c => ?_) (fun c => ?_)
  · have hw := hw.1 c
    refine g_aload_0 8 h.1 dX6_qOpens_8 ?_
    refine mg_106 9 h dX6_qOpens_9 ?_
    refine g_bipush 12 _ bp_6 h.1 dX6_qOpens_12 ?_
    refine g_icmp_ne 14 24 h.1 dX6_qOpens_14 (by decide) (fun c => ?_) (fun c => ?_)
    · have hw := hw.1 c
      refine g_aload_0 24 h.1 dX6_qOpens_24 ?_
      refine g_dup 25 rfl h.1 dX6_qOpens_25 ?_
      refine mg_106 26 h dX6_qOpens_26 ?_
      refine g_iconstv 29 _ ic_1 h.1 dX6_qOpens_29 ?_
      refine g_iadd 30 h.1 dX6_qOpens_30 ?_
      refine mp_106 31 h dX6_qOpens_31 ?_
      have hw := hw _ rfl
      refine g_aload_0 34 h.1 dX6_qOpens_34 ?_
      refine mg_104 35 h dX6_qOpens_35 ?_
      refine g_aload_0 38 h.1 dX6_qOpens_38 ?_
      refine mg_105 39 h dX6_qOpens_39 ?_
      refine g_iload_1 42 h.1 dX6_qOpens_42 ?_
      refine m_iast 43 rfl hw.1 h dX6_qOpens_43 ?_
      have hw := hw.2 _ rfl
      refine g_aload_0 44 h.1 dX6_qOpens_44 ?_
      refine g_dup 45 rfl h.1 dX6_qOpens_45 ?_
      refine mg_105 46 h dX6_qOpens_46 ?_
      refine g_iconstv 49 _ ic_1 h.1 dX6_qOpens_49 ?_
      refine g_iadd 50 h.1 dX6_qOpens_50 ?_
      refine mp_105 51 h dX6_qOpens_51 ?_
      have hw := hw _ rfl
      exact hR 54 _ _ dX6_qOpens_54 hw
    · have hw := hw.2 c
      refine g_aload_0 17 h.1 dX6_qOpens_17 ?_
      refine g_iconstv 18 _ ic_4 h.1 dX6_qOpens_18 ?_
      refine g_iload_2 19 h.1 dX6_qOpens_19 ?_
      refine m_callV_2 20 h (mm_fail h.2.2.1 hw) (by decide) q2136 (Nat.le_of_ble_eq_true rfl) dX6_qOpens_20 (fun σ4 hw => ?_)
      exact hR 23 _ _ dX6_qOpens_23 hw
  · have hw := hw.2 c
    exact hR 7 _ _ dX6_qOpens_7 hw
theorem mm_qOpens {l : Launch} {S : Adr} (hD : MD S) {x1 : Int32} {x2 : Int32} {σ : FS} {Q : FS → Prop} (hw : mw_qOpens x1 x2 σ Q) : mMet l S 2 yX6_qOpens [.int x1, .int x2] σ (mQv S Q) :=
  m_metV hD ⟨rfl, by decide, by show _ = some 2; decide +kernel, q2219⟩ q2218 qs90 (Nat.le_of_ble_eq_true rfl) (fun κ Z h hR => mt_qOpens h hR hw)
def mw_isAllowed (x1 : Int32) (σ : FS) (Q : Int32 → FS → Prop) : Prop :=
  ((¬ (fI σ 0 51) = 0 → ((¬ (fI σ 0 51) = (1 : Int32) → ((x1 < (4 : Int32) → Q (1 : Int32) σ) ∧ (¬ x1 < (4 : Int32) → ((x1 ≤ (5 : Int32) → Q (0 : Int32) σ) ∧ (¬ x1 ≤ (5 : Int32) → Q (1 : Int32) σ))))) ∧ ((fI σ 0 51) = (1 : Int32) → (((6 : Int32) ≤ x1 → Q (0 : Int32) σ) ∧ (¬ (6 : Int32) ≤ x1 → Q (1 : Int32) σ))))) ∧ ((fI σ 0 51) = 0 → (((5 : Int32) ≤ x1 → Q (0 : Int32) σ) ∧ (¬ (5 : Int32) ≤ x1 → Q (1 : Int32) σ))))
theorem mt_isAllowed {κ : Cx} {S : Adr} {Z : State → Prop} {Q : Int32 → FS → Prop} (h : MCx κ cX6_isAllowed S 1) (hR : RetZ κ S Z cX6_isAllowed Q) {x1 : Int32} {σ : FS} (hw : mw_isAllowed x1 σ Q) : MG κ S Z 0 σ [some (.ref (S.2.1 0)), some (.int x1)] [] := by
  unfold mw_isAllowed at hw
  refine g_aload_0 0 h.1 dX6_isAllowed_0 ?_
  refine mg_51 1 h dX6_isAllowed_1 ?_
  refine g_if_ne 4 20 h.1 dX6_isAllowed_4 (by decide) (fun c => ?_) (fun c => ?_)
  · have hw := hw.1 c
    refine g_aload_0 20 h.1 dX6_isAllowed_20 ?_
    refine mg_51 21 h dX6_isAllowed_21 ?_
    refine g_iconstv 24 _ ic_1 h.1 dX6_isAllowed_24 ?_
    refine g_icmp_ne 25 42 h.1 dX6_isAllowed_25 (by decide) (fun c => ?_) (fun c => ?_)
    · have hw := hw.1 c
      refine g_iload_1 42 h.1 dX6_isAllowed_42 ?_
      refine g_iconstv 43 _ ic_4 h.1 dX6_isAllowed_43 ?_
      refine g_icmp_lt 44 52 h.1 dX6_isAllowed_44 (by decide) (fun c => ?_) (fun c => ?_)
      · have hw := hw.1 c
        refine g_iconstv 52 _ ic_1 h.1 dX6_isAllowed_52 ?_
        refine g_goto 53 57 h.1 dX6_isAllowed_53 (by decide) ?_
        exact hR 57 _ _ _ dX6_isAllowed_57 rfl hw
      · have hw := hw.2 c
        refine g_iload_1 47 h.1 dX6_isAllowed_47 ?_
        refine g_iconstv 48 _ ic_5 h.1 dX6_isAllowed_48 ?_
        refine g_icmp_le 49 56 h.1 dX6_isAllowed_49 (by decide) (fun c => ?_) (fun c => ?_)
        · have hw := hw.1 c
          refine g_iconstv 56 _ ic_0 h.1 dX6_isAllowed_56 ?_
          exact hR 57 _ _ _ dX6_isAllowed_57 rfl hw
        · have hw := hw.2 c
          refine g_iconstv 52 _ ic_1 h.1 dX6_isAllowed_52 ?_
          refine g_goto 53 57 h.1 dX6_isAllowed_53 (by decide) ?_
          exact hR 57 _ _ _ dX6_isAllowed_57 rfl hw
    · have hw := hw.2 c
      refine g_iload_1 28 h.1 dX6_isAllowed_28 ?_
      refine g_bipush 29 _ bp_6 h.1 dX6_isAllowed_29 ?_
      refine g_icmp_ge 31 38 h.1 dX6_isAllowed_31 (by decide) (fun c => ?_) (fun c => ?_)
      · have hw := hw.1 c
        refine g_iconstv 38 _ ic_0 h.1 dX6_isAllowed_38 ?_
        refine g_goto 39 57 h.1 dX6_isAllowed_39 (by decide) ?_
        exact hR 57 _ _ _ dX6_isAllowed_57 rfl hw
      · have hw := hw.2 c
        refine g_iconstv 34 _ ic_1 h.1 dX6_isAllowed_34 ?_
        refine g_goto 35 57 h.1 dX6_isAllowed_35 (by decide) ?_
        exact hR 57 _ _ _ dX6_isAllowed_57 rfl hw
  · have hw := hw.2 c
    refine g_iload_1 7 h.1 dX6_isAllowed_7 ?_
    refine g_iconstv 8 _ ic_5 h.1 dX6_isAllowed_8 ?_
    refine g_icmp_ge 9 16 h.1 dX6_isAllowed_9 (by decide) (fun c => ?_) (fun c => ?_)
    · have hw := hw.1 c
      refine g_iconstv 16 _ ic_0 h.1 dX6_isAllowed_16 ?_
      refine g_goto 17 57 h.1 dX6_isAllowed_17 (by decide) ?_
      exact hR 57 _ _ _ dX6_isAllowed_57 rfl hw
    · have hw := hw.2 c
      refine g_iconstv 12 _ ic_1 h.1 dX6_isAllowed_12 ?_
      refine g_goto 13 57 h.1 dX6_isAllowed_13 (by decide) ?_
      exact hR 57 _ _ _ dX6_isAllowed_57 rfl hw
theorem mm_isAllowed {l : Launch} {S : Adr} (hD : MD S) {x1 : Int32} {σ : FS} {Q : Int32 → FS → Prop} (hw : mw_isAllowed x1 σ Q) : mMet l S 1 yX6_isAllowed [.int x1] σ (mQi S Q) :=
  m_metZ hD ⟨rfl, by decide, by show _ = some 1; decide +kernel, q2247⟩ q2246 qs97 (Nat.le_of_ble_eq_true rfl) (fun κ Z h hR => mt_isAllowed h hR hw)
def mw_qWordHere (σ : FS) (Q : Int32 → FS → Prop) : Prop :=
  mw_isHere 91 σ (fun r2 σ1 => ((r2 = 0 → mw_isHere 92 σ1 (fun r4 σ3 => ((r4 = 0 → mw_isHere 93 σ3 (fun r6 σ5 => ((r6 = 0 → mw_isHere 94 σ5 (fun r8 σ7 => ((r8 = 0 → mw_isHere 95 σ7 (fun r10 σ9 => ((r10 = 0 → mw_isHere 96 σ9 (fun r12 σ11 => ((r12 = 0 → mw_isHere 97 σ11 (fun r14 σ13 => ((r14 = 0 → mw_isHere 98 σ13 (fun r16 σ15 => ((r16 = 0 → mw_isHere 99 σ15 (fun r18 σ17 => ((r18 = 0 → mw_isHere 100 σ17 (fun r20 σ19 => ((r20 = 0 → mw_isHere 101 σ19 (fun r22 σ21 => ((r22 = 0 → Q (-1 : Int32) σ21) ∧ (¬ r22 = 0 → Q (10 : Int32) σ21)))) ∧ (¬ r20 = 0 → Q (9 : Int32) σ19)))) ∧ (¬ r18 = 0 → Q (8 : Int32) σ17)))) ∧ (¬ r16 = 0 → Q (7 : Int32) σ15)))) ∧ (¬ r14 = 0 → Q (6 : Int32) σ13)))) ∧ (¬ r12 = 0 → Q (5 : Int32) σ11)))) ∧ (¬ r10 = 0 → Q (4 : Int32) σ9)))) ∧ (¬ r8 = 0 → Q (3 : Int32) σ7)))) ∧ (¬ r6 = 0 → Q (2 : Int32) σ5)))) ∧ (¬ r4 = 0 → Q (1 : Int32) σ3)))) ∧ (¬ r2 = 0 → Q (0 : Int32) σ1)))
theorem mt_qWordHere {κ : Cx} {S : Adr} {Z : State → Prop} {Q : Int32 → FS → Prop} (h : MCx κ cX6_qWordHere S 3) (hR : RetI κ S Z cX6_qWordHere Q) {σ : FS} (hw : mw_qWordHere σ Q) : MG κ S Z 0 σ [some (.ref (S.2.1 0))] [] := by
  unfold mw_qWordHere at hw
  refine g_aload_0 0 h.1 dX6_qWordHere_0 ?_
  refine g_aload_0 1 h.1 dX6_qWordHere_1 ?_
  refine mg_91 2 h dX6_qWordHere_2 ?_
  refine m_callI_1 5 h (mm_isHere h.2.2.1 hw) (by decide) q2125 (Nat.le_of_ble_eq_true rfl) dX6_qWordHere_5 (fun r2 σ1 hw => ?_)
  refine g_if_eq 8 13 h.1 dX6_qWordHere_8 (by decide) (fun c => ?_) (fun c => ?_)
  · have hw := hw.1 c
    refine g_aload_0 13 h.1 dX6_qWordHere_13 ?_
    refine g_aload_0 14 h.1 dX6_qWordHere_14 ?_
    refine mg_92 15 h dX6_qWordHere_15 ?_
    refine m_callI_1 18 h (mm_isHere h.2.2.1 hw) (by decide) q2125 (Nat.le_of_ble_eq_true rfl) dX6_qWordHere_18 (fun r4 σ3 hw => ?_)
    refine g_if_eq 21 26 h.1 dX6_qWordHere_21 (by decide) (fun c => ?_) (fun c => ?_)
    · have hw := hw.1 c
      refine g_aload_0 26 h.1 dX6_qWordHere_26 ?_
      refine g_aload_0 27 h.1 dX6_qWordHere_27 ?_
      refine mg_93 28 h dX6_qWordHere_28 ?_
      refine m_callI_1 31 h (mm_isHere h.2.2.1 hw) (by decide) q2125 (Nat.le_of_ble_eq_true rfl) dX6_qWordHere_31 (fun r6 σ5 hw => ?_)
      refine g_if_eq 34 39 h.1 dX6_qWordHere_34 (by decide) (fun c => ?_) (fun c => ?_)
      · have hw := hw.1 c
        refine g_aload_0 39 h.1 dX6_qWordHere_39 ?_
        refine g_aload_0 40 h.1 dX6_qWordHere_40 ?_
        refine mg_94 41 h dX6_qWordHere_41 ?_
        refine m_callI_1 44 h (mm_isHere h.2.2.1 hw) (by decide) q2125 (Nat.le_of_ble_eq_true rfl) dX6_qWordHere_44 (fun r8 σ7 hw => ?_)
        refine g_if_eq 47 52 h.1 dX6_qWordHere_47 (by decide) (fun c => ?_) (fun c => ?_)
        · have hw := hw.1 c
          refine g_aload_0 52 h.1 dX6_qWordHere_52 ?_
          refine g_aload_0 53 h.1 dX6_qWordHere_53 ?_
          refine mg_95 54 h dX6_qWordHere_54 ?_
          refine m_callI_1 57 h (mm_isHere h.2.2.1 hw) (by decide) q2125 (Nat.le_of_ble_eq_true rfl) dX6_qWordHere_57 (fun r10 σ9 hw => ?_)
          refine g_if_eq 60 65 h.1 dX6_qWordHere_60 (by decide) (fun c => ?_) (fun c => ?_)
          · have hw := hw.1 c
            refine g_aload_0 65 h.1 dX6_qWordHere_65 ?_
            refine g_aload_0 66 h.1 dX6_qWordHere_66 ?_
            refine mg_96 67 h dX6_qWordHere_67 ?_
            refine m_callI_1 70 h (mm_isHere h.2.2.1 hw) (by decide) q2125 (Nat.le_of_ble_eq_true rfl) dX6_qWordHere_70 (fun r12 σ11 hw => ?_)
            refine g_if_eq 73 78 h.1 dX6_qWordHere_73 (by decide) (fun c => ?_) (fun c => ?_)
            · have hw := hw.1 c
              refine g_aload_0 78 h.1 dX6_qWordHere_78 ?_
              refine g_aload_0 79 h.1 dX6_qWordHere_79 ?_
              refine mg_97 80 h dX6_qWordHere_80 ?_
              refine m_callI_1 83 h (mm_isHere h.2.2.1 hw) (by decide) q2125 (Nat.le_of_ble_eq_true rfl) dX6_qWordHere_83 (fun r14 σ13 hw => ?_)
              refine g_if_eq 86 92 h.1 dX6_qWordHere_86 (by decide) (fun c => ?_) (fun c => ?_)
              · have hw := hw.1 c
                refine g_aload_0 92 h.1 dX6_qWordHere_92 ?_
                refine g_aload_0 93 h.1 dX6_qWordHere_93 ?_
                refine mg_98 94 h dX6_qWordHere_94 ?_
                refine m_callI_1 97 h (mm_isHere h.2.2.1 hw) (by decide) q2125 (Nat.le_of_ble_eq_true rfl) dX6_qWordHere_97 (fun r16 σ15 hw => ?_)
                refine g_if_eq 100 106 h.1 dX6_qWordHere_100 (by decide) (fun c => ?_) (fun c => ?_)
                · have hw := hw.1 c
                  refine g_aload_0 106 h.1 dX6_qWordHere_106 ?_
                  refine g_aload_0 107 h.1 dX6_qWordHere_107 ?_
                  refine mg_99 108 h dX6_qWordHere_108 ?_
                  refine m_callI_1 111 h (mm_isHere h.2.2.1 hw) (by decide) q2125 (Nat.le_of_ble_eq_true rfl) dX6_qWordHere_111 (fun r18 σ17 hw => ?_)
                  refine g_if_eq 114 120 h.1 dX6_qWordHere_114 (by decide) (fun c => ?_) (fun c => ?_)
                  · have hw := hw.1 c
                    refine g_aload_0 120 h.1 dX6_qWordHere_120 ?_
                    refine g_aload_0 121 h.1 dX6_qWordHere_121 ?_
                    refine mg_100 122 h dX6_qWordHere_122 ?_
                    refine m_callI_1 125 h (mm_isHere h.2.2.1 hw) (by decide) q2125 (Nat.le_of_ble_eq_true rfl) dX6_qWordHere_125 (fun r20 σ19 hw => ?_)
                    refine g_if_eq 128 134 h.1 dX6_qWordHere_128 (by decide) (fun c => ?_) (fun c => ?_)
                    · have hw := hw.1 c
                      refine g_aload_0 134 h.1 dX6_qWordHere_134 ?_
                      refine g_aload_0 135 h.1 dX6_qWordHere_135 ?_
                      refine mg_101 136 h dX6_qWordHere_136 ?_
                      refine m_callI_1 139 h (mm_isHere h.2.2.1 hw) (by decide) q2125 (Nat.le_of_ble_eq_true rfl) dX6_qWordHere_139 (fun r22 σ21 hw => ?_)
                      refine g_if_eq 142 148 h.1 dX6_qWordHere_142 (by decide) (fun c => ?_) (fun c => ?_)
                      · have hw := hw.1 c
                        refine g_iconstv 148 _ ic_m1 h.1 dX6_qWordHere_148 ?_
                        exact hR 149 _ _ _ dX6_qWordHere_149 hw
                      · have hw := hw.2 c
                        refine g_bipush 145 _ bp_10 h.1 dX6_qWordHere_145 ?_
                        exact hR 147 _ _ _ dX6_qWordHere_147 hw
                    · have hw := hw.2 c
                      refine g_bipush 131 _ bp_9 h.1 dX6_qWordHere_131 ?_
                      exact hR 133 _ _ _ dX6_qWordHere_133 hw
                  · have hw := hw.2 c
                    refine g_bipush 117 _ bp_8 h.1 dX6_qWordHere_117 ?_
                    exact hR 119 _ _ _ dX6_qWordHere_119 hw
                · have hw := hw.2 c
                  refine g_bipush 103 _ bp_7 h.1 dX6_qWordHere_103 ?_
                  exact hR 105 _ _ _ dX6_qWordHere_105 hw
              · have hw := hw.2 c
                refine g_bipush 89 _ bp_6 h.1 dX6_qWordHere_89 ?_
                exact hR 91 _ _ _ dX6_qWordHere_91 hw
            · have hw := hw.2 c
              refine g_iconstv 76 _ ic_5 h.1 dX6_qWordHere_76 ?_
              exact hR 77 _ _ _ dX6_qWordHere_77 hw
          · have hw := hw.2 c
            refine g_iconstv 63 _ ic_4 h.1 dX6_qWordHere_63 ?_
            exact hR 64 _ _ _ dX6_qWordHere_64 hw
        · have hw := hw.2 c
          refine g_iconstv 50 _ ic_3 h.1 dX6_qWordHere_50 ?_
          exact hR 51 _ _ _ dX6_qWordHere_51 hw
      · have hw := hw.2 c
        refine g_iconstv 37 _ ic_2 h.1 dX6_qWordHere_37 ?_
        exact hR 38 _ _ _ dX6_qWordHere_38 hw
    · have hw := hw.2 c
      refine g_iconstv 24 _ ic_1 h.1 dX6_qWordHere_24 ?_
      exact hR 25 _ _ _ dX6_qWordHere_25 hw
  · have hw := hw.2 c
    refine g_iconstv 11 _ ic_0 h.1 dX6_qWordHere_11 ?_
    exact hR 12 _ _ _ dX6_qWordHere_12 hw
theorem mm_qWordHere {l : Launch} {S : Adr} (hD : MD S) {σ : FS} {Q : Int32 → FS → Prop} (hw : mw_qWordHere σ Q) : mMet l S 3 yX6_qWordHere [] σ (mQi S Q) :=
  m_metI hD ⟨rfl, by decide, by show _ = some 0; decide +kernel, q2243⟩ q2242 qs96 (Nat.le_of_ble_eq_true rfl) (fun κ Z h hR => mt_qWordHere h hR hw)
def mw_qWordOf (x1 : Int32) (x2 : Int32) (σ : FS) (Q : Int32 → FS → Prop) : Prop :=
  mw_qWordHere σ (fun r2 σ1 => ((r2 < x1 → Q (-1 : Int32) σ1) ∧ (¬ r2 < x1 → ((x2 ≤ r2 → Q (-1 : Int32) σ1) ∧ (¬ x2 ≤ r2 → mw_isAllowed r2 σ1 (fun r4 σ3 => ((r4 = 0 → Q (-1 : Int32) σ3) ∧ (¬ r4 = 0 → Q r2 σ3))))))))
theorem mt_qWordOf {κ : Cx} {S : Adr} {Z : State → Prop} {Q : Int32 → FS → Prop} (h : MCx κ cX6_qWordOf S 4) (hR : RetI κ S Z cX6_qWordOf Q) {x1 : Int32} {x2 : Int32} {σ : FS} (hw : mw_qWordOf x1 x2 σ Q) : MG κ S Z 0 σ [some (.ref (S.2.1 0)), some (.int x1), some (.int x2), none] [] := by
  unfold mw_qWordOf at hw
  refine g_aload_0 0 h.1 dX6_qWordOf_0 ?_
  refine m_callI_0 1 h (mm_qWordHere h.2.2.1 hw) (by decide) q2240 (Nat.le_of_ble_eq_true rfl) dX6_qWordOf_1 (fun r2 σ1 hw => ?_)
  refine g_istore_3 4 h.1 rfl dX6_qWordOf_4 ?_
  refine g_iload_3 5 h.1 dX6_qWordOf_5 ?_
  refine g_iload_1 6 h.1 dX6_qWordOf_6 ?_
  refine g_icmp_lt 7 27 h.1 dX6_qWordOf_7 (by decide) (fun c => ?_) (fun c => ?_)
  · have hw := hw.1 c
    refine g_iconstv 27 _ ic_m1 h.1 dX6_qWordOf_27 ?_
    exact hR 28 _ _ _ dX6_qWordOf_28 hw
  · have hw := hw.2 c
    refine g_iload_3 10 h.1 dX6_qWordOf_10 ?_
    refine g_iload_2 11 h.1 dX6_qWordOf_11 ?_
    refine g_icmp_ge 12 27 h.1 dX6_qWordOf_12 (by decide) (fun c => ?_) (fun c => ?_)
    · have hw := hw.1 c
      refine g_iconstv 27 _ ic_m1 h.1 dX6_qWordOf_27 ?_
      exact hR 28 _ _ _ dX6_qWordOf_28 hw
    · have hw := hw.2 c
      refine g_aload_0 15 h.1 dX6_qWordOf_15 ?_
      refine g_iload_3 16 h.1 dX6_qWordOf_16 ?_
      refine m_callI_1 17 h (mm_isAllowed h.2.2.1 hw) (by decide) q2244 (Nat.le_of_ble_eq_true rfl) dX6_qWordOf_17 (fun r4 σ3 hw => ?_)
      refine g_if_eq 20 27 h.1 dX6_qWordOf_20 (by decide) (fun c => ?_) (fun c => ?_)
      · have hw := hw.1 c
        refine g_iconstv 27 _ ic_m1 h.1 dX6_qWordOf_27 ?_
        exact hR 28 _ _ _ dX6_qWordOf_28 hw
      · have hw := hw.2 c
        refine g_iload_3 23 h.1 dX6_qWordOf_23 ?_
        refine g_goto 24 28 h.1 dX6_qWordOf_24 (by decide) ?_
        exact hR 28 _ _ _ dX6_qWordOf_28 hw
theorem mm_qWordOf {l : Launch} {S : Adr} (hD : MD S) {x1 : Int32} {x2 : Int32} {σ : FS} {Q : Int32 → FS → Prop} (hw : mw_qWordOf x1 x2 σ Q) : mMet l S 4 yX6_qWordOf [.int x1, .int x2] σ (mQi S Q) :=
  m_metI hD ⟨rfl, by decide, by show _ = some 2; decide +kernel, q2239⟩ q2238 qs95 (Nat.le_of_ble_eq_true rfl) (fun κ Z h hR => mt_qWordOf h hR hw)
def mw_qPartTold_183 (X2 : Int32 → FS → Prop) (x1 : Int32) (σ : FS) (Q : FS → Prop) : Prop :=
  X2 x1 σ
theorem mt_qPartTold_183 {κ : Cx} {S : Adr} {Z : State → Prop} {Q : FS → Prop} (h : MCx κ cX6_qPartTold S 6) (hR : RetV κ S Z cX6_qPartTold Q) {X2 : Int32 → FS → Prop} (hX2 : ∀ (x1 : Int32) (σ : FS), X2 x1 σ → MG κ S Z 2 σ [some (.ref (S.2.1 0)), some (.int x1), none, none, none, none] []) {x1 : Int32} {σ : FS} (hw : mw_qPartTold_183 X2 x1 σ Q) : MG κ S Z 183 σ [some (.ref (S.2.1 0)), some (.int x1), none, none, none, none] [] := by
  unfold mw_qPartTold_183 at hw
  refine g_goto 183 2 h.1 dX6_qPartTold_183 (by decide) ?_
  exact g_le (hX2 _ _ hw) ⟨rfl, rfl, trivial⟩
def mw_qPartTold_144 (X2 : Int32 → FS → Prop) (x1 : Int32) (σ : FS) (Q : FS → Prop) : Prop :=
  mw_asksSign (40 : Int32) σ (fun σ25 => mw_qPartTold_183 X2 x1 σ25 Q)
theorem mt_qPartTold_144 {κ : Cx} {S : Adr} {Z : State → Prop} {Q : FS → Prop} (h : MCx κ cX6_qPartTold S 6) (hR : RetV κ S Z cX6_qPartTold Q) {X2 : Int32 → FS → Prop} (hX2 : ∀ (x1 : Int32) (σ : FS), X2 x1 σ → MG κ S Z 2 σ [some (.ref (S.2.1 0)), some (.int x1), none, none, none, none] []) {x1 : Int32} {σ : FS} (hw : mw_qPartTold_144 X2 x1 σ Q) : MG κ S Z 144 σ [some (.ref (S.2.1 0)), some (.int x1), none, none, none, none] [] := by
  unfold mw_qPartTold_144 at hw
  refine g_aload_0 144 h.1 dX6_qPartTold_144 ?_
  refine g_bipush 145 _ bp_40 h.1 dX6_qPartTold_145 ?_
  refine m_callV_1 147 h (mm_asksSign h.2.2.1 hw) (by decide) q2150 (Nat.le_of_ble_eq_true rfl) dX6_qPartTold_147 (fun σ25 hw => ?_)
  refine g_goto 150 183 h.1 dX6_qPartTold_150 (by decide) ?_
  exact g_le (mt_qPartTold_183 h hR hX2 hw) ⟨rfl, rfl, trivial⟩
def mw_qPartTold_139 (X2 : Int32 → FS → Prop) (x1 : Int32) (x5 : Int32) (y0 : Int32) (σ : FS) (Q : FS → Prop) : Prop :=
  mw_qOpens y0 x5 σ (fun σ26 => mw_qPartTold_144 X2 x1 σ26 Q)
theorem mt_qPartTold_139 {κ : Cx} {S : Adr} {Z : State → Prop} {Q : FS → Prop} (h : MCx κ cX6_qPartTold S 6) (hR : RetV κ S Z cX6_qPartTold Q) {X2 : Int32 → FS → Prop} (hX2 : ∀ (x1 : Int32) (σ : FS), X2 x1 σ → MG κ S Z 2 σ [some (.ref (S.2.1 0)), some (.int x1), none, none, none, none] []) {x1 : Int32} {x5 : Int32} {y0 : Int32} {σ : FS} (hw : mw_qPartTold_139 X2 x1 x5 y0 σ Q) : MG κ S Z 139 σ [some (.ref (S.2.1 0)), some (.int x1), none, none, none, some (.int x5)] [.int y0, .ref (S.2.1 0)] := by
  unfold mw_qPartTold_139 at hw
  refine g_iload_5 139 h.1 dX6_qPartTold_139 ?_
  refine m_callV_2 141 h (mm_qOpens h.2.2.1 hw) (by decide) q2216 (Nat.le_of_ble_eq_true rfl) dX6_qPartTold_141 (fun σ26 hw => ?_)
  exact g_le (mt_qPartTold_144 h hR hX2 hw) ⟨rfl, rfl, trivial⟩
def mw_qPartTold_118 (X2 : Int32 → FS → Prop) (x1 : Int32) (x4 : Int32) (y0 : Int32) (σ : FS) (Q : FS → Prop) : Prop :=
  ((y0 = (-1 : Int32) → mw_qPartTold_144 X2 x1 σ Q) ∧ (¬ y0 = (-1 : Int32) → ((x4 = 0 → mw_qPartTold_139 X2 x1 y0 (22 : Int32) σ Q) ∧ (¬ x4 = 0 → mw_qPartTold_139 X2 x1 y0 (21 : Int32) σ Q))))
theorem mt_qPartTold_118 {κ : Cx} {S : Adr} {Z : State → Prop} {Q : FS → Prop} (h : MCx κ cX6_qPartTold S 6) (hR : RetV κ S Z cX6_qPartTold Q) {X2 : Int32 → FS → Prop} (hX2 : ∀ (x1 : Int32) (σ : FS), X2 x1 σ → MG κ S Z 2 σ [some (.ref (S.2.1 0)), some (.int x1), none, none, none, none] []) {x1 : Int32} {x4 : Int32} {y0 : Int32} {σ : FS} (hw : mw_qPartTold_118 X2 x1 x4 y0 σ Q) : MG κ S Z 118 σ [some (.ref (S.2.1 0)), some (.int x1), none, none, some (.int x4), none] [.int y0] := by
  unfold mw_qPartTold_118 at hw
  refine g_istore_5 118 h.1 rfl dX6_qPartTold_118 ?_
  refine g_iload_5 120 h.1 dX6_qPartTold_120 ?_
  refine g_iconstv 122 _ ic_m1 h.1 dX6_qPartTold_122 ?_
  refine g_icmp_eq 123 144 h.1 dX6_qPartTold_123 (by decide) (fun c => ?_) (fun c => ?_)
  · have hw := hw.1 c
    exact g_le (mt_qPartTold_144 h hR hX2 hw) ⟨rfl, rfl, trivial⟩
  · have hw := hw.2 c
    refine g_aload_0 126 h.1 dX6_qPartTold_126 ?_
    refine g_iload_4 127 h.1 dX6_qPartTold_127 ?_
    refine g_if_eq 129 137 h.1 dX6_qPartTold_129 (by decide) (fun c => ?_) (fun c => ?_)
    · have hw := hw.1 c
      refine g_bipush 137 _ bp_22 h.1 dX6_qPartTold_137 ?_
      exact g_le (mt_qPartTold_139 h hR hX2 hw) ⟨rfl, rfl, rfl, trivial⟩
    · have hw := hw.2 c
      refine g_bipush 132 _ bp_21 h.1 dX6_qPartTold_132 ?_
      refine g_goto 134 139 h.1 dX6_qPartTold_134 (by decide) ?_
      exact g_le (mt_qPartTold_139 h hR hX2 hw) ⟨rfl, rfl, rfl, trivial⟩
def mw_qPartTold_101 (X2 : Int32 → FS → Prop) (x1 : Int32) (x4 : Int32) (σ : FS) (Q : FS → Prop) : Prop :=
  mw_look σ (fun r22 σ21 => ((¬ r22 = (40 : Int32) → mw_qPartTold_118 X2 x1 x4 (-1 : Int32) σ21 Q) ∧ (r22 = (40 : Int32) → mw_qPartTold_118 X2 x1 x4 (fI σ21 0 2) σ21 Q)))
theorem mt_qPartTold_101 {κ : Cx} {S : Adr} {Z : State → Prop} {Q : FS → Prop} (h : MCx κ cX6_qPartTold S 6) (hR : RetV κ S Z cX6_qPartTold Q) {X2 : Int32 → FS → Prop} (hX2 : ∀ (x1 : Int32) (σ : FS), X2 x1 σ → MG κ S Z 2 σ [some (.ref (S.2.1 0)), some (.int x1), none, none, none, none] []) {x1 : Int32} {x4 : Int32} {σ : FS} (hw : mw_qPartTold_101 X2 x1 x4 σ Q) : MG κ S Z 101 σ [some (.ref (S.2.1 0)), some (.int x1), none, none, some (.int x4), none] [] := by
  unfold mw_qPartTold_101 at hw
  refine g_aload_0 101 h.1 dX6_qPartTold_101 ?_
  refine m_callI_0 102 h (mm_look h.2.2.1 hw) (by decide) q2129 (Nat.le_of_ble_eq_true rfl) dX6_qPartTold_102 (fun r22 σ21 hw => ?_)
  refine g_bipush 105 _ bp_40 h.1 dX6_qPartTold_105 ?_
  refine g_icmp_ne 107 117 h.1 dX6_qPartTold_107 (by decide) (fun c => ?_) (fun c => ?_)
  · have hw := hw.1 c
    refine g_iconstv 117 _ ic_m1 h.1 dX6_qPartTold_117 ?_
    exact g_le (mt_qPartTold_118 h hR hX2 hw) ⟨rfl, rfl, rfl, trivial⟩
  · have hw := hw.2 c
    refine g_aload_0 110 h.1 dX6_qPartTold_110 ?_
    refine mg_2 111 h dX6_qPartTold_111 ?_
    refine g_goto 114 118 h.1 dX6_qPartTold_114 (by decide) ?_
    exact g_le (mt_qPartTold_118 h hR hX2 hw) ⟨rfl, rfl, rfl, trivial⟩
def mw_qPartTold_78 (X2 : Int32 → FS → Prop) (x1 : Int32) (σ : FS) (Q : FS → Prop) : Prop :=
  mw_takes 89 σ (fun r17 σ16 => ((¬ r17 = 0 → mw_qPartTold_101 X2 x1 r17 σ16 Q) ∧ (r17 = 0 → mw_needs 90 σ16 (fun σ18 => mw_qPartTold_101 X2 x1 r17 σ18 Q))))
theorem mt_qPartTold_78 {κ : Cx} {S : Adr} {Z : State → Prop} {Q : FS → Prop} (h : MCx κ cX6_qPartTold S 6) (hR : RetV κ S Z cX6_qPartTold Q) {X2 : Int32 → FS → Prop} (hX2 : ∀ (x1 : Int32) (σ : FS), X2 x1 σ → MG κ S Z 2 σ [some (.ref (S.2.1 0)), some (.int x1), none, none, none, none] []) {x1 : Int32} {σ : FS} (hw : mw_qPartTold_78 X2 x1 σ Q) : MG κ S Z 78 σ [some (.ref (S.2.1 0)), some (.int x1), none, none, none, none] [] := by
  unfold mw_qPartTold_78 at hw
  refine g_aload_0 78 h.1 dX6_qPartTold_78 ?_
  refine g_aload_0 79 h.1 dX6_qPartTold_79 ?_
  refine mg_89 80 h dX6_qPartTold_80 ?_
  refine m_callI_1 83 h (mm_takes h.2.2.1 hw) (by decide) q2121 (Nat.le_of_ble_eq_true rfl) dX6_qPartTold_83 (fun r17 σ16 hw => ?_)
  refine g_istore_4 86 h.1 rfl dX6_qPartTold_86 ?_
  refine g_iload_4 88 h.1 dX6_qPartTold_88 ?_
  refine g_if_ne 90 101 h.1 dX6_qPartTold_90 (by decide) (fun c => ?_) (fun c => ?_)
  · have hw := hw.1 c
    exact g_le (mt_qPartTold_101 h hR hX2 hw) ⟨rfl, rfl, rfl, trivial⟩
  · have hw := hw.2 c
    refine g_aload_0 93 h.1 dX6_qPartTold_93 ?_
    refine g_aload_0 94 h.1 dX6_qPartTold_94 ?_
    refine mg_90 95 h dX6_qPartTold_95 ?_
    refine m_callV_1 98 h (mm_needs h.2.2.1 hw) (by decide) q2117 (Nat.le_of_ble_eq_true rfl) dX6_qPartTold_98 (fun σ18 hw => ?_)
    exact g_le (mt_qPartTold_101 h hR hX2 hw) ⟨rfl, rfl, rfl, trivial⟩
def mw_qPartTold_237 (y0 : Int32) (σ : FS) (Q : FS → Prop) : Prop :=
  mw_qCode y0 σ (fun σ23 => mw_qEndsPart σ23 (fun σ24 => Q σ24))
theorem mt_qPartTold_237 {κ : Cx} {S : Adr} {Z : State → Prop} {Q : FS → Prop} (h : MCx κ cX6_qPartTold S 6) (hR : RetV κ S Z cX6_qPartTold Q) {y0 : Int32} {σ : FS} (hw : mw_qPartTold_237 y0 σ Q) : MG κ S Z 237 σ [some (.ref (S.2.1 0)), none, none, none, none, none] [.int y0, .ref (S.2.1 0)] := by
  unfold mw_qPartTold_237 at hw
  refine m_callV_1 237 h (mm_qCode h.2.2.1 hw) (by decide) q2224 (Nat.le_of_ble_eq_true rfl) dX6_qPartTold_237 (fun σ23 hw => ?_)
  refine g_aload_0 240 h.1 dX6_qPartTold_240 ?_
  refine m_callV_0 241 h (mm_qEndsPart h.2.2.1 hw) (by decide) q2252 (Nat.le_of_ble_eq_true rfl) dX6_qPartTold_241 (fun σ24 hw => ?_)
  exact hR 244 _ _ dX6_qPartTold_244 hw
def mw_qPartTold_212 (x2 : Int32) (σ : FS) (Q : FS → Prop) : Prop :=
  ((x2 = (-1 : Int32) → mw_number (0 : Int32) (9999 : Int32) σ (fun r20 σ19 => mw_qPartTold_237 ((1000 : Int32) + r20) σ19 Q)) ∧ (¬ x2 = (-1 : Int32) → mw_qPartTold_237 ((40 : Int32) + x2) σ Q))
theorem mt_qPartTold_212 {κ : Cx} {S : Adr} {Z : State → Prop} {Q : FS → Prop} (h : MCx κ cX6_qPartTold S 6) (hR : RetV κ S Z cX6_qPartTold Q) {x2 : Int32} {σ : FS} (hw : mw_qPartTold_212 x2 σ Q) : MG κ S Z 212 σ [some (.ref (S.2.1 0)), none, some (.int x2), none, none, none] [] := by
  unfold mw_qPartTold_212 at hw
  refine g_aload_0 212 h.1 dX6_qPartTold_212 ?_
  refine g_iload_2 213 h.1 dX6_qPartTold_213 ?_
  refine g_iconstv 214 _ ic_m1 h.1 dX6_qPartTold_214 ?_
  refine g_icmp_eq 215 225 h.1 dX6_qPartTold_215 (by decide) (fun c => ?_) (fun c => ?_)
  · have hw := hw.1 c
    refine g_sipush 225 _ sp_1000 h.1 dX6_qPartTold_225 ?_
    refine g_aload_0 228 h.1 dX6_qPartTold_228 ?_
    refine g_iconstv 229 _ ic_0 h.1 dX6_qPartTold_229 ?_
    refine g_sipush 230 _ sp_9999 h.1 dX6_qPartTold_230 ?_
    refine m_callI_2 233 h (mm_number h.2.2.1 hw) (by decide) q2140 (Nat.le_of_ble_eq_true rfl) dX6_qPartTold_233 (fun r20 σ19 hw => ?_)
    refine g_iadd 236 h.1 dX6_qPartTold_236 ?_
    exact g_le (mt_qPartTold_237 h hR hw) ⟨rfl, trivial⟩
  · have hw := hw.2 c
    refine g_bipush 218 _ bp_40 h.1 dX6_qPartTold_218 ?_
    refine g_iload_2 220 h.1 dX6_qPartTold_220 ?_
    refine g_iadd 221 h.1 dX6_qPartTold_221 ?_
    refine g_goto 222 237 h.1 dX6_qPartTold_222 (by decide) ?_
    exact g_le (mt_qPartTold_237 h hR hw) ⟨rfl, trivial⟩
def mw_qPartTold_186 (σ : FS) (Q : FS → Prop) : Prop :=
  (((fI σ 0 5) = 0 → mw_qWordOf (0 : Int32) (9 : Int32) σ (fun r14 σ13 => ((r14 = (-1 : Int32) → mw_qPartTold_212 r14 σ13 Q) ∧ (¬ r14 = (-1 : Int32) → mw_qAsksWord r14 σ13 (fun σ15 => mw_qPartTold_212 r14 σ15 Q))))) ∧ (¬ (fI σ 0 5) = 0 → Q σ))
theorem mt_qPartTold_186 {κ : Cx} {S : Adr} {Z : State → Prop} {Q : FS → Prop} (h : MCx κ cX6_qPartTold S 6) (hR : RetV κ S Z cX6_qPartTold Q) {σ : FS} (hw : mw_qPartTold_186 σ Q) : MG κ S Z 186 σ [some (.ref (S.2.1 0)), none, none, none, none, none] [] := by
  unfold mw_qPartTold_186 at hw
  refine g_aload_0 186 h.1 dX6_qPartTold_186 ?_
  refine mg_5 187 h dX6_qPartTold_187 ?_
  refine g_if_eq 190 194 h.1 dX6_qPartTold_190 (by decide) (fun c => ?_) (fun c => ?_)
  · have hw := hw.1 c
    refine g_aload_0 194 h.1 dX6_qPartTold_194 ?_
    refine g_iconstv 195 _ ic_0 h.1 dX6_qPartTold_195 ?_
    refine g_bipush 196 _ bp_9 h.1 dX6_qPartTold_196 ?_
    refine m_callI_2 198 h (mm_qWordOf h.2.2.1 hw) (by decide) q2236 (Nat.le_of_ble_eq_true rfl) dX6_qPartTold_198 (fun r14 σ13 hw => ?_)
    refine g_istore_2 201 h.1 rfl dX6_qPartTold_201 ?_
    refine g_iload_2 202 h.1 dX6_qPartTold_202 ?_
    refine g_iconstv 203 _ ic_m1 h.1 dX6_qPartTold_203 ?_
    refine g_icmp_eq 204 212 h.1 dX6_qPartTold_204 (by decide) (fun c => ?_) (fun c => ?_)
    · have hw := hw.1 c
      exact g_le (mt_qPartTold_212 h hR hw) ⟨rfl, rfl, trivial⟩
    · have hw := hw.2 c
      refine g_aload_0 207 h.1 dX6_qPartTold_207 ?_
      refine g_iload_2 208 h.1 dX6_qPartTold_208 ?_
      refine m_callV_1 209 h (mm_qAsksWord h.2.2.1 hw) (by decide) q2248 (Nat.le_of_ble_eq_true rfl) dX6_qPartTold_209 (fun σ15 hw => ?_)
      exact g_le (mt_qPartTold_212 h hR hw) ⟨rfl, rfl, trivial⟩
  · have hw := hw.2 c
    exact hR 193 _ _ dX6_qPartTold_193 hw
def mw_qPartTold_2 (x1 : Int32) (σ : FS) (Q : FS → Prop) : Prop :=
  ∀ X2 : Int32 → FS → Prop, (∀ (x1 : Int32) (σ : FS), ((x1 = 0 → mw_qPartTold_186 σ Q) ∧ (¬ x1 = 0 → ((¬ (fI σ 0 5) = 0 → mw_qPartTold_186 σ Q) ∧ ((fI σ 0 5) = 0 → mw_look σ (fun r2 σ1 => mw_qWordOf (9 : Int32) (11 : Int32) σ1 (fun r4 σ3 => ((¬ r2 = (40 : Int32) → mw_isHere 89 σ3 (fun r6 σ5 => ((¬ r6 = 0 → mw_qPartTold_78 X2 x1 σ5 Q) ∧ (r6 = 0 → mw_isHere 90 σ5 (fun r8 σ7 => ((r8 = 0 → ((r4 = (-1 : Int32) → mw_qPartTold_183 X2 (0 : Int32) σ7 Q) ∧ (¬ r4 = (-1 : Int32) → mw_qOpens (((60 : Int32) + r4) - (9 : Int32)) (fI σ7 0 2) σ7 (fun σ9 => mw_qAsksWord r4 σ9 (fun σ10 => mw_qPartTold_183 X2 x1 σ10 Q))))) ∧ (¬ r8 = 0 → mw_qPartTold_78 X2 x1 σ7 Q))))))) ∧ (r2 = (40 : Int32) → mw_qOpens (20 : Int32) (fI σ3 0 2) σ3 (fun σ11 => (∀ σ12, σ12 = sI σ11 0 2 ((fI σ11 0 2) + (1 : Int32)) → mw_qPartTold_183 X2 x1 σ12 Q)))))))))) → X2 x1 σ) → X2 x1 σ
theorem mt_qPartTold_2 {κ : Cx} {S : Adr} {Z : State → Prop} {Q : FS → Prop} (h : MCx κ cX6_qPartTold S 6) (hR : RetV κ S Z cX6_qPartTold Q) {x1 : Int32} {σ : FS} (hw : mw_qPartTold_2 x1 σ Q) : MG κ S Z 2 σ [some (.ref (S.2.1 0)), some (.int x1), none, none, none, none] [] := by
  refine hw (fun x1 σ => MG κ S Z 2 σ [some (.ref (S.2.1 0)), some (.int x1), none, none, none, none] []) ?_
  clear hw
  intro x1 σ hw
  have hX2 : ∀ (x1 : Int32) (σ : FS), MG κ S Z 2 σ [some (.ref (S.2.1 0)), some (.int x1), none, none, none, none] [] → MG κ S Z 2 σ [some (.ref (S.2.1 0)), some (.int x1), none, none, none, none] [] := fun _ _ hh => hh
  refine g_iload_1 2 h.1 dX6_qPartTold_2 ?_
  refine g_if_eq 3 186 h.1 dX6_qPartTold_3 (by decide) (fun c => ?_) (fun c => ?_)
  · have hw := hw.1 c
    exact g_le (mt_qPartTold_186 h hR hw) ⟨rfl, trivial⟩
  · have hw := hw.2 c
    refine g_aload_0 6 h.1 dX6_qPartTold_6 ?_
    refine mg_5 7 h dX6_qPartTold_7 ?_
    refine g_if_ne 10 186 h.1 dX6_qPartTold_10 (by decide) (fun c => ?_) (fun c => ?_)
    · have hw := hw.1 c
      exact g_le (mt_qPartTold_186 h hR hw) ⟨rfl, trivial⟩
    · have hw := hw.2 c
      refine g_aload_0 13 h.1 dX6_qPartTold_13 ?_
      refine m_callI_0 14 h (mm_look h.2.2.1 hw) (by decide) q2129 (Nat.le_of_ble_eq_true rfl) dX6_qPartTold_14 (fun r2 σ1 hw => ?_)
      refine g_istore_2 17 h.1 rfl dX6_qPartTold_17 ?_
      refine g_aload_0 18 h.1 dX6_qPartTold_18 ?_
      refine g_bipush 19 _ bp_9 h.1 dX6_qPartTold_19 ?_
      refine g_bipush 21 _ bp_11 h.1 dX6_qPartTold_21 ?_
      refine m_callI_2 23 h (mm_qWordOf h.2.2.1 hw) (by decide) q2236 (Nat.le_of_ble_eq_true rfl) dX6_qPartTold_23 (fun r4 σ3 hw => ?_)
      refine g_istore_3 26 h.1 rfl dX6_qPartTold_26 ?_
      refine g_iload_2 27 h.1 dX6_qPartTold_27 ?_
      refine g_bipush 28 _ bp_40 h.1 dX6_qPartTold_28 ?_
      refine g_icmp_ne 30 56 h.1 dX6_qPartTold_30 (by decide) (fun c => ?_) (fun c => ?_)
      · have hw := hw.1 c
        refine g_aload_0 56 h.1 dX6_qPartTold_56 ?_
        refine g_aload_0 57 h.1 dX6_qPartTold_57 ?_
        refine mg_89 58 h dX6_qPartTold_58 ?_
        refine m_callI_1 61 h (mm_isHere h.2.2.1 hw) (by decide) q2125 (Nat.le_of_ble_eq_true rfl) dX6_qPartTold_61 (fun r6 σ5 hw => ?_)
        refine g_if_ne 64 78 h.1 dX6_qPartTold_64 (by decide) (fun c => ?_) (fun c => ?_)
        · have hw := hw.1 c
          exact g_le (mt_qPartTold_78 h hR hX2 hw) ⟨rfl, rfl, trivial⟩
        · have hw := hw.2 c
          refine g_aload_0 67 h.1 dX6_qPartTold_67 ?_
          refine g_aload_0 68 h.1 dX6_qPartTold_68 ?_
          refine mg_90 69 h dX6_qPartTold_69 ?_
          refine m_callI_1 72 h (mm_isHere h.2.2.1 hw) (by decide) q2125 (Nat.le_of_ble_eq_true rfl) dX6_qPartTold_72 (fun r8 σ7 hw => ?_)
          refine g_if_eq 75 153 h.1 dX6_qPartTold_75 (by decide) (fun c => ?_) (fun c => ?_)
          · have hw := hw.1 c
            refine g_iload_3 153 h.1 dX6_qPartTold_153 ?_
            refine g_iconstv 154 _ ic_m1 h.1 dX6_qPartTold_154 ?_
            refine g_icmp_eq 155 181 h.1 dX6_qPartTold_155 (by decide) (fun c => ?_) (fun c => ?_)
            · have hw := hw.1 c
              refine g_iconstv 181 _ ic_0 h.1 dX6_qPartTold_181 ?_
              refine g_istore_1 182 h.1 rfl dX6_qPartTold_182 ?_
              exact g_le (mt_qPartTold_183 h hR hX2 hw) ⟨rfl, rfl, trivial⟩
            · have hw := hw.2 c
              refine g_aload_0 158 h.1 dX6_qPartTold_158 ?_
              refine g_bipush 159 _ bp_60 h.1 dX6_qPartTold_159 ?_
              refine g_iload_3 161 h.1 dX6_qPartTold_161 ?_
              refine g_iadd 162 h.1 dX6_qPartTold_162 ?_
              refine g_bipush 163 _ bp_9 h.1 dX6_qPartTold_163 ?_
              refine g_isub 165 h.1 dX6_qPartTold_165 ?_
              refine g_aload_0 166 h.1 dX6_qPartTold_166 ?_
              refine mg_2 167 h dX6_qPartTold_167 ?_
              refine m_callV_2 170 h (mm_qOpens h.2.2.1 hw) (by decide) q2216 (Nat.le_of_ble_eq_true rfl) dX6_qPartTold_170 (fun σ9 hw => ?_)
              refine g_aload_0 173 h.1 dX6_qPartTold_173 ?_
              refine g_iload_3 174 h.1 dX6_qPartTold_174 ?_
              refine m_callV_1 175 h (mm_qAsksWord h.2.2.1 hw) (by decide) q2248 (Nat.le_of_ble_eq_true rfl) dX6_qPartTold_175 (fun σ10 hw => ?_)
              refine g_goto 178 183 h.1 dX6_qPartTold_178 (by decide) ?_
              exact g_le (mt_qPartTold_183 h hR hX2 hw) ⟨rfl, rfl, trivial⟩
          · have hw := hw.2 c
            exact g_le (mt_qPartTold_78 h hR hX2 hw) ⟨rfl, rfl, trivial⟩
      · have hw := hw.2 c
        refine g_aload_0 33 h.1 dX6_qPartTold_33 ?_
        refine g_bipush 34 _ bp_20 h.1 dX6_qPartTold_34 ?_
        refine g_aload_0 36 h.1 dX6_qPartTold_36 ?_
        refine mg_2 37 h dX6_qPartTold_37 ?_
        refine m_callV_2 40 h (mm_qOpens h.2.2.1 hw) (by decide) q2216 (Nat.le_of_ble_eq_true rfl) dX6_qPartTold_40 (fun σ11 hw => ?_)
        refine g_aload_0 43 h.1 dX6_qPartTold_43 ?_
        refine g_dup 44 rfl h.1 dX6_qPartTold_44 ?_
        refine mg_2 45 h dX6_qPartTold_45 ?_
        refine g_iconstv 48 _ ic_1 h.1 dX6_qPartTold_48 ?_
        refine g_iadd 49 h.1 dX6_qPartTold_49 ?_
        refine mp_2 50 h dX6_qPartTold_50 ?_
        have hw := hw _ rfl
        refine g_goto 53 183 h.1 dX6_qPartTold_53 (by decide) ?_
        exact g_le (mt_qPartTold_183 h hR hX2 hw) ⟨rfl, rfl, trivial⟩
def mw_qPartTold (σ : FS) (Q : FS → Prop) : Prop :=
  mw_qPartTold_2 (1 : Int32) σ Q
theorem mt_qPartTold {κ : Cx} {S : Adr} {Z : State → Prop} {Q : FS → Prop} (h : MCx κ cX6_qPartTold S 6) (hR : RetV κ S Z cX6_qPartTold Q) {σ : FS} (hw : mw_qPartTold σ Q) : MG κ S Z 0 σ [some (.ref (S.2.1 0)), none, none, none, none, none] [] := by
  unfold mw_qPartTold at hw
  refine g_iconstv 0 _ ic_1 h.1 dX6_qPartTold_0 ?_
  refine g_istore_1 1 h.1 rfl dX6_qPartTold_1 ?_
  exact g_le (mt_qPartTold_2 h hR hw) ⟨rfl, rfl, trivial⟩
theorem mm_qPartTold {l : Launch} {S : Adr} (hD : MD S) {σ : FS} {Q : FS → Prop} (hw : mw_qPartTold σ Q) : mMet l S 6 yX6_qPartTold [] σ (mQv S Q) :=
  m_metV hD ⟨rfl, by decide, by show _ = some 0; decide +kernel, q2235⟩ q2234 qs94 (Nat.le_of_ble_eq_true rfl) (fun κ Z h hR => mt_qPartTold h hR hw)
def mw_qSums_49 (X15 : Int32 → Int32 → FS → Prop) (x1 : Int32) (y0 : Int32) (σ : FS) (Q : FS → Prop) : Prop :=
  X15 x1 y0 σ
theorem mt_qSums_49 {κ : Cx} {S : Adr} {Z : State → Prop} {Q : FS → Prop} (h : MCx κ cX6_qSums S 7) (hR : RetV κ S Z cX6_qSums Q) {X15 : Int32 → Int32 → FS → Prop} (hX15 : ∀ (x1 : Int32) (x2 : Int32) (σ : FS), X15 x1 x2 σ → MG κ S Z 15 σ [some (.ref (S.2.1 0)), some (.int x1), some (.int x2)] []) {x1 : Int32} {y0 : Int32} {σ : FS} (hw : mw_qSums_49 X15 x1 y0 σ Q) : MG κ S Z 49 σ [some (.ref (S.2.1 0)), some (.int x1), none] [.int y0] := by
  unfold mw_qSums_49 at hw
  refine g_istore_2 49 h.1 rfl dX6_qSums_49 ?_
  refine g_goto 50 15 h.1 dX6_qSums_50 (by decide) ?_
  exact g_le (hX15 _ _ _ hw) ⟨rfl, rfl, rfl, trivial⟩
def mw_qSums_48 (X15 : Int32 → Int32 → FS → Prop) (x1 : Int32) (σ : FS) (Q : FS → Prop) : Prop :=
  mw_qSums_49 X15 x1 (0 : Int32) σ Q
theorem mt_qSums_48 {κ : Cx} {S : Adr} {Z : State → Prop} {Q : FS → Prop} (h : MCx κ cX6_qSums S 7) (hR : RetV κ S Z cX6_qSums Q) {X15 : Int32 → Int32 → FS → Prop} (hX15 : ∀ (x1 : Int32) (x2 : Int32) (σ : FS), X15 x1 x2 σ → MG κ S Z 15 σ [some (.ref (S.2.1 0)), some (.int x1), some (.int x2)] []) {x1 : Int32} {σ : FS} (hw : mw_qSums_48 X15 x1 σ Q) : MG κ S Z 48 σ [some (.ref (S.2.1 0)), some (.int x1), none] [] := by
  unfold mw_qSums_48 at hw
  refine g_iconstv 48 _ ic_0 h.1 dX6_qSums_48 ?_
  exact g_le (mt_qSums_49 h hR hX15 hw) ⟨rfl, rfl, trivial⟩
def mw_qSums_78 (x1 : Int32) (σ : FS) (Q : FS → Prop) : Prop :=
  (∀ σ6, σ6 = sI σ 0 107 x1 → Q σ6)
theorem mt_qSums_78 {κ : Cx} {S : Adr} {Z : State → Prop} {Q : FS → Prop} (h : MCx κ cX6_qSums S 7) (hR : RetV κ S Z cX6_qSums Q) {x1 : Int32} {σ : FS} (hw : mw_qSums_78 x1 σ Q) : MG κ S Z 78 σ [some (.ref (S.2.1 0)), some (.int x1), none] [] := by
  unfold mw_qSums_78 at hw
  refine g_aload_0 78 h.1 dX6_qSums_78 ?_
  refine g_iload_1 79 h.1 dX6_qSums_79 ?_
  refine mp_107 80 h dX6_qSums_80 ?_
  have hw := hw _ rfl
  exact hR 83 _ _ dX6_qSums_83 hw
def mw_qSums_53 (x1 : Int32) (σ : FS) (Q : FS → Prop) : Prop :=
  ∀ X53 : Int32 → FS → Prop, (∀ (x1 : Int32) (σ : FS), ((¬ (fI σ 0 5) = 0 → mw_qSums_78 x1 σ Q) ∧ ((fI σ 0 5) = 0 → (((fI σ 0 105) ≤ (fI σ 0 107) → mw_qSums_78 x1 σ Q) ∧ (¬ (fI σ 0 105) ≤ (fI σ 0 107) → mw_qDrops σ (fun σ5 => X53 x1 σ5))))) → X53 x1 σ) → X53 x1 σ
theorem mt_qSums_53 {κ : Cx} {S : Adr} {Z : State → Prop} {Q : FS → Prop} (h : MCx κ cX6_qSums S 7) (hR : RetV κ S Z cX6_qSums Q) {x1 : Int32} {σ : FS} (hw : mw_qSums_53 x1 σ Q) : MG κ S Z 53 σ [some (.ref (S.2.1 0)), some (.int x1), none] [] := by
  refine hw (fun x1 σ => MG κ S Z 53 σ [some (.ref (S.2.1 0)), some (.int x1), none] []) ?_
  clear hw
  intro x1 σ hw
  have hX53 : ∀ (x1 : Int32) (σ : FS), MG κ S Z 53 σ [some (.ref (S.2.1 0)), some (.int x1), none] [] → MG κ S Z 53 σ [some (.ref (S.2.1 0)), some (.int x1), none] [] := fun _ _ hh => hh
  refine g_aload_0 53 h.1 dX6_qSums_53 ?_
  refine mg_5 54 h dX6_qSums_54 ?_
  refine g_if_ne 57 78 h.1 dX6_qSums_57 (by decide) (fun c => ?_) (fun c => ?_)
  · have hw := hw.1 c
    exact g_le (mt_qSums_78 h hR hw) ⟨rfl, rfl, trivial⟩
  · have hw := hw.2 c
    refine g_aload_0 60 h.1 dX6_qSums_60 ?_
    refine mg_105 61 h dX6_qSums_61 ?_
    refine g_aload_0 64 h.1 dX6_qSums_64 ?_
    refine mg_107 65 h dX6_qSums_65 ?_
    refine g_icmp_le 68 78 h.1 dX6_qSums_68 (by decide) (fun c => ?_) (fun c => ?_)
    · have hw := hw.1 c
      exact g_le (mt_qSums_78 h hR hw) ⟨rfl, rfl, trivial⟩
    · have hw := hw.2 c
      refine g_aload_0 71 h.1 dX6_qSums_71 ?_
      refine m_callV_0 72 h (mm_qDrops h.2.2.1 hw) (by decide) q2256 (Nat.le_of_ble_eq_true rfl) dX6_qSums_72 (fun σ5 hw => ?_)
      refine g_goto 75 53 h.1 dX6_qSums_75 (by decide) ?_
      exact g_le (hX53 _ _ hw) ⟨rfl, rfl, trivial⟩
def mw_qSums_15 (x1 : Int32) (x2 : Int32) (σ : FS) (Q : FS → Prop) : Prop :=
  ∀ X15 : Int32 → Int32 → FS → Prop, (∀ (x1 : Int32) (x2 : Int32) (σ : FS), ((x2 = 0 → mw_qSums_53 x1 σ Q) ∧ (¬ x2 = 0 → ((¬ (fI σ 0 5) = 0 → mw_qSums_53 x1 σ Q) ∧ ((fI σ 0 5) = 0 → mw_qPartTold σ (fun σ2 => ((¬ (fI σ2 0 5) = 0 → mw_qSums_48 X15 x1 σ2 Q) ∧ ((fI σ2 0 5) = 0 → mw_qGoesOn σ2 (fun r4 σ3 => ((r4 = 0 → mw_qSums_48 X15 x1 σ3 Q) ∧ (¬ r4 = 0 → mw_qSums_49 X15 x1 (1 : Int32) σ3 Q)))))))))) → X15 x1 x2 σ) → X15 x1 x2 σ
theorem mt_qSums_15 {κ : Cx} {S : Adr} {Z : State → Prop} {Q : FS → Prop} (h : MCx κ cX6_qSums S 7) (hR : RetV κ S Z cX6_qSums Q) {x1 : Int32} {x2 : Int32} {σ : FS} (hw : mw_qSums_15 x1 x2 σ Q) : MG κ S Z 15 σ [some (.ref (S.2.1 0)), some (.int x1), some (.int x2)] [] := by
  refine hw (fun x1 x2 σ => MG κ S Z 15 σ [some (.ref (S.2.1 0)), some (.int x1), some (.int x2)] []) ?_
  clear hw
  intro x1 x2 σ hw
  have hX15 : ∀ (x1 : Int32) (x2 : Int32) (σ : FS), MG κ S Z 15 σ [some (.ref (S.2.1 0)), some (.int x1), some (.int x2)] [] → MG κ S Z 15 σ [some (.ref (S.2.1 0)), some (.int x1), some (.int x2)] [] := fun _ _ _ hh => hh
  refine g_iload_2 15 h.1 dX6_qSums_15 ?_
  refine g_if_eq 16 53 h.1 dX6_qSums_16 (by decide) (fun c => ?_) (fun c => ?_)
  · have hw := hw.1 c
    exact g_le (mt_qSums_53 h hR hw) ⟨rfl, rfl, trivial⟩
  · have hw := hw.2 c
    refine g_aload_0 19 h.1 dX6_qSums_19 ?_
    refine mg_5 20 h dX6_qSums_20 ?_
    refine g_if_ne 23 53 h.1 dX6_qSums_23 (by decide) (fun c => ?_) (fun c => ?_)
    · have hw := hw.1 c
      exact g_le (mt_qSums_53 h hR hw) ⟨rfl, rfl, trivial⟩
    · have hw := hw.2 c
      refine g_aload_0 26 h.1 dX6_qSums_26 ?_
      refine m_callV_0 27 h (mm_qPartTold h.2.2.1 hw) (by decide) q2232 (Nat.le_of_ble_eq_true rfl) dX6_qSums_27 (fun σ2 hw => ?_)
      refine g_aload_0 30 h.1 dX6_qSums_30 ?_
      refine mg_5 31 h dX6_qSums_31 ?_
      refine g_if_ne 34 48 h.1 dX6_qSums_34 (by decide) (fun c => ?_) (fun c => ?_)
      · have hw := hw.1 c
        exact g_le (mt_qSums_48 h hR hX15 hw) ⟨rfl, rfl, trivial⟩
      · have hw := hw.2 c
        refine g_aload_0 37 h.1 dX6_qSums_37 ?_
        refine m_callI_0 38 h (mm_qGoesOn h.2.2.1 hw) (by decide) q2260 (Nat.le_of_ble_eq_true rfl) dX6_qSums_38 (fun r4 σ3 hw => ?_)
        refine g_if_eq 41 48 h.1 dX6_qSums_41 (by decide) (fun c => ?_) (fun c => ?_)
        · have hw := hw.1 c
          exact g_le (mt_qSums_48 h hR hX15 hw) ⟨rfl, rfl, trivial⟩
        · have hw := hw.2 c
          refine g_iconstv 44 _ ic_1 h.1 dX6_qSums_44 ?_
          refine g_goto 45 49 h.1 dX6_qSums_45 (by decide) ?_
          exact g_le (mt_qSums_49 h hR hX15 hw) ⟨rfl, rfl, trivial⟩
def mw_qSums (σ : FS) (Q : FS → Prop) : Prop :=
  (∀ σ1, σ1 = sI σ 0 107 (fI σ 0 105) → mw_qSums_15 (fI σ 0 107) (1 : Int32) σ1 Q)
theorem mt_qSums {κ : Cx} {S : Adr} {Z : State → Prop} {Q : FS → Prop} (h : MCx κ cX6_qSums S 7) (hR : RetV κ S Z cX6_qSums Q) {σ : FS} (hw : mw_qSums σ Q) : MG κ S Z 0 σ [some (.ref (S.2.1 0)), none, none] [] := by
  unfold mw_qSums at hw
  refine g_aload_0 0 h.1 dX6_qSums_0 ?_
  refine mg_107 1 h dX6_qSums_1 ?_
  refine g_istore_1 4 h.1 rfl dX6_qSums_4 ?_
  refine g_aload_0 5 h.1 dX6_qSums_5 ?_
  refine g_aload_0 6 h.1 dX6_qSums_6 ?_
  refine mg_105 7 h dX6_qSums_7 ?_
  refine mp_107 10 h dX6_qSums_10 ?_
  have hw := hw _ rfl
  refine g_iconstv 13 _ ic_1 h.1 dX6_qSums_13 ?_
  refine g_istore_2 14 h.1 rfl dX6_qSums_14 ?_
  exact g_le (mt_qSums_15 h hR hw) ⟨rfl, rfl, rfl, trivial⟩
theorem mm_qSums {l : Launch} {S : Adr} (hD : MD S) {σ : FS} {Q : FS → Prop} (hw : mw_qSums σ Q) : mMet l S 7 yX6_qSums [] σ (mQv S Q) :=
  m_metV hD ⟨rfl, by decide, by show _ = some 0; decide +kernel, q2231⟩ q2230 qs93 (Nat.le_of_ble_eq_true rfl) (fun κ Z h hR => mt_qSums h hR hw)
def mw_qTakes_133 (σ : FS) (Q : FS → Prop) : Prop :=
  (∀ σ4, σ4 = sI σ 0 111 (0 : Int32) → Q σ4)
theorem mt_qTakes_133 {κ : Cx} {S : Adr} {Z : State → Prop} {Q : FS → Prop} (h : MCx κ cX6_qTakes S 1) (hR : RetV κ S Z cX6_qTakes Q) {σ : FS} (hw : mw_qTakes_133 σ Q) : MG κ S Z 133 σ [some (.ref (S.2.1 0)), none, none, none, none, none] [] := by
  unfold mw_qTakes_133 at hw
  refine g_aload_0 133 h.1 dX6_qTakes_133 ?_
  refine g_iconstv 134 _ ic_0 h.1 dX6_qTakes_134 ?_
  refine mp_111 135 rfl rfl h dX6_qTakes_135 ?_
  have hw := hw _ rfl
  exact hR 138 _ _ dX6_qTakes_138 hw
def mw_qTakes_128 (x2 : Int64) (σ : FS) (Q : FS → Prop) : Prop :=
  (∀ σ5, σ5 = sL σ 0 110 x2 → mw_qTakes_133 σ5 Q)
theorem mt_qTakes_128 {κ : Cx} {S : Adr} {Z : State → Prop} {Q : FS → Prop} (h : MCx κ cX6_qTakes S 1) (hR : RetV κ S Z cX6_qTakes Q) {x2 : Int64} {σ : FS} (hw : mw_qTakes_128 x2 σ Q) : MG κ S Z 128 σ [some (.ref (S.2.1 0)), none, some (.long x2), none, none, none] [] := by
  unfold mw_qTakes_128 at hw
  refine g_aload_0 128 h.1 dX6_qTakes_128 ?_
  refine g_lload_2 129 h.1 dX6_qTakes_129 ?_
  refine mp_110 130 h dX6_qTakes_130 ?_
  have hw := hw _ rfl
  exact g_le (mt_qTakes_133 h hR hw) ⟨rfl, trivial⟩
def mw_qTakes_90 (x1 : Int32) (x2 : Int64) (σ : FS) (Q : FS → Prop) : Prop :=
  ((x1 ≤ (3 : Int32) → mw_qTakes_133 σ Q) ∧ (¬ x1 ≤ (3 : Int32) → ((¬ (fI σ 0 111) = 0 → mw_qTakes_128 x2 σ Q) ∧ ((fI σ 0 111) = 0 → ((¬ x1 = (4 : Int32) → ((0 ≤ (lg_cmp x2 (fL σ 0 110)) → mw_qTakes_133 σ Q) ∧ (¬ 0 ≤ (lg_cmp x2 (fL σ 0 110)) → mw_qTakes_128 x2 σ Q))) ∧ (x1 = (4 : Int32) → (((lg_cmp x2 (fL σ 0 110)) ≤ 0 → mw_qTakes_133 σ Q) ∧ (¬ (lg_cmp x2 (fL σ 0 110)) ≤ 0 → mw_qTakes_128 x2 σ Q))))))))
theorem mt_qTakes_90 {κ : Cx} {S : Adr} {Z : State → Prop} {Q : FS → Prop} (h : MCx κ cX6_qTakes S 1) (hR : RetV κ S Z cX6_qTakes Q) {x1 : Int32} {x2 : Int64} {σ : FS} (hw : mw_qTakes_90 x1 x2 σ Q) : MG κ S Z 90 σ [some (.ref (S.2.1 0)), some (.int x1), some (.long x2), none, none, none] [] := by
  unfold mw_qTakes_90 at hw
  refine g_iload_1 90 h.1 dX6_qTakes_90 ?_
  refine g_iconstv 91 _ ic_3 h.1 dX6_qTakes_91 ?_
  refine g_icmp_le 92 133 h.1 dX6_qTakes_92 (by decide) (fun c => ?_) (fun c => ?_)
  · have hw := hw.1 c
    exact g_le (mt_qTakes_133 h hR hw) ⟨rfl, trivial⟩
  · have hw := hw.2 c
    refine g_aload_0 95 h.1 dX6_qTakes_95 ?_
    refine mg_111 96 h dX6_qTakes_96 ?_
    refine g_if_ne 99 128 h.1 dX6_qTakes_99 (by decide) (fun c => ?_) (fun c => ?_)
    · have hw := hw.1 c
      exact g_le (mt_qTakes_128 h hR hw) ⟨rfl, rfl, trivial⟩
    · have hw := hw.2 c
      refine g_iload_1 102 h.1 dX6_qTakes_102 ?_
      refine g_iconstv 103 _ ic_4 h.1 dX6_qTakes_103 ?_
      refine g_icmp_ne 104 119 h.1 dX6_qTakes_104 (by decide) (fun c => ?_) (fun c => ?_)
      · have hw := hw.1 c
        refine g_lload_2 119 h.1 dX6_qTakes_119 ?_
        refine g_aload_0 120 h.1 dX6_qTakes_120 ?_
        refine mg_110 121 h dX6_qTakes_121 ?_
        refine g_lcmp 124 h.1 dX6_qTakes_124 ?_
        refine g_if_ge 125 133 h.1 dX6_qTakes_125 (by decide) (fun c => ?_) (fun c => ?_)
        · have hw := hw.1 c
          exact g_le (mt_qTakes_133 h hR hw) ⟨rfl, trivial⟩
        · have hw := hw.2 c
          exact g_le (mt_qTakes_128 h hR hw) ⟨rfl, rfl, trivial⟩
      · have hw := hw.2 c
        refine g_lload_2 107 h.1 dX6_qTakes_107 ?_
        refine g_aload_0 108 h.1 dX6_qTakes_108 ?_
        refine mg_110 109 h dX6_qTakes_109 ?_
        refine g_lcmp 112 h.1 dX6_qTakes_112 ?_
        refine g_if_le 113 133 h.1 dX6_qTakes_113 (by decide) (fun c => ?_) (fun c => ?_)
        · have hw := hw.1 c
          exact g_le (mt_qTakes_133 h hR hw) ⟨rfl, trivial⟩
        · have hw := hw.2 c
          refine g_goto 116 128 h.1 dX6_qTakes_116 (by decide) ?_
          exact g_le (mt_qTakes_128 h hR hw) ⟨rfl, rfl, trivial⟩
def mw_qTakes_75 (x1 : Int32) (x2 : Int64) (σ : FS) (Q : FS → Prop) : Prop :=
  ((¬ x1 = (3 : Int32) → mw_qTakes_90 x1 x2 σ Q) ∧ (x1 = (3 : Int32) → (∀ σ3, σ3 = sL σ 0 110 ((fL σ 0 110) + x2) → mw_qTakes_90 x1 x2 σ3 Q)))
theorem mt_qTakes_75 {κ : Cx} {S : Adr} {Z : State → Prop} {Q : FS → Prop} (h : MCx κ cX6_qTakes S 1) (hR : RetV κ S Z cX6_qTakes Q) {x1 : Int32} {x2 : Int64} {σ : FS} (hw : mw_qTakes_75 x1 x2 σ Q) : MG κ S Z 75 σ [some (.ref (S.2.1 0)), some (.int x1), some (.long x2), none, none, none] [] := by
  unfold mw_qTakes_75 at hw
  refine g_iload_1 75 h.1 dX6_qTakes_75 ?_
  refine g_iconstv 76 _ ic_3 h.1 dX6_qTakes_76 ?_
  refine g_icmp_ne 77 90 h.1 dX6_qTakes_77 (by decide) (fun c => ?_) (fun c => ?_)
  · have hw := hw.1 c
    exact g_le (mt_qTakes_90 h hR hw) ⟨rfl, rfl, rfl, trivial⟩
  · have hw := hw.2 c
    refine g_aload_0 80 h.1 dX6_qTakes_80 ?_
    refine g_dup 81 rfl h.1 dX6_qTakes_81 ?_
    refine mg_110 82 h dX6_qTakes_82 ?_
    refine g_lload_2 85 h.1 dX6_qTakes_85 ?_
    refine g_ladd 86 h.1 dX6_qTakes_86 ?_
    refine mp_110 87 h dX6_qTakes_87 ?_
    have hw := hw _ rfl
    exact g_le (mt_qTakes_90 h hR hw) ⟨rfl, rfl, rfl, trivial⟩
def mw_qTakes_55 (x1 : Int32) (x2 : Int64) (x5 : Int32) (σ : FS) (Q : FS → Prop) : Prop :=
  ((¬ x1 = (2 : Int32) → mw_qTakes_75 x1 x2 σ Q) ∧ (x1 = (2 : Int32) → ((x5 = 0 → mw_qTakes_75 x1 x2 σ Q) ∧ (¬ x5 = 0 → (∀ σ2, σ2 = sL σ 0 110 ((fL σ 0 110) + (1 : Int64)) → mw_qTakes_75 x1 x2 σ2 Q)))))
theorem mt_qTakes_55 {κ : Cx} {S : Adr} {Z : State → Prop} {Q : FS → Prop} (h : MCx κ cX6_qTakes S 1) (hR : RetV κ S Z cX6_qTakes Q) {x1 : Int32} {x2 : Int64} {x5 : Int32} {σ : FS} (hw : mw_qTakes_55 x1 x2 x5 σ Q) : MG κ S Z 55 σ [some (.ref (S.2.1 0)), some (.int x1), some (.long x2), none, none, some (.int x5)] [] := by
  unfold mw_qTakes_55 at hw
  refine g_iload_1 55 h.1 dX6_qTakes_55 ?_
  refine g_iconstv 56 _ ic_2 h.1 dX6_qTakes_56 ?_
  refine g_icmp_ne 57 75 h.1 dX6_qTakes_57 (by decide) (fun c => ?_) (fun c => ?_)
  · have hw := hw.1 c
    exact g_le (mt_qTakes_75 h hR hw) ⟨rfl, rfl, rfl, trivial⟩
  · have hw := hw.2 c
    refine g_iload_5 60 h.1 dX6_qTakes_60 ?_
    refine g_if_eq 62 75 h.1 dX6_qTakes_62 (by decide) (fun c => ?_) (fun c => ?_)
    · have hw := hw.1 c
      exact g_le (mt_qTakes_75 h hR hw) ⟨rfl, rfl, rfl, trivial⟩
    · have hw := hw.2 c
      refine g_aload_0 65 h.1 dX6_qTakes_65 ?_
      refine g_dup 66 rfl h.1 dX6_qTakes_66 ?_
      refine mg_110 67 h dX6_qTakes_67 ?_
      refine g_lconst 70 _ lc_1 h.1 dX6_qTakes_70 ?_
      refine g_ladd 71 h.1 dX6_qTakes_71 ?_
      refine mp_110 72 h dX6_qTakes_72 ?_
      have hw := hw _ rfl
      exact g_le (mt_qTakes_75 h hR hw) ⟨rfl, rfl, rfl, trivial⟩
def mw_qTakes_48 (x1 : Int32) (x2 : Int64) (x4 : Int32) (x5 : Int32) (σ : FS) (Q : FS → Prop) : Prop :=
  (∀ σ1, σ1 = sL σ 0 110 (Int32.toInt64 x4) → mw_qTakes_55 x1 x2 x5 σ1 Q)
theorem mt_qTakes_48 {κ : Cx} {S : Adr} {Z : State → Prop} {Q : FS → Prop} (h : MCx κ cX6_qTakes S 1) (hR : RetV κ S Z cX6_qTakes Q) {x1 : Int32} {x2 : Int64} {x4 : Int32} {x5 : Int32} {σ : FS} (hw : mw_qTakes_48 x1 x2 x4 x5 σ Q) : MG κ S Z 48 σ [some (.ref (S.2.1 0)), some (.int x1), some (.long x2), none, some (.int x4), some (.int x5)] [] := by
  unfold mw_qTakes_48 at hw
  refine g_aload_0 48 h.1 dX6_qTakes_48 ?_
  refine g_iload_4 49 h.1 dX6_qTakes_49 ?_
  refine g_i2l 51 h.1 dX6_qTakes_51 ?_
  refine mp_110 52 h dX6_qTakes_52 ?_
  have hw := hw _ rfl
  exact g_le (mt_qTakes_55 h hR hw) ⟨rfl, rfl, rfl, rfl, trivial⟩
def mw_qTakes_38 (x1 : Int32) (x2 : Int64) (x4 : Int32) (x5 : Int32) (σ : FS) (Q : FS → Prop) : Prop :=
  ((¬ x1 = (1 : Int32) → mw_qTakes_55 x1 x2 x5 σ Q) ∧ (x1 = (1 : Int32) → ((x5 = 0 → mw_qTakes_55 x1 x2 x5 σ Q) ∧ (¬ x5 = 0 → mw_qTakes_48 x1 x2 x4 x5 σ Q))))
theorem mt_qTakes_38 {κ : Cx} {S : Adr} {Z : State → Prop} {Q : FS → Prop} (h : MCx κ cX6_qTakes S 1) (hR : RetV κ S Z cX6_qTakes Q) {x1 : Int32} {x2 : Int64} {x4 : Int32} {x5 : Int32} {σ : FS} (hw : mw_qTakes_38 x1 x2 x4 x5 σ Q) : MG κ S Z 38 σ [some (.ref (S.2.1 0)), some (.int x1), some (.long x2), none, some (.int x4), some (.int x5)] [] := by
  unfold mw_qTakes_38 at hw
  refine g_iload_1 38 h.1 dX6_qTakes_38 ?_
  refine g_iconstv 39 _ ic_1 h.1 dX6_qTakes_39 ?_
  refine g_icmp_ne 40 55 h.1 dX6_qTakes_40 (by decide) (fun c => ?_) (fun c => ?_)
  · have hw := hw.1 c
    exact g_le (mt_qTakes_55 h hR hw) ⟨rfl, rfl, rfl, rfl, trivial⟩
  · have hw := hw.2 c
    refine g_iload_5 43 h.1 dX6_qTakes_43 ?_
    refine g_if_eq 45 55 h.1 dX6_qTakes_45 (by decide) (fun c => ?_) (fun c => ?_)
    · have hw := hw.1 c
      exact g_le (mt_qTakes_55 h hR hw) ⟨rfl, rfl, rfl, rfl, trivial⟩
    · have hw := hw.2 c
      exact g_le (mt_qTakes_48 h hR hw) ⟨rfl, rfl, rfl, rfl, rfl, trivial⟩
def mw_qTakes_16 (x1 : Int32) (x2 : Int64) (x4 : Int32) (y0 : Int32) (σ : FS) (Q : FS → Prop) : Prop :=
  ((¬ x1 = 0 → mw_qTakes_38 x1 x2 x4 y0 σ Q) ∧ (x1 = 0 → ((y0 = 0 → mw_qTakes_38 x1 x2 x4 y0 σ Q) ∧ (¬ y0 = 0 → (((lg_cmp (fL σ 0 110) (-1 : Int64)) = 0 → mw_qTakes_48 x1 x2 x4 y0 σ Q) ∧ (¬ (lg_cmp (fL σ 0 110) (-1 : Int64)) = 0 → mw_qTakes_38 x1 x2 x4 y0 σ Q))))))
theorem mt_qTakes_16 {κ : Cx} {S : Adr} {Z : State → Prop} {Q : FS → Prop} (h : MCx κ cX6_qTakes S 1) (hR : RetV κ S Z cX6_qTakes Q) {x1 : Int32} {x2 : Int64} {x4 : Int32} {y0 : Int32} {σ : FS} (hw : mw_qTakes_16 x1 x2 x4 y0 σ Q) : MG κ S Z 16 σ [some (.ref (S.2.1 0)), some (.int x1), some (.long x2), none, some (.int x4), none] [.int y0] := by
  unfold mw_qTakes_16 at hw
  refine g_istore_5 16 h.1 rfl dX6_qTakes_16 ?_
  refine g_iload_1 18 h.1 dX6_qTakes_18 ?_
  refine g_if_ne 19 38 h.1 dX6_qTakes_19 (by decide) (fun c => ?_) (fun c => ?_)
  · have hw := hw.1 c
    exact g_le (mt_qTakes_38 h hR hw) ⟨rfl, rfl, rfl, rfl, rfl, trivial⟩
  · have hw := hw.2 c
    refine g_iload_5 22 h.1 dX6_qTakes_22 ?_
    refine g_if_eq 24 38 h.1 dX6_qTakes_24 (by decide) (fun c => ?_) (fun c => ?_)
    · have hw := hw.1 c
      exact g_le (mt_qTakes_38 h hR hw) ⟨rfl, rfl, rfl, rfl, rfl, trivial⟩
    · have hw := hw.2 c
      refine g_aload_0 27 h.1 dX6_qTakes_27 ?_
      refine mg_110 28 h dX6_qTakes_28 ?_
      refine g_ldc2 31 h.1 q2650 dX6_qTakes_31 ?_
      refine g_lcmp 34 h.1 dX6_qTakes_34 ?_
      refine g_if_eq 35 48 h.1 dX6_qTakes_35 (by decide) (fun c => ?_) (fun c => ?_)
      · have hw := hw.1 c
        exact g_le (mt_qTakes_48 h hR hw) ⟨rfl, rfl, rfl, rfl, rfl, trivial⟩
      · have hw := hw.2 c
        exact g_le (mt_qTakes_38 h hR hw) ⟨rfl, rfl, rfl, rfl, rfl, trivial⟩
def mw_qTakes_15 (x1 : Int32) (x2 : Int64) (x4 : Int32) (σ : FS) (Q : FS → Prop) : Prop :=
  mw_qTakes_16 x1 x2 x4 (0 : Int32) σ Q
theorem mt_qTakes_15 {κ : Cx} {S : Adr} {Z : State → Prop} {Q : FS → Prop} (h : MCx κ cX6_qTakes S 1) (hR : RetV κ S Z cX6_qTakes Q) {x1 : Int32} {x2 : Int64} {x4 : Int32} {σ : FS} (hw : mw_qTakes_15 x1 x2 x4 σ Q) : MG κ S Z 15 σ [some (.ref (S.2.1 0)), some (.int x1), some (.long x2), none, some (.int x4), none] [] := by
  unfold mw_qTakes_15 at hw
  refine g_iconstv 15 _ ic_0 h.1 dX6_qTakes_15 ?_
  exact g_le (mt_qTakes_16 h hR hw) ⟨rfl, rfl, rfl, rfl, trivial⟩
def mw_qTakes (x1 : Int32) (x2 : Int64) (x4 : Int32) (σ : FS) (Q : FS → Prop) : Prop :=
  (((3 : Int32) ≤ x1 → mw_qTakes_15 x1 x2 x4 σ Q) ∧ (¬ (3 : Int32) ≤ x1 → ((¬ (lg_cmp x2 (1 : Int64)) = 0 → mw_qTakes_15 x1 x2 x4 σ Q) ∧ ((lg_cmp x2 (1 : Int64)) = 0 → mw_qTakes_16 x1 x2 x4 (1 : Int32) σ Q))))
theorem mt_qTakes {κ : Cx} {S : Adr} {Z : State → Prop} {Q : FS → Prop} (h : MCx κ cX6_qTakes S 1) (hR : RetV κ S Z cX6_qTakes Q) {x1 : Int32} {x2 : Int64} {x4 : Int32} {σ : FS} (hw : mw_qTakes x1 x2 x4 σ Q) : MG κ S Z 0 σ [some (.ref (S.2.1 0)), some (.int x1), some (.long x2), none, some (.int x4), none] [] := by
  unfold mw_qTakes at hw
  refine g_iload_1 0 h.1 dX6_qTakes_0 ?_
  refine g_iconstv 1 _ ic_3 h.1 dX6_qTakes_1 ?_
  refine g_icmp_ge 2 15 h.1 dX6_qTakes_2 (by decide) (fun c => ?_) (fun c => ?_)
  · have hw := hw.1 c
    exact g_le (mt_qTakes_15 h hR hw) ⟨rfl, rfl, rfl, rfl, trivial⟩
  · have hw := hw.2 c
    refine g_lload_2 5 h.1 dX6_qTakes_5 ?_
    refine g_lconst 6 _ lc_1 h.1 dX6_qTakes_6 ?_
    refine g_lcmp 7 h.1 dX6_qTakes_7 ?_
    refine g_if_ne 8 15 h.1 dX6_qTakes_8 (by decide) (fun c => ?_) (fun c => ?_)
    · have hw := hw.1 c
      exact g_le (mt_qTakes_15 h hR hw) ⟨rfl, rfl, rfl, rfl, trivial⟩
    · have hw := hw.2 c
      refine g_iconstv 11 _ ic_1 h.1 dX6_qTakes_11 ?_
      refine g_goto 12 16 h.1 dX6_qTakes_12 (by decide) ?_
      exact g_le (mt_qTakes_16 h hR hw) ⟨rfl, rfl, rfl, rfl, trivial⟩
theorem mm_qTakes {l : Launch} {S : Adr} (hD : MD S) {x1 : Int32} {x2 : Int64} {x4 : Int32} {σ : FS} {Q : FS → Prop} (hw : mw_qTakes x1 x2 x4 σ Q) : mMet l S 1 yX6_qTakes [.int x1, .long x2, .int x4] σ (mQv S Q) :=
  m_metV hD ⟨rfl, by decide, by show _ = some 3; decide +kernel, q2666⟩ q2665 qs166 (Nat.le_of_ble_eq_true rfl) (fun κ Z h hR => mt_qTakes h hR hw)
def mw_qDropsNots_0 (σ : FS) (Q : FS → Prop) : Prop :=
  ∀ X0 : FS → Prop, (∀ (σ : FS), ((¬ (fI σ 0 5) = 0 → Q σ) ∧ ((fI σ 0 5) = 0 → mw_qIsOn (12 : Int32) σ (fun r2 σ1 => ((r2 = 0 → Q σ1) ∧ (¬ r2 = 0 → (∀ σ3, σ3 = sI σ1 0 106 ((fI σ1 0 106) - (1 : Int32)) → mw_qDrops σ3 (fun σ4 => X0 σ4))))))) → X0 σ) → X0 σ
theorem mt_qDropsNots_0 {κ : Cx} {S : Adr} {Z : State → Prop} {Q : FS → Prop} (h : MCx κ cX6_qDropsNots S 3) (hR : RetV κ S Z cX6_qDropsNots Q) {σ : FS} (hw : mw_qDropsNots_0 σ Q) : MG κ S Z 0 σ [some (.ref (S.2.1 0))] [] := by
  refine hw (fun σ => MG κ S Z 0 σ [some (.ref (S.2.1 0))] []) ?_
  clear hw
  intro σ hw
  have hX0 : ∀ (σ : FS), MG κ S Z 0 σ [some (.ref (S.2.1 0))] [] → MG κ S Z 0 σ [some (.ref (S.2.1 0))] [] := fun _ hh => hh
  refine g_aload_0 0 h.1 dX6_qDropsNots_0 ?_
  refine mg_5 1 h dX6_qDropsNots_1 ?_
  refine g_if_ne 4 33 h.1 dX6_qDropsNots_4 (by decide) (fun c => ?_) (fun c => ?_)
  · have hw := hw.1 c
    exact hR 33 _ _ dX6_qDropsNots_33 hw
  · have hw := hw.2 c
    refine g_aload_0 7 h.1 dX6_qDropsNots_7 ?_
    refine g_bipush 8 _ bp_12 h.1 dX6_qDropsNots_8 ?_
    refine m_callI_1 10 h (mm_qIsOn h.2.2.1 hw) (by decide) q2275 (Nat.le_of_ble_eq_true rfl) dX6_qDropsNots_10 (fun r2 σ1 hw => ?_)
    refine g_if_eq 13 33 h.1 dX6_qDropsNots_13 (by decide) (fun c => ?_) (fun c => ?_)
    · have hw := hw.1 c
      exact hR 33 _ _ dX6_qDropsNots_33 hw
    · have hw := hw.2 c
      refine g_aload_0 16 h.1 dX6_qDropsNots_16 ?_
      refine g_dup 17 rfl h.1 dX6_qDropsNots_17 ?_
      refine mg_106 18 h dX6_qDropsNots_18 ?_
      refine g_iconstv 21 _ ic_1 h.1 dX6_qDropsNots_21 ?_
      refine g_isub 22 h.1 dX6_qDropsNots_22 ?_
      refine mp_106 23 h dX6_qDropsNots_23 ?_
      have hw := hw _ rfl
      refine g_aload_0 26 h.1 dX6_qDropsNots_26 ?_
      refine m_callV_0 27 h (mm_qDrops h.2.2.1 hw) (by decide) q2256 (Nat.le_of_ble_eq_true rfl) dX6_qDropsNots_27 (fun σ4 hw => ?_)
      refine g_goto 30 0 h.1 dX6_qDropsNots_30 (by decide) ?_
      exact g_le (hX0 _ hw) ⟨rfl, trivial⟩
def mw_qDropsNots (σ : FS) (Q : FS → Prop) : Prop :=
  mw_qDropsNots_0 σ Q
theorem mt_qDropsNots {κ : Cx} {S : Adr} {Z : State → Prop} {Q : FS → Prop} (h : MCx κ cX6_qDropsNots S 3) (hR : RetV κ S Z cX6_qDropsNots Q) {σ : FS} (hw : mw_qDropsNots σ Q) : MG κ S Z 0 σ [some (.ref (S.2.1 0))] [] := by
  unfold mw_qDropsNots at hw
  exact g_le (mt_qDropsNots_0 h hR hw) ⟨rfl, trivial⟩
theorem mm_qDropsNots {l : Launch} {S : Adr} (hD : MD S) {σ : FS} {Q : FS → Prop} (hw : mw_qDropsNots σ Q) : mMet l S 3 yX6_qDropsNots [] σ (mQv S Q) :=
  m_metV hD ⟨rfl, by decide, by show _ = some 0; decide +kernel, q2282⟩ q2281 qs105 (Nat.le_of_ble_eq_true rfl) (fun κ Z h hR => mt_qDropsNots h hR hw)
def mw_qFact_102 (y0 : Int32) (σ : FS) (Q : FS → Prop) : Prop :=
  mw_qCode y0 σ (fun σ10 => Q σ10)
theorem mt_qFact_102 {κ : Cx} {S : Adr} {Z : State → Prop} {Q : FS → Prop} (h : MCx κ cX6_qFact S 8) (hR : RetV κ S Z cX6_qFact Q) {y0 : Int32} {σ : FS} (hw : mw_qFact_102 y0 σ Q) : MG κ S Z 102 σ [none, none] [.int y0, .ref (S.2.1 0)] := by
  unfold mw_qFact_102 at hw
  refine m_callV_1 102 h (mm_qCode h.2.2.1 hw) (by decide) q2224 (Nat.le_of_ble_eq_true rfl) dX6_qFact_102 (fun σ10 hw => ?_)
  exact hR 105 _ _ dX6_qFact_105 hw
def mw_qFact_63 (x1 : Int32) (σ : FS) (Q : FS → Prop) : Prop :=
  (∀ σ8, σ8 = sI σ 0 2 ((fI σ 0 2) + (1 : Int32)) → mw_qSums σ8 (fun σ9 => ((¬ x1 = (60 : Int32) → ((¬ x1 = (62 : Int32) → mw_qFact_102 (9 : Int32) σ9 Q) ∧ (x1 = (62 : Int32) → mw_qFact_102 (8 : Int32) σ9 Q))) ∧ (x1 = (60 : Int32) → mw_qFact_102 (7 : Int32) σ9 Q))))
theorem mt_qFact_63 {κ : Cx} {S : Adr} {Z : State → Prop} {Q : FS → Prop} (h : MCx κ cX6_qFact S 8) (hR : RetV κ S Z cX6_qFact Q) {x1 : Int32} {σ : FS} (hw : mw_qFact_63 x1 σ Q) : MG κ S Z 63 σ [some (.ref (S.2.1 0)), some (.int x1)] [] := by
  unfold mw_qFact_63 at hw
  refine g_aload_0 63 h.1 dX6_qFact_63 ?_
  refine g_dup 64 rfl h.1 dX6_qFact_64 ?_
  refine mg_2 65 h dX6_qFact_65 ?_
  refine g_iconstv 68 _ ic_1 h.1 dX6_qFact_68 ?_
  refine g_iadd 69 h.1 dX6_qFact_69 ?_
  refine mp_2 70 h dX6_qFact_70 ?_
  have hw := hw _ rfl
  refine g_aload_0 73 h.1 dX6_qFact_73 ?_
  refine m_callV_0 74 h (mm_qSums h.2.2.1 hw) (by decide) q2228 (Nat.le_of_ble_eq_true rfl) dX6_qFact_74 (fun σ9 hw => ?_)
  refine g_aload_0 77 h.1 dX6_qFact_77 ?_
  refine g_iload_1 78 h.1 dX6_qFact_78 ?_
  refine g_bipush 79 _ bp_60 h.1 dX6_qFact_79 ?_
  refine g_icmp_ne 81 89 h.1 dX6_qFact_81 (by decide) (fun c => ?_) (fun c => ?_)
  · have hw := hw.1 c
    refine g_iload_1 89 h.1 dX6_qFact_89 ?_
    refine g_bipush 90 _ bp_62 h.1 dX6_qFact_90 ?_
    refine g_icmp_ne 92 100 h.1 dX6_qFact_92 (by decide) (fun c => ?_) (fun c => ?_)
    · have hw := hw.1 c
      refine g_bipush 100 _ bp_9 h.1 dX6_qFact_100 ?_
      exact g_le (mt_qFact_102 h hR hw) trivial
    · have hw := hw.2 c
      refine g_bipush 95 _ bp_8 h.1 dX6_qFact_95 ?_
      refine g_goto 97 102 h.1 dX6_qFact_97 (by decide) ?_
      exact g_le (mt_qFact_102 h hR hw) trivial
  · have hw := hw.2 c
    refine g_bipush 84 _ bp_7 h.1 dX6_qFact_84 ?_
    refine g_goto 86 102 h.1 dX6_qFact_86 (by decide) ?_
    exact g_le (mt_qFact_102 h hR hw) trivial
def mw_qFact (σ : FS) (Q : FS → Prop) : Prop :=
  mw_takes 88 σ (fun r2 σ1 => ((r2 = 0 → mw_qSums σ1 (fun σ3 => (((fI σ3 0 5) = 0 → mw_look σ3 (fun r5 σ4 => ((r5 = (60 : Int32) → mw_qFact_63 r5 σ4 Q) ∧ (¬ r5 = (60 : Int32) → ((r5 = (62 : Int32) → mw_qFact_63 r5 σ4 Q) ∧ (¬ r5 = (62 : Int32) → ((r5 = (61 : Int32) → mw_qFact_63 r5 σ4 Q) ∧ (¬ r5 = (61 : Int32) → mw_fail (1 : Int32) (fI σ4 0 2) σ4 (fun σ6 => Q σ6))))))))) ∧ (¬ (fI σ3 0 5) = 0 → Q σ3)))) ∧ (¬ r2 = 0 → mw_qCode (13 : Int32) σ1 (fun σ7 => Q σ7))))
theorem mt_qFact {κ : Cx} {S : Adr} {Z : State → Prop} {Q : FS → Prop} (h : MCx κ cX6_qFact S 8) (hR : RetV κ S Z cX6_qFact Q) {σ : FS} (hw : mw_qFact σ Q) : MG κ S Z 0 σ [some (.ref (S.2.1 0)), none] [] := by
  unfold mw_qFact at hw
  refine g_aload_0 0 h.1 dX6_qFact_0 ?_
  refine g_aload_0 1 h.1 dX6_qFact_1 ?_
  refine mg_88 2 h dX6_qFact_2 ?_
  refine m_callI_1 5 h (mm_takes h.2.2.1 hw) (by decide) q2121 (Nat.le_of_ble_eq_true rfl) dX6_qFact_5 (fun r2 σ1 hw => ?_)
  refine g_if_eq 8 18 h.1 dX6_qFact_8 (by decide) (fun c => ?_) (fun c => ?_)
  · have hw := hw.1 c
    refine g_aload_0 18 h.1 dX6_qFact_18 ?_
    refine m_callV_0 19 h (mm_qSums h.2.2.1 hw) (by decide) q2228 (Nat.le_of_ble_eq_true rfl) dX6_qFact_19 (fun σ3 hw => ?_)
    refine g_aload_0 22 h.1 dX6_qFact_22 ?_
    refine mg_5 23 h dX6_qFact_23 ?_
    refine g_if_eq 26 30 h.1 dX6_qFact_26 (by decide) (fun c => ?_) (fun c => ?_)
    · have hw := hw.1 c
      refine g_aload_0 30 h.1 dX6_qFact_30 ?_
      refine m_callI_0 31 h (mm_look h.2.2.1 hw) (by decide) q2129 (Nat.le_of_ble_eq_true rfl) dX6_qFact_31 (fun r5 σ4 hw => ?_)
      refine g_istore_1 34 h.1 rfl dX6_qFact_34 ?_
      refine g_iload_1 35 h.1 dX6_qFact_35 ?_
      refine g_bipush 36 _ bp_60 h.1 dX6_qFact_36 ?_
      refine g_icmp_eq 38 63 h.1 dX6_qFact_38 (by decide) (fun c => ?_) (fun c => ?_)
      · have hw := hw.1 c
        exact g_le (mt_qFact_63 h hR hw) ⟨rfl, rfl, trivial⟩
      · have hw := hw.2 c
        refine g_iload_1 41 h.1 dX6_qFact_41 ?_
        refine g_bipush 42 _ bp_62 h.1 dX6_qFact_42 ?_
        refine g_icmp_eq 44 63 h.1 dX6_qFact_44 (by decide) (fun c => ?_) (fun c => ?_)
        · have hw := hw.1 c
          exact g_le (mt_qFact_63 h hR hw) ⟨rfl, rfl, trivial⟩
        · have hw := hw.2 c
          refine g_iload_1 47 h.1 dX6_qFact_47 ?_
          refine g_bipush 48 _ bp_61 h.1 dX6_qFact_48 ?_
          refine g_icmp_eq 50 63 h.1 dX6_qFact_50 (by decide) (fun c => ?_) (fun c => ?_)
          · have hw := hw.1 c
            exact g_le (mt_qFact_63 h hR hw) ⟨rfl, rfl, trivial⟩
          · have hw := hw.2 c
            refine g_aload_0 53 h.1 dX6_qFact_53 ?_
            refine g_iconstv 54 _ ic_1 h.1 dX6_qFact_54 ?_
            refine g_aload_0 55 h.1 dX6_qFact_55 ?_
            refine mg_2 56 h dX6_qFact_56 ?_
            refine m_callV_2 59 h (mm_fail h.2.2.1 hw) (by decide) q2136 (Nat.le_of_ble_eq_true rfl) dX6_qFact_59 (fun σ6 hw => ?_)
            exact hR 62 _ _ dX6_qFact_62 hw
    · have hw := hw.2 c
      exact hR 29 _ _ dX6_qFact_29 hw
  · have hw := hw.2 c
    refine g_aload_0 11 h.1 dX6_qFact_11 ?_
    refine g_bipush 12 _ bp_13 h.1 dX6_qFact_12 ?_
    refine m_callV_1 14 h (mm_qCode h.2.2.1 hw) (by decide) q2224 (Nat.le_of_ble_eq_true rfl) dX6_qFact_14 (fun σ7 hw => ?_)
    exact hR 17 _ _ dX6_qFact_17 hw
theorem mm_qFact {l : Launch} {S : Adr} (hD : MD S) {σ : FS} {Q : FS → Prop} (hw : mw_qFact σ Q) : mMet l S 8 yX6_qFact [] σ (mQv S Q) :=
  m_metV hD ⟨rfl, by decide, by show _ = some 0; decide +kernel, q2223⟩ q2222 qs91 (Nat.le_of_ble_eq_true rfl) (fun κ Z h hR => mt_qFact h hR hw)
def mw_qHasSquare_2 (x1 : Int32) (σ : FS) (Q : Int32 → FS → Prop) : Prop :=
  ∀ X2 : Int32 → FS → Prop, (∀ (x1 : Int32) (σ : FS), (((fI σ 0 105) ≤ x1 → Q (0 : Int32) σ) ∧ (¬ (fI σ 0 105) ≤ x1 → (vp_in x1 1700 ∧ ((¬ (fA σ 104 (Int32.toNatClampNeg x1)) = (25 : Int32) → X2 (x1 + 1) σ) ∧ ((fA σ 104 (Int32.toNatClampNeg x1)) = (25 : Int32) → Q (1 : Int32) σ))))) → X2 x1 σ) → X2 x1 σ
theorem mt_qHasSquare_2 {κ : Cx} {S : Adr} {Z : State → Prop} {Q : Int32 → FS → Prop} (h : MCx κ cX6_qHasSquare S 1) (hR : RetZ κ S Z cX6_qHasSquare Q) {x1 : Int32} {σ : FS} (hw : mw_qHasSquare_2 x1 σ Q) : MG κ S Z 2 σ [some (.ref (S.2.1 0)), some (.int x1)] [] := by
  refine hw (fun x1 σ => MG κ S Z 2 σ [some (.ref (S.2.1 0)), some (.int x1)] []) ?_
  clear hw
  intro x1 σ hw
  have hX2 : ∀ (x1 : Int32) (σ : FS), MG κ S Z 2 σ [some (.ref (S.2.1 0)), some (.int x1)] [] → MG κ S Z 2 σ [some (.ref (S.2.1 0)), some (.int x1)] [] := fun _ _ hh => hh
  refine g_iload_1 2 h.1 dX6_qHasSquare_2 ?_
  refine g_aload_0 3 h.1 dX6_qHasSquare_3 ?_
  refine mg_105 4 h dX6_qHasSquare_4 ?_
  refine g_icmp_ge 7 29 h.1 dX6_qHasSquare_7 (by decide) (fun c => ?_) (fun c => ?_)
  · have hw := hw.1 c
    refine g_iconstv 29 _ ic_0 h.1 dX6_qHasSquare_29 ?_
    exact hR 30 _ _ _ dX6_qHasSquare_30 rfl hw
  · have hw := hw.2 c
    refine g_aload_0 10 h.1 dX6_qHasSquare_10 ?_
    refine mg_104 11 h dX6_qHasSquare_11 ?_
    refine g_iload_1 14 h.1 dX6_qHasSquare_14 ?_
    refine m_iald 15 rfl hw.1 h dX6_qHasSquare_15 ?_
    have hw := hw.2
    refine g_bipush 16 _ bp_25 h.1 dX6_qHasSquare_16 ?_
    refine g_icmp_ne 18 23 h.1 dX6_qHasSquare_18 (by decide) (fun c => ?_) (fun c => ?_)
    · have hw := hw.1 c
      refine g_iinc_1 23 (x1 + 1) (congrArg _ ic_1) h.1 rfl dX6_qHasSquare_23 ?_
      refine g_goto 26 2 h.1 dX6_qHasSquare_26 (by decide) ?_
      exact g_le (hX2 _ _ hw) ⟨rfl, rfl, trivial⟩
    · have hw := hw.2 c
      refine g_iconstv 21 _ ic_1 h.1 dX6_qHasSquare_21 ?_
      exact hR 22 _ _ _ dX6_qHasSquare_22 rfl hw
def mw_qHasSquare (σ : FS) (Q : Int32 → FS → Prop) : Prop :=
  mw_qHasSquare_2 (0 : Int32) σ Q
theorem mt_qHasSquare {κ : Cx} {S : Adr} {Z : State → Prop} {Q : Int32 → FS → Prop} (h : MCx κ cX6_qHasSquare S 1) (hR : RetZ κ S Z cX6_qHasSquare Q) {σ : FS} (hw : mw_qHasSquare σ Q) : MG κ S Z 0 σ [some (.ref (S.2.1 0)), none] [] := by
  unfold mw_qHasSquare at hw
  refine g_iconstv 0 _ ic_0 h.1 dX6_qHasSquare_0 ?_
  refine g_istore_1 1 h.1 rfl dX6_qHasSquare_1 ?_
  exact g_le (mt_qHasSquare_2 h hR hw) ⟨rfl, rfl, trivial⟩
theorem mm_qHasSquare {l : Launch} {S : Adr} (hD : MD S) {σ : FS} {Q : Int32 → FS → Prop} (hw : mw_qHasSquare σ Q) : mMet l S 1 yX6_qHasSquare [] σ (mQi S Q) :=
  m_metZ hD ⟨rfl, by decide, by show _ = some 0; decide +kernel, q2290⟩ q2289 qs107 (Nat.le_of_ble_eq_true rfl) (fun κ Z h hR => mt_qHasSquare h hR hw)
def mw_qGoesOnTest_33 (X0 : FS → Prop) (σ : FS) (Q : Int32 → FS → Prop) : Prop :=
  ∀ X33 : FS → Prop, (∀ (σ : FS), mw_qIsOn (25 : Int32) σ (fun r14 σ13 => ((¬ r14 = 0 → (∀ σ15, σ15 = sI σ13 0 105 ((fI σ13 0 105) - (1 : Int32)) → (∀ σ16, σ16 = sI σ15 0 106 ((fI σ15 0 106) - (1 : Int32)) → mw_qDropsNots σ16 (fun σ17 => X0 σ17)))) ∧ (r14 = 0 → mw_qDrops σ13 (fun σ18 => X33 σ18)))) → X33 σ) → X33 σ
theorem mt_qGoesOnTest_33 {κ : Cx} {S : Adr} {Z : State → Prop} {Q : Int32 → FS → Prop} (h : MCx κ cX6_qGoesOnTest S 4) (hR : RetZ κ S Z cX6_qGoesOnTest Q) {X0 : FS → Prop} (hX0 : ∀ (σ : FS), X0 σ → MG κ S Z 0 σ [some (.ref (S.2.1 0))] []) {σ : FS} (hw : mw_qGoesOnTest_33 X0 σ Q) : MG κ S Z 33 σ [some (.ref (S.2.1 0))] [] := by
  refine hw (fun σ => MG κ S Z 33 σ [some (.ref (S.2.1 0))] []) ?_
  clear hw
  intro σ hw
  have hX33 : ∀ (σ : FS), MG κ S Z 33 σ [some (.ref (S.2.1 0))] [] → MG κ S Z 33 σ [some (.ref (S.2.1 0))] [] := fun _ hh => hh
  refine g_aload_0 33 h.1 dX6_qGoesOnTest_33 ?_
  refine g_bipush 34 _ bp_25 h.1 dX6_qGoesOnTest_34 ?_
  refine m_callI_1 36 h (mm_qIsOn h.2.2.1 hw) (by decide) q2275 (Nat.le_of_ble_eq_true rfl) dX6_qGoesOnTest_36 (fun r14 σ13 hw => ?_)
  refine g_if_ne 39 49 h.1 dX6_qGoesOnTest_39 (by decide) (fun c => ?_) (fun c => ?_)
  · have hw := hw.1 c
    refine g_aload_0 49 h.1 dX6_qGoesOnTest_49 ?_
    refine g_dup 50 rfl h.1 dX6_qGoesOnTest_50 ?_
    refine mg_105 51 h dX6_qGoesOnTest_51 ?_
    refine g_iconstv 54 _ ic_1 h.1 dX6_qGoesOnTest_54 ?_
    refine g_isub 55 h.1 dX6_qGoesOnTest_55 ?_
    refine mp_105 56 h dX6_qGoesOnTest_56 ?_
    have hw := hw _ rfl
    refine g_aload_0 59 h.1 dX6_qGoesOnTest_59 ?_
    refine g_dup 60 rfl h.1 dX6_qGoesOnTest_60 ?_
    refine mg_106 61 h dX6_qGoesOnTest_61 ?_
    refine g_iconstv 64 _ ic_1 h.1 dX6_qGoesOnTest_64 ?_
    refine g_isub 65 h.1 dX6_qGoesOnTest_65 ?_
    refine mp_106 66 h dX6_qGoesOnTest_66 ?_
    have hw := hw _ rfl
    refine g_aload_0 69 h.1 dX6_qGoesOnTest_69 ?_
    refine m_callV_0 70 h (mm_qDropsNots h.2.2.1 hw) (by decide) q2279 (Nat.le_of_ble_eq_true rfl) dX6_qGoesOnTest_70 (fun σ17 hw => ?_)
    refine g_goto 73 0 h.1 dX6_qGoesOnTest_73 (by decide) ?_
    exact g_le (hX0 _ hw) ⟨rfl, trivial⟩
  · have hw := hw.2 c
    refine g_aload_0 42 h.1 dX6_qGoesOnTest_42 ?_
    refine m_callV_0 43 h (mm_qDrops h.2.2.1 hw) (by decide) q2256 (Nat.le_of_ble_eq_true rfl) dX6_qGoesOnTest_43 (fun σ18 hw => ?_)
    refine g_goto 46 33 h.1 dX6_qGoesOnTest_46 (by decide) ?_
    exact g_le (hX33 _ hw) ⟨rfl, trivial⟩
def mw_qGoesOnTest_87 (σ : FS) (Q : Int32 → FS → Prop) : Prop :=
  ∀ X87 : FS → Prop, (∀ (σ : FS), mw_qIsOn (10 : Int32) σ (fun r26 σ25 => ((r26 = 0 → (vp_in (fI σ25 0 105) 1700 ∧ ∀ σ27, σ27 = sA σ25 104 (Int32.toNatClampNeg (fI σ25 0 105)) (10 : Int32) → (∀ σ28, σ28 = sI σ27 0 105 ((fI σ27 0 105) + (1 : Int32)) → Q (1 : Int32) σ28))) ∧ (¬ r26 = 0 → mw_qDrops σ25 (fun σ29 => X87 σ29)))) → X87 σ) → X87 σ
theorem mt_qGoesOnTest_87 {κ : Cx} {S : Adr} {Z : State → Prop} {Q : Int32 → FS → Prop} (h : MCx κ cX6_qGoesOnTest S 4) (hR : RetZ κ S Z cX6_qGoesOnTest Q) {σ : FS} (hw : mw_qGoesOnTest_87 σ Q) : MG κ S Z 87 σ [some (.ref (S.2.1 0))] [] := by
  refine hw (fun σ => MG κ S Z 87 σ [some (.ref (S.2.1 0))] []) ?_
  clear hw
  intro σ hw
  have hX87 : ∀ (σ : FS), MG κ S Z 87 σ [some (.ref (S.2.1 0))] [] → MG κ S Z 87 σ [some (.ref (S.2.1 0))] [] := fun _ hh => hh
  refine g_aload_0 87 h.1 dX6_qGoesOnTest_87 ?_
  refine g_bipush 88 _ bp_10 h.1 dX6_qGoesOnTest_88 ?_
  refine m_callI_1 90 h (mm_qIsOn h.2.2.1 hw) (by decide) q2275 (Nat.le_of_ble_eq_true rfl) dX6_qGoesOnTest_90 (fun r26 σ25 hw => ?_)
  refine g_if_eq 93 103 h.1 dX6_qGoesOnTest_93 (by decide) (fun c => ?_) (fun c => ?_)
  · have hw := hw.1 c
    refine g_aload_0 103 h.1 dX6_qGoesOnTest_103 ?_
    refine mg_104 104 h dX6_qGoesOnTest_104 ?_
    refine g_aload_0 107 h.1 dX6_qGoesOnTest_107 ?_
    refine mg_105 108 h dX6_qGoesOnTest_108 ?_
    refine g_bipush 111 _ bp_10 h.1 dX6_qGoesOnTest_111 ?_
    refine m_iast 113 rfl hw.1 h dX6_qGoesOnTest_113 ?_
    have hw := hw.2 _ rfl
    refine g_aload_0 114 h.1 dX6_qGoesOnTest_114 ?_
    refine g_dup 115 rfl h.1 dX6_qGoesOnTest_115 ?_
    refine mg_105 116 h dX6_qGoesOnTest_116 ?_
    refine g_iconstv 119 _ ic_1 h.1 dX6_qGoesOnTest_119 ?_
    refine g_iadd 120 h.1 dX6_qGoesOnTest_120 ?_
    refine mp_105 121 h dX6_qGoesOnTest_121 ?_
    have hw := hw _ rfl
    refine g_iconstv 124 _ ic_1 h.1 dX6_qGoesOnTest_124 ?_
    exact hR 125 _ _ _ dX6_qGoesOnTest_125 rfl hw
  · have hw := hw.2 c
    refine g_aload_0 96 h.1 dX6_qGoesOnTest_96 ?_
    refine m_callV_0 97 h (mm_qDrops h.2.2.1 hw) (by decide) q2256 (Nat.le_of_ble_eq_true rfl) dX6_qGoesOnTest_97 (fun σ29 hw => ?_)
    refine g_goto 100 87 h.1 dX6_qGoesOnTest_100 (by decide) ?_
    exact g_le (hX87 _ hw) ⟨rfl, trivial⟩
def mw_qGoesOnTest_155 (X137 : FS → Prop) (σ : FS) (Q : Int32 → FS → Prop) : Prop :=
  mw_qDrops σ (fun σ30 => X137 σ30)
theorem mt_qGoesOnTest_155 {κ : Cx} {S : Adr} {Z : State → Prop} {Q : Int32 → FS → Prop} (h : MCx κ cX6_qGoesOnTest S 4) (hR : RetZ κ S Z cX6_qGoesOnTest Q) {X137 : FS → Prop} (hX137 : ∀ (σ : FS), X137 σ → MG κ S Z 137 σ [some (.ref (S.2.1 0))] []) {σ : FS} (hw : mw_qGoesOnTest_155 X137 σ Q) : MG κ S Z 155 σ [some (.ref (S.2.1 0))] [] := by
  unfold mw_qGoesOnTest_155 at hw
  refine g_aload_0 155 h.1 dX6_qGoesOnTest_155 ?_
  refine m_callV_0 156 h (mm_qDrops h.2.2.1 hw) (by decide) q2256 (Nat.le_of_ble_eq_true rfl) dX6_qGoesOnTest_156 (fun σ30 hw => ?_)
  refine g_goto 159 137 h.1 dX6_qGoesOnTest_159 (by decide) ?_
  exact g_le (hX137 _ hw) ⟨rfl, trivial⟩
def mw_qGoesOnTest_137 (σ : FS) (Q : Int32 → FS → Prop) : Prop :=
  ∀ X137 : FS → Prop, (∀ (σ : FS), mw_qIsOn (10 : Int32) σ (fun r20 σ19 => ((¬ r20 = 0 → mw_qGoesOnTest_155 X137 σ19 Q) ∧ (r20 = 0 → mw_qIsOn (11 : Int32) σ19 (fun r22 σ21 => ((r22 = 0 → (vp_in (fI σ21 0 105) 1700 ∧ ∀ σ23, σ23 = sA σ21 104 (Int32.toNatClampNeg (fI σ21 0 105)) (11 : Int32) → (∀ σ24, σ24 = sI σ23 0 105 ((fI σ23 0 105) + (1 : Int32)) → Q (1 : Int32) σ24))) ∧ (¬ r22 = 0 → mw_qGoesOnTest_155 X137 σ21 Q)))))) → X137 σ) → X137 σ
theorem mt_qGoesOnTest_137 {κ : Cx} {S : Adr} {Z : State → Prop} {Q : Int32 → FS → Prop} (h : MCx κ cX6_qGoesOnTest S 4) (hR : RetZ κ S Z cX6_qGoesOnTest Q) {σ : FS} (hw : mw_qGoesOnTest_137 σ Q) : MG κ S Z 137 σ [some (.ref (S.2.1 0))] [] := by
  refine hw (fun σ => MG κ S Z 137 σ [some (.ref (S.2.1 0))] []) ?_
  clear hw
  intro σ hw
  have hX137 : ∀ (σ : FS), MG κ S Z 137 σ [some (.ref (S.2.1 0))] [] → MG κ S Z 137 σ [some (.ref (S.2.1 0))] [] := fun _ hh => hh
  refine g_aload_0 137 h.1 dX6_qGoesOnTest_137 ?_
  refine g_bipush 138 _ bp_10 h.1 dX6_qGoesOnTest_138 ?_
  refine m_callI_1 140 h (mm_qIsOn h.2.2.1 hw) (by decide) q2275 (Nat.le_of_ble_eq_true rfl) dX6_qGoesOnTest_140 (fun r20 σ19 hw => ?_)
  refine g_if_ne 143 155 h.1 dX6_qGoesOnTest_143 (by decide) (fun c => ?_) (fun c => ?_)
  · have hw := hw.1 c
    exact g_le (mt_qGoesOnTest_155 h hR hX137 hw) ⟨rfl, trivial⟩
  · have hw := hw.2 c
    refine g_aload_0 146 h.1 dX6_qGoesOnTest_146 ?_
    refine g_bipush 147 _ bp_11 h.1 dX6_qGoesOnTest_147 ?_
    refine m_callI_1 149 h (mm_qIsOn h.2.2.1 hw) (by decide) q2275 (Nat.le_of_ble_eq_true rfl) dX6_qGoesOnTest_149 (fun r22 σ21 hw => ?_)
    refine g_if_eq 152 162 h.1 dX6_qGoesOnTest_152 (by decide) (fun c => ?_) (fun c => ?_)
    · have hw := hw.1 c
      refine g_aload_0 162 h.1 dX6_qGoesOnTest_162 ?_
      refine mg_104 163 h dX6_qGoesOnTest_163 ?_
      refine g_aload_0 166 h.1 dX6_qGoesOnTest_166 ?_
      refine mg_105 167 h dX6_qGoesOnTest_167 ?_
      refine g_bipush 170 _ bp_11 h.1 dX6_qGoesOnTest_170 ?_
      refine m_iast 172 rfl hw.1 h dX6_qGoesOnTest_172 ?_
      have hw := hw.2 _ rfl
      refine g_aload_0 173 h.1 dX6_qGoesOnTest_173 ?_
      refine g_dup 174 rfl h.1 dX6_qGoesOnTest_174 ?_
      refine mg_105 175 h dX6_qGoesOnTest_175 ?_
      refine g_iconstv 178 _ ic_1 h.1 dX6_qGoesOnTest_178 ?_
      refine g_iadd 179 h.1 dX6_qGoesOnTest_179 ?_
      refine mp_105 180 h dX6_qGoesOnTest_180 ?_
      have hw := hw _ rfl
      refine g_iconstv 183 _ ic_1 h.1 dX6_qGoesOnTest_183 ?_
      exact hR 184 _ _ _ dX6_qGoesOnTest_184 rfl hw
    · have hw := hw.2 c
      exact g_le (mt_qGoesOnTest_155 h hR hX137 hw) ⟨rfl, trivial⟩
def mw_qGoesOnTest_76 (σ : FS) (Q : Int32 → FS → Prop) : Prop :=
  mw_takes 86 σ (fun r7 σ6 => ((r7 = 0 → mw_takes 87 σ6 (fun r9 σ8 => ((r9 = 0 → ((¬ (fI σ8 0 5) = 0 → Q (0 : Int32) σ8) ∧ ((fI σ8 0 5) = 0 → mw_qHasSquare σ8 (fun r11 σ10 => ((r11 = 0 → Q (0 : Int32) σ10) ∧ (¬ r11 = 0 → mw_fail (1 : Int32) (fI σ10 0 2) σ10 (fun σ12 => Q (0 : Int32) σ12))))))) ∧ (¬ r9 = 0 → mw_qGoesOnTest_137 σ8 Q)))) ∧ (¬ r7 = 0 → mw_qGoesOnTest_87 σ6 Q)))
theorem mt_qGoesOnTest_76 {κ : Cx} {S : Adr} {Z : State → Prop} {Q : Int32 → FS → Prop} (h : MCx κ cX6_qGoesOnTest S 4) (hR : RetZ κ S Z cX6_qGoesOnTest Q) {σ : FS} (hw : mw_qGoesOnTest_76 σ Q) : MG κ S Z 76 σ [some (.ref (S.2.1 0))] [] := by
  unfold mw_qGoesOnTest_76 at hw
  refine g_aload_0 76 h.1 dX6_qGoesOnTest_76 ?_
  refine g_aload_0 77 h.1 dX6_qGoesOnTest_77 ?_
  refine mg_86 78 h dX6_qGoesOnTest_78 ?_
  refine m_callI_1 81 h (mm_takes h.2.2.1 hw) (by decide) q2121 (Nat.le_of_ble_eq_true rfl) dX6_qGoesOnTest_81 (fun r7 σ6 hw => ?_)
  refine g_if_eq 84 126 h.1 dX6_qGoesOnTest_84 (by decide) (fun c => ?_) (fun c => ?_)
  · have hw := hw.1 c
    refine g_aload_0 126 h.1 dX6_qGoesOnTest_126 ?_
    refine g_aload_0 127 h.1 dX6_qGoesOnTest_127 ?_
    refine mg_87 128 h dX6_qGoesOnTest_128 ?_
    refine m_callI_1 131 h (mm_takes h.2.2.1 hw) (by decide) q2121 (Nat.le_of_ble_eq_true rfl) dX6_qGoesOnTest_131 (fun r9 σ8 hw => ?_)
    refine g_if_eq 134 185 h.1 dX6_qGoesOnTest_134 (by decide) (fun c => ?_) (fun c => ?_)
    · have hw := hw.1 c
      refine g_aload_0 185 h.1 dX6_qGoesOnTest_185 ?_
      refine mg_5 186 h dX6_qGoesOnTest_186 ?_
      refine g_if_ne 189 208 h.1 dX6_qGoesOnTest_189 (by decide) (fun c => ?_) (fun c => ?_)
      · have hw := hw.1 c
        refine g_iconstv 208 _ ic_0 h.1 dX6_qGoesOnTest_208 ?_
        exact hR 209 _ _ _ dX6_qGoesOnTest_209 rfl hw
      · have hw := hw.2 c
        refine g_aload_0 192 h.1 dX6_qGoesOnTest_192 ?_
        refine m_callI_0 193 h (mm_qHasSquare h.2.2.1 hw) (by decide) q2287 (Nat.le_of_ble_eq_true rfl) dX6_qGoesOnTest_193 (fun r11 σ10 hw => ?_)
        refine g_if_eq 196 208 h.1 dX6_qGoesOnTest_196 (by decide) (fun c => ?_) (fun c => ?_)
        · have hw := hw.1 c
          refine g_iconstv 208 _ ic_0 h.1 dX6_qGoesOnTest_208 ?_
          exact hR 209 _ _ _ dX6_qGoesOnTest_209 rfl hw
        · have hw := hw.2 c
          refine g_aload_0 199 h.1 dX6_qGoesOnTest_199 ?_
          refine g_iconstv 200 _ ic_1 h.1 dX6_qGoesOnTest_200 ?_
          refine g_aload_0 201 h.1 dX6_qGoesOnTest_201 ?_
          refine mg_2 202 h dX6_qGoesOnTest_202 ?_
          refine m_callV_2 205 h (mm_fail h.2.2.1 hw) (by decide) q2136 (Nat.le_of_ble_eq_true rfl) dX6_qGoesOnTest_205 (fun σ12 hw => ?_)
          refine g_iconstv 208 _ ic_0 h.1 dX6_qGoesOnTest_208 ?_
          exact hR 209 _ _ _ dX6_qGoesOnTest_209 rfl hw
    · have hw := hw.2 c
      exact g_le (mt_qGoesOnTest_137 h hR hw) ⟨rfl, trivial⟩
  · have hw := hw.2 c
    exact g_le (mt_qGoesOnTest_87 h hR hw) ⟨rfl, trivial⟩
def mw_qGoesOnTest_0 (σ : FS) (Q : Int32 → FS → Prop) : Prop :=
  ∀ X0 : FS → Prop, (∀ (σ : FS), ((¬ (fI σ 0 5) = 0 → mw_qGoesOnTest_76 σ Q) ∧ ((fI σ 0 5) = 0 → mw_look σ (fun r2 σ1 => ((¬ r2 = (93 : Int32) → mw_qGoesOnTest_76 σ1 Q) ∧ (r2 = (93 : Int32) → mw_qHasSquare σ1 (fun r4 σ3 => ((r4 = 0 → mw_qGoesOnTest_76 σ3 Q) ∧ (¬ r4 = 0 → (∀ σ5, σ5 = sI σ3 0 2 ((fI σ3 0 2) + (1 : Int32)) → mw_qGoesOnTest_33 X0 σ5 Q))))))))) → X0 σ) → X0 σ
theorem mt_qGoesOnTest_0 {κ : Cx} {S : Adr} {Z : State → Prop} {Q : Int32 → FS → Prop} (h : MCx κ cX6_qGoesOnTest S 4) (hR : RetZ κ S Z cX6_qGoesOnTest Q) {σ : FS} (hw : mw_qGoesOnTest_0 σ Q) : MG κ S Z 0 σ [some (.ref (S.2.1 0))] [] := by
  refine hw (fun σ => MG κ S Z 0 σ [some (.ref (S.2.1 0))] []) ?_
  clear hw
  intro σ hw
  have hX0 : ∀ (σ : FS), MG κ S Z 0 σ [some (.ref (S.2.1 0))] [] → MG κ S Z 0 σ [some (.ref (S.2.1 0))] [] := fun _ hh => hh
  refine g_aload_0 0 h.1 dX6_qGoesOnTest_0 ?_
  refine mg_5 1 h dX6_qGoesOnTest_1 ?_
  refine g_if_ne 4 76 h.1 dX6_qGoesOnTest_4 (by decide) (fun c => ?_) (fun c => ?_)
  · have hw := hw.1 c
    exact g_le (mt_qGoesOnTest_76 h hR hw) ⟨rfl, trivial⟩
  · have hw := hw.2 c
    refine g_aload_0 7 h.1 dX6_qGoesOnTest_7 ?_
    refine m_callI_0 8 h (mm_look h.2.2.1 hw) (by decide) q2129 (Nat.le_of_ble_eq_true rfl) dX6_qGoesOnTest_8 (fun r2 σ1 hw => ?_)
    refine g_bipush 11 _ bp_93 h.1 dX6_qGoesOnTest_11 ?_
    refine g_icmp_ne 13 76 h.1 dX6_qGoesOnTest_13 (by decide) (fun c => ?_) (fun c => ?_)
    · have hw := hw.1 c
      exact g_le (mt_qGoesOnTest_76 h hR hw) ⟨rfl, trivial⟩
    · have hw := hw.2 c
      refine g_aload_0 16 h.1 dX6_qGoesOnTest_16 ?_
      refine m_callI_0 17 h (mm_qHasSquare h.2.2.1 hw) (by decide) q2287 (Nat.le_of_ble_eq_true rfl) dX6_qGoesOnTest_17 (fun r4 σ3 hw => ?_)
      refine g_if_eq 20 76 h.1 dX6_qGoesOnTest_20 (by decide) (fun c => ?_) (fun c => ?_)
      · have hw := hw.1 c
        exact g_le (mt_qGoesOnTest_76 h hR hw) ⟨rfl, trivial⟩
      · have hw := hw.2 c
        refine g_aload_0 23 h.1 dX6_qGoesOnTest_23 ?_
        refine g_dup 24 rfl h.1 dX6_qGoesOnTest_24 ?_
        refine mg_2 25 h dX6_qGoesOnTest_25 ?_
        refine g_iconstv 28 _ ic_1 h.1 dX6_qGoesOnTest_28 ?_
        refine g_iadd 29 h.1 dX6_qGoesOnTest_29 ?_
        refine mp_2 30 h dX6_qGoesOnTest_30 ?_
        have hw := hw _ rfl
        exact g_le (mt_qGoesOnTest_33 h hR hX0 hw) ⟨rfl, trivial⟩
def mw_qGoesOnTest (σ : FS) (Q : Int32 → FS → Prop) : Prop :=
  mw_qGoesOnTest_0 σ Q
theorem mt_qGoesOnTest {κ : Cx} {S : Adr} {Z : State → Prop} {Q : Int32 → FS → Prop} (h : MCx κ cX6_qGoesOnTest S 4) (hR : RetZ κ S Z cX6_qGoesOnTest Q) {σ : FS} (hw : mw_qGoesOnTest σ Q) : MG κ S Z 0 σ [some (.ref (S.2.1 0))] [] := by
  unfold mw_qGoesOnTest at hw
  exact g_le (mt_qGoesOnTest_0 h hR hw) ⟨rfl, trivial⟩
theorem mm_qGoesOnTest {l : Launch} {S : Adr} (hD : MD S) {σ : FS} {Q : Int32 → FS → Prop} (hw : mw_qGoesOnTest σ Q) : mMet l S 4 yX6_qGoesOnTest [] σ (mQi S Q) :=
  m_metZ hD ⟨rfl, by decide, by show _ = some 0; decide +kernel, q2286⟩ q2285 qs106 (Nat.le_of_ble_eq_true rfl) (fun κ Z h hR => mt_qGoesOnTest h hR hw)
def mw_qTest_106 (X2 : Int32 → FS → Prop) (y0 : Int32) (σ : FS) (Q : FS → Prop) : Prop :=
  X2 y0 σ
theorem mt_qTest_106 {κ : Cx} {S : Adr} {Z : State → Prop} {Q : FS → Prop} (h : MCx κ cX6_qTest S 9) (hR : RetV κ S Z cX6_qTest Q) {X2 : Int32 → FS → Prop} (hX2 : ∀ (x1 : Int32) (σ : FS), X2 x1 σ → MG κ S Z 2 σ [some (.ref (S.2.1 0)), some (.int x1), none] []) {y0 : Int32} {σ : FS} (hw : mw_qTest_106 X2 y0 σ Q) : MG κ S Z 106 σ [some (.ref (S.2.1 0)), none, none] [.int y0] := by
  unfold mw_qTest_106 at hw
  refine g_istore_1 106 h.1 rfl dX6_qTest_106 ?_
  refine g_goto 107 2 h.1 dX6_qTest_107 (by decide) ?_
  exact g_le (hX2 _ _ hw) ⟨rfl, rfl, trivial⟩
def mw_qTest_105 (X2 : Int32 → FS → Prop) (σ : FS) (Q : FS → Prop) : Prop :=
  mw_qTest_106 X2 (0 : Int32) σ Q
theorem mt_qTest_105 {κ : Cx} {S : Adr} {Z : State → Prop} {Q : FS → Prop} (h : MCx κ cX6_qTest S 9) (hR : RetV κ S Z cX6_qTest Q) {X2 : Int32 → FS → Prop} (hX2 : ∀ (x1 : Int32) (σ : FS), X2 x1 σ → MG κ S Z 2 σ [some (.ref (S.2.1 0)), some (.int x1), none] []) {σ : FS} (hw : mw_qTest_105 X2 σ Q) : MG κ S Z 105 σ [some (.ref (S.2.1 0)), none, none] [] := by
  unfold mw_qTest_105 at hw
  refine g_iconstv 105 _ ic_0 h.1 dX6_qTest_105 ?_
  exact g_le (mt_qTest_106 h hR hX2 hw) ⟨rfl, trivial⟩
def mw_qTest_110 (σ : FS) (Q : FS → Prop) : Prop :=
  ∀ X110 : FS → Prop, (∀ (σ : FS), ((¬ (fI σ 0 5) = 0 → Q σ) ∧ ((fI σ 0 5) = 0 → (((fI σ 0 105) ≤ 0 → Q σ) ∧ (¬ (fI σ 0 105) ≤ 0 → mw_qDrops σ (fun σ13 => X110 σ13))))) → X110 σ) → X110 σ
theorem mt_qTest_110 {κ : Cx} {S : Adr} {Z : State → Prop} {Q : FS → Prop} (h : MCx κ cX6_qTest S 9) (hR : RetV κ S Z cX6_qTest Q) {σ : FS} (hw : mw_qTest_110 σ Q) : MG κ S Z 110 σ [some (.ref (S.2.1 0)), none, none] [] := by
  refine hw (fun σ => MG κ S Z 110 σ [some (.ref (S.2.1 0)), none, none] []) ?_
  clear hw
  intro σ hw
  have hX110 : ∀ (σ : FS), MG κ S Z 110 σ [some (.ref (S.2.1 0)), none, none] [] → MG κ S Z 110 σ [some (.ref (S.2.1 0)), none, none] [] := fun _ hh => hh
  refine g_aload_0 110 h.1 dX6_qTest_110 ?_
  refine mg_5 111 h dX6_qTest_111 ?_
  refine g_if_ne 114 131 h.1 dX6_qTest_114 (by decide) (fun c => ?_) (fun c => ?_)
  · have hw := hw.1 c
    exact hR 131 _ _ dX6_qTest_131 hw
  · have hw := hw.2 c
    refine g_aload_0 117 h.1 dX6_qTest_117 ?_
    refine mg_105 118 h dX6_qTest_118 ?_
    refine g_if_le 121 131 h.1 dX6_qTest_121 (by decide) (fun c => ?_) (fun c => ?_)
    · have hw := hw.1 c
      exact hR 131 _ _ dX6_qTest_131 hw
    · have hw := hw.2 c
      refine g_aload_0 124 h.1 dX6_qTest_124 ?_
      refine m_callV_0 125 h (mm_qDrops h.2.2.1 hw) (by decide) q2256 (Nat.le_of_ble_eq_true rfl) dX6_qTest_125 (fun σ13 hw => ?_)
      refine g_goto 128 110 h.1 dX6_qTest_128 (by decide) ?_
      exact g_le (hX110 _ hw) ⟨rfl, trivial⟩
def mw_qTest_2 (x1 : Int32) (σ : FS) (Q : FS → Prop) : Prop :=
  ∀ X2 : Int32 → FS → Prop, (∀ (x1 : Int32) (σ : FS), ((x1 = 0 → mw_qTest_110 σ Q) ∧ (¬ x1 = 0 → ((¬ (fI σ 0 5) = 0 → mw_qTest_110 σ Q) ∧ ((fI σ 0 5) = 0 → mw_look σ (fun r2 σ1 => ((¬ r2 = (91 : Int32) → mw_isHere 85 σ1 (fun r4 σ3 => ((r4 = 0 → mw_qFact σ3 (fun σ5 => mw_qDropsNots σ5 (fun σ6 => ((¬ (fI σ6 0 5) = 0 → mw_qTest_105 X2 σ6 Q) ∧ ((fI σ6 0 5) = 0 → mw_qGoesOnTest σ6 (fun r8 σ7 => ((r8 = 0 → mw_qTest_105 X2 σ7 Q) ∧ (¬ r8 = 0 → mw_qTest_106 X2 (1 : Int32) σ7 Q)))))))) ∧ (¬ r4 = 0 → mw_qOpens (12 : Int32) (fI σ3 0 2) σ3 (fun σ9 => mw_needs 85 σ9 (fun σ10 => X2 x1 σ10)))))) ∧ (r2 = (91 : Int32) → mw_qOpens (25 : Int32) (fI σ1 0 2) σ1 (fun σ11 => (∀ σ12, σ12 = sI σ11 0 2 ((fI σ11 0 2) + (1 : Int32)) → X2 x1 σ12))))))))) → X2 x1 σ) → X2 x1 σ
theorem mt_qTest_2 {κ : Cx} {S : Adr} {Z : State → Prop} {Q : FS → Prop} (h : MCx κ cX6_qTest S 9) (hR : RetV κ S Z cX6_qTest Q) {x1 : Int32} {σ : FS} (hw : mw_qTest_2 x1 σ Q) : MG κ S Z 2 σ [some (.ref (S.2.1 0)), some (.int x1), none] [] := by
  refine hw (fun x1 σ => MG κ S Z 2 σ [some (.ref (S.2.1 0)), some (.int x1), none] []) ?_
  clear hw
  intro x1 σ hw
  have hX2 : ∀ (x1 : Int32) (σ : FS), MG κ S Z 2 σ [some (.ref (S.2.1 0)), some (.int x1), none] [] → MG κ S Z 2 σ [some (.ref (S.2.1 0)), some (.int x1), none] [] := fun _ _ hh => hh
  refine g_iload_1 2 h.1 dX6_qTest_2 ?_
  refine g_if_eq 3 110 h.1 dX6_qTest_3 (by decide) (fun c => ?_) (fun c => ?_)
  · have hw := hw.1 c
    exact g_le (mt_qTest_110 h hR hw) ⟨rfl, trivial⟩
  · have hw := hw.2 c
    refine g_aload_0 6 h.1 dX6_qTest_6 ?_
    refine mg_5 7 h dX6_qTest_7 ?_
    refine g_if_ne 10 110 h.1 dX6_qTest_10 (by decide) (fun c => ?_) (fun c => ?_)
    · have hw := hw.1 c
      exact g_le (mt_qTest_110 h hR hw) ⟨rfl, trivial⟩
    · have hw := hw.2 c
      refine g_aload_0 13 h.1 dX6_qTest_13 ?_
      refine m_callI_0 14 h (mm_look h.2.2.1 hw) (by decide) q2129 (Nat.le_of_ble_eq_true rfl) dX6_qTest_14 (fun r2 σ1 hw => ?_)
      refine g_istore_2 17 h.1 rfl dX6_qTest_17 ?_
      refine g_iload_2 18 h.1 dX6_qTest_18 ?_
      refine g_bipush 19 _ bp_91 h.1 dX6_qTest_19 ?_
      refine g_icmp_ne 21 47 h.1 dX6_qTest_21 (by decide) (fun c => ?_) (fun c => ?_)
      · have hw := hw.1 c
        refine g_aload_0 47 h.1 dX6_qTest_47 ?_
        refine g_aload_0 48 h.1 dX6_qTest_48 ?_
        refine mg_85 49 h dX6_qTest_49 ?_
        refine m_callI_1 52 h (mm_isHere h.2.2.1 hw) (by decide) q2125 (Nat.le_of_ble_eq_true rfl) dX6_qTest_52 (fun r4 σ3 hw => ?_)
        refine g_if_eq 55 79 h.1 dX6_qTest_55 (by decide) (fun c => ?_) (fun c => ?_)
        · have hw := hw.1 c
          refine g_aload_0 79 h.1 dX6_qTest_79 ?_
          refine m_callV_0 80 h (mm_qFact h.2.2.1 hw) (by decide) q2220 (Nat.le_of_ble_eq_true rfl) dX6_qTest_80 (fun σ5 hw => ?_)
          refine g_aload_0 83 h.1 dX6_qTest_83 ?_
          refine m_callV_0 84 h (mm_qDropsNots h.2.2.1 hw) (by decide) q2279 (Nat.le_of_ble_eq_true rfl) dX6_qTest_84 (fun σ6 hw => ?_)
          refine g_aload_0 87 h.1 dX6_qTest_87 ?_
          refine mg_5 88 h dX6_qTest_88 ?_
          refine g_if_ne 91 105 h.1 dX6_qTest_91 (by decide) (fun c => ?_) (fun c => ?_)
          · have hw := hw.1 c
            exact g_le (mt_qTest_105 h hR hX2 hw) ⟨rfl, trivial⟩
          · have hw := hw.2 c
            refine g_aload_0 94 h.1 dX6_qTest_94 ?_
            refine m_callI_0 95 h (mm_qGoesOnTest h.2.2.1 hw) (by decide) q2283 (Nat.le_of_ble_eq_true rfl) dX6_qTest_95 (fun r8 σ7 hw => ?_)
            refine g_if_eq 98 105 h.1 dX6_qTest_98 (by decide) (fun c => ?_) (fun c => ?_)
            · have hw := hw.1 c
              exact g_le (mt_qTest_105 h hR hX2 hw) ⟨rfl, trivial⟩
            · have hw := hw.2 c
              refine g_iconstv 101 _ ic_1 h.1 dX6_qTest_101 ?_
              refine g_goto 102 106 h.1 dX6_qTest_102 (by decide) ?_
              exact g_le (mt_qTest_106 h hR hX2 hw) ⟨rfl, trivial⟩
        · have hw := hw.2 c
          refine g_aload_0 58 h.1 dX6_qTest_58 ?_
          refine g_bipush 59 _ bp_12 h.1 dX6_qTest_59 ?_
          refine g_aload_0 61 h.1 dX6_qTest_61 ?_
          refine mg_2 62 h dX6_qTest_62 ?_
          refine m_callV_2 65 h (mm_qOpens h.2.2.1 hw) (by decide) q2216 (Nat.le_of_ble_eq_true rfl) dX6_qTest_65 (fun σ9 hw => ?_)
          refine g_aload_0 68 h.1 dX6_qTest_68 ?_
          refine g_aload_0 69 h.1 dX6_qTest_69 ?_
          refine mg_85 70 h dX6_qTest_70 ?_
          refine m_callV_1 73 h (mm_needs h.2.2.1 hw) (by decide) q2117 (Nat.le_of_ble_eq_true rfl) dX6_qTest_73 (fun σ10 hw => ?_)
          refine g_goto 76 2 h.1 dX6_qTest_76 (by decide) ?_
          exact g_le (hX2 _ _ hw) ⟨rfl, rfl, trivial⟩
      · have hw := hw.2 c
        refine g_aload_0 24 h.1 dX6_qTest_24 ?_
        refine g_bipush 25 _ bp_25 h.1 dX6_qTest_25 ?_
        refine g_aload_0 27 h.1 dX6_qTest_27 ?_
        refine mg_2 28 h dX6_qTest_28 ?_
        refine m_callV_2 31 h (mm_qOpens h.2.2.1 hw) (by decide) q2216 (Nat.le_of_ble_eq_true rfl) dX6_qTest_31 (fun σ11 hw => ?_)
        refine g_aload_0 34 h.1 dX6_qTest_34 ?_
        refine g_dup 35 rfl h.1 dX6_qTest_35 ?_
        refine mg_2 36 h dX6_qTest_36 ?_
        refine g_iconstv 39 _ ic_1 h.1 dX6_qTest_39 ?_
        refine g_iadd 40 h.1 dX6_qTest_40 ?_
        refine mp_2 41 h dX6_qTest_41 ?_
        have hw := hw _ rfl
        refine g_goto 44 2 h.1 dX6_qTest_44 (by decide) ?_
        exact g_le (hX2 _ _ hw) ⟨rfl, rfl, trivial⟩
def mw_qTest (σ : FS) (Q : FS → Prop) : Prop :=
  mw_qTest_2 (1 : Int32) σ Q
theorem mt_qTest {κ : Cx} {S : Adr} {Z : State → Prop} {Q : FS → Prop} (h : MCx κ cX6_qTest S 9) (hR : RetV κ S Z cX6_qTest Q) {σ : FS} (hw : mw_qTest σ Q) : MG κ S Z 0 σ [some (.ref (S.2.1 0)), none, none] [] := by
  unfold mw_qTest at hw
  refine g_iconstv 0 _ ic_1 h.1 dX6_qTest_0 ?_
  refine g_istore_1 1 h.1 rfl dX6_qTest_1 ?_
  exact g_le (mt_qTest_2 h hR hw) ⟨rfl, rfl, trivial⟩
theorem mm_qTest {l : Launch} {S : Adr} (hD : MD S) {σ : FS} {Q : FS → Prop} (hw : mw_qTest σ Q) : mMet l S 9 yX6_qTest [] σ (mQv S Q) :=
  m_metV hD ⟨rfl, by decide, by show _ = some 0; decide +kernel, q2215⟩ q2214 qs89 (Nat.le_of_ble_eq_true rfl) (fun κ Z h hR => mt_qTest h hR hw)
def mw_isTopic (x1 : Int64) (σ : FS) (Q : Int32 → FS → Prop) : Prop :=
  mw_topicMany σ (fun r2 σ1 => mw_isIn x1 (0 : Int64) (Int32.toInt64 (r2 - (1 : Int32))) σ1 (fun r4 σ3 => (nb r4 ∧ Q r4 σ3)))
theorem mt_isTopic {κ : Cx} {S : Adr} {Z : State → Prop} {Q : Int32 → FS → Prop} (h : MCx κ cX6_isTopic S 2) (hR : RetZ κ S Z cX6_isTopic Q) {x1 : Int64} {σ : FS} (hw : mw_isTopic x1 σ Q) : MG κ S Z 0 σ [some (.ref (S.2.1 0)), some (.long x1), none] [] := by
  unfold mw_isTopic at hw
  refine g_lload_1 0 h.1 dX6_isTopic_0 ?_
  refine g_lconst 1 _ lc_0 h.1 dX6_isTopic_1 ?_
  refine g_aload_0 2 h.1 dX6_isTopic_2 ?_
  refine m_callI_0 3 h (mm_topicMany h.2.2.1 hw) (by decide) q2303 (Nat.le_of_ble_eq_true rfl) dX6_isTopic_3 (fun r2 σ1 hw => ?_)
  refine g_iconstv 6 _ ic_1 h.1 dX6_isTopic_6 ?_
  refine g_isub 7 h.1 dX6_isTopic_7 ?_
  refine g_i2l 8 h.1 dX6_isTopic_8 ?_
  refine m_scallI_3 9 h (mm_isIn h.2.2.1 hw) (by decide) q2147 (Nat.le_of_ble_eq_true rfl) dX6_isTopic_9 (fun r4 σ3 hw => ?_)
  exact hR 12 _ _ _ dX6_isTopic_12 hw.1 hw.2
theorem mm_isTopic {l : Launch} {S : Adr} (hD : MD S) {x1 : Int64} {σ : FS} {Q : Int32 → FS → Prop} (hw : mw_isTopic x1 σ Q) : mMet l S 2 yX6_isTopic [.long x1] σ (mQi S Q) :=
  m_metZ hD ⟨rfl, by decide, by show _ = some 1; decide +kernel, q2375⟩ q2374 qs121 (Nat.le_of_ble_eq_true rfl) (fun κ Z h hR => mt_isTopic h hR hw)
def mw_qOf (x1 : Int32) (x2 : Int64) (x4 : Int32) (σ : FS) (Q : Int64 → FS → Prop) : Prop :=
  ((x1 = 0 → mw_isTopic x2 σ (fun r2 σ1 => ((r2 = 0 → Q (0 : Int64) σ1) ∧ (¬ r2 = 0 → mw_knowsOf x4 σ1 (fun r4 σ3 => ((¬ ((r4 >>> ((Int64.toInt32 x2) &&& 31)) &&& (1 : Int32)) = (1 : Int32) → Q (0 : Int64) σ3) ∧ (((r4 >>> ((Int64.toInt32 x2) &&& 31)) &&& (1 : Int32)) = (1 : Int32) → Q (1 : Int64) σ3))))))) ∧ (¬ x1 = 0 → mw_isTopic x2 σ (fun r6 σ5 => ((r6 = 0 → Q (0 : Int64) σ5) ∧ (¬ r6 = 0 → (vp_in (((5 : Int32) * x4) + (Int64.toInt32 x2)) 35 ∧ Q (Int32.toInt64 (fA σ5 61 (Int32.toNatClampNeg (((5 : Int32) * x4) + (Int64.toInt32 x2))))) σ5))))))
theorem mt_qOf {κ : Cx} {S : Adr} {Z : State → Prop} {Q : Int64 → FS → Prop} (h : MCx κ cX6_qOf S 3) (hR : RetL κ S Z cX6_qOf Q) {x1 : Int32} {x2 : Int64} {x4 : Int32} {σ : FS} (hw : mw_qOf x1 x2 x4 σ Q) : MG κ S Z 0 σ [some (.ref (S.2.1 0)), some (.int x1), some (.long x2), none, some (.int x4)] [] := by
  unfold mw_qOf at hw
  refine g_iload_1 0 h.1 dX6_qOf_0 ?_
  rcases Classical.em (x1 = 0) with c0 | c0
  · have hw := hw.1 c0
    refine g_lookup 1 20 19 h.1 dX6_qOf_1 (by decide) (by rw [c0]; decide) (by decide) ?_
    refine g_aload_0 20 h.1 dX6_qOf_20 ?_
    refine g_lload_2 21 h.1 dX6_qOf_21 ?_
    refine m_callI_1 22 h (mm_isTopic h.2.2.1 hw) (by decide) q2372 (Nat.le_of_ble_eq_true rfl) dX6_qOf_22 (fun r2 σ1 hw => ?_)
    refine g_if_eq 25 47 h.1 dX6_qOf_25 (by decide) (fun c => ?_) (fun c => ?_)
    · have hw := hw.1 c
      refine g_lconst 47 _ lc_0 h.1 dX6_qOf_47 ?_
      exact hR 48 _ _ _ dX6_qOf_48 hw
    · have hw := hw.2 c
      refine g_aload_0 28 h.1 dX6_qOf_28 ?_
      refine g_iload_4 29 h.1 dX6_qOf_29 ?_
      refine m_callI_1 31 h (mm_knowsOf h.2.2.1 hw) (by decide) q2360 (Nat.le_of_ble_eq_true rfl) dX6_qOf_31 (fun r4 σ3 hw => ?_)
      refine g_lload_2 34 h.1 dX6_qOf_34 ?_
      refine g_l2i 35 h.1 dX6_qOf_35 ?_
      refine g_ishr 36 h.1 dX6_qOf_36 ?_
      refine g_iconstv 37 _ ic_1 h.1 dX6_qOf_37 ?_
      refine g_iand 38 h.1 dX6_qOf_38 ?_
      refine g_iconstv 39 _ ic_1 h.1 dX6_qOf_39 ?_
      refine g_icmp_ne 40 47 h.1 dX6_qOf_40 (by decide) (fun c => ?_) (fun c => ?_)
      · have hw := hw.1 c
        refine g_lconst 47 _ lc_0 h.1 dX6_qOf_47 ?_
        exact hR 48 _ _ _ dX6_qOf_48 hw
      · have hw := hw.2 c
        refine g_lconst 43 _ lc_1 h.1 dX6_qOf_43 ?_
        refine g_goto 44 48 h.1 dX6_qOf_44 (by decide) ?_
        exact hR 48 _ _ _ dX6_qOf_48 hw
  · have hw := hw.2 c0
    refine g_lookup 1 49 48 h.1 dX6_qOf_1 (by decide) (by have e : ¬ Int32.toInt x1 = 0 := fun e => c0 (Int32.toInt_inj.mp (e.trans (by decide))); simp [Op.lookupswitch.offset]; omega) (by decide) ?_
    refine g_aload_0 49 h.1 dX6_qOf_49 ?_
    refine g_lload_2 50 h.1 dX6_qOf_50 ?_
    refine m_callI_1 51 h (mm_isTopic h.2.2.1 hw) (by decide) q2372 (Nat.le_of_ble_eq_true rfl) dX6_qOf_51 (fun r6 σ5 hw => ?_)
    refine g_if_eq 54 73 h.1 dX6_qOf_54 (by decide) (fun c => ?_) (fun c => ?_)
    · have hw := hw.1 c
      refine g_lconst 73 _ lc_0 h.1 dX6_qOf_73 ?_
      exact hR 74 _ _ _ dX6_qOf_74 hw
    · have hw := hw.2 c
      refine g_aload_0 57 h.1 dX6_qOf_57 ?_
      refine mg_61 58 h dX6_qOf_58 ?_
      refine g_iconstv 61 _ ic_5 h.1 dX6_qOf_61 ?_
      refine g_iload_4 62 h.1 dX6_qOf_62 ?_
      refine g_imul 64 h.1 dX6_qOf_64 ?_
      refine g_lload_2 65 h.1 dX6_qOf_65 ?_
      refine g_l2i 66 h.1 dX6_qOf_66 ?_
      refine g_iadd 67 h.1 dX6_qOf_67 ?_
      refine m_iald 68 rfl hw.1 h dX6_qOf_68 ?_
      have hw := hw.2
      refine g_i2l 69 h.1 dX6_qOf_69 ?_
      refine g_goto 70 74 h.1 dX6_qOf_70 (by decide) ?_
      exact hR 74 _ _ _ dX6_qOf_74 hw
theorem mm_qOf {l : Launch} {S : Adr} (hD : MD S) {x1 : Int32} {x2 : Int64} {x4 : Int32} {σ : FS} {Q : Int64 → FS → Prop} (hw : mw_qOf x1 x2 x4 σ Q) : mMet l S 3 yX6_qOf [.int x1, .long x2, .int x4] σ (mQl S Q) :=
  m_metL hD ⟨rfl, by decide, by show _ = some 3; decide +kernel, q2662⟩ q2661 qs165 (Nat.le_of_ble_eq_true rfl) (fun κ Z h hR => mt_qOf h hR hw)
def mw_qTold_162 (X7 : Int32 → Int32 → FS → Prop) (x1 : Int32) (x2 : Int32) (σ : FS) (Q : Int64 → FS → Prop) : Prop :=
  X7 x1 (x2 + 1) σ
theorem mt_qTold_162 {κ : Cx} {S : Adr} {Z : State → Prop} {Q : Int64 → FS → Prop} (h : MCx κ cX6_qTold S 4) (hR : RetL κ S Z cX6_qTold Q) {X7 : Int32 → Int32 → FS → Prop} (hX7 : ∀ (x1 : Int32) (x2 : Int32) (σ : FS), X7 x1 x2 σ → MG κ S Z 7 σ [some (.ref (S.2.1 0)), some (.int x1), some (.int x2), none] []) {x1 : Int32} {x2 : Int32} {σ : FS} (hw : mw_qTold_162 X7 x1 x2 σ Q) : MG κ S Z 162 σ [some (.ref (S.2.1 0)), some (.int x1), some (.int x2), none] [] := by
  unfold mw_qTold_162 at hw
  refine g_iinc_2 162 (x2 + 1) (congrArg _ ic_1) h.1 rfl dX6_qTold_162 ?_
  refine g_goto 165 7 h.1 dX6_qTold_165 (by decide) ?_
  exact g_le (hX7 _ _ _ hw) ⟨rfl, rfl, rfl, trivial⟩
def mw_qTold_7 (x1 : Int32) (x2 : Int32) (σ : FS) (Q : Int64 → FS → Prop) : Prop :=
  ∀ X7 : Int32 → Int32 → FS → Prop, (∀ (x1 : Int32) (x2 : Int32) (σ : FS), (((fI σ 0 103) ≤ x2 → (vp_in (0 : Int32) 1700 ∧ Q (fB σ 108 (Int32.toNatClampNeg (0 : Int32))) σ)) ∧ (¬ (fI σ 0 103) ≤ x2 → (vp_in x2 1700 ∧ (((fA σ 102 (Int32.toNatClampNeg x2)) < (1000 : Int32) → (((fA σ 102 (Int32.toNatClampNeg x2)) < (60 : Int32) → (((fA σ 102 (Int32.toNatClampNeg x2)) < (40 : Int32) → ((¬ (fA σ 102 (Int32.toNatClampNeg x2)) = (13 : Int32) → ((¬ (fA σ 102 (Int32.toNatClampNeg x2)) = (12 : Int32) → mw_qJoins (fA σ 102 (Int32.toNatClampNeg x2)) σ (fun σ2 => mw_qTold_162 X7 x1 x2 σ2 Q)) ∧ ((fA σ 102 (Int32.toNatClampNeg x2)) = (12 : Int32) → (vp_in ((fI σ 0 109) - (1 : Int32)) 1700 ∧ (vp_in ((fI σ 0 109) - (1 : Int32)) 1700 ∧ ∀ σ3, σ3 = sB σ 108 (Int32.toNatClampNeg ((fI σ 0 109) - (1 : Int32))) ((1 : Int64) - (fB σ 108 (Int32.toNatClampNeg ((fI σ 0 109) - (1 : Int32))))) → mw_qTold_162 X7 x1 x2 σ3 Q))))) ∧ ((fA σ 102 (Int32.toNatClampNeg x2)) = (13 : Int32) → mw_qPuts (1 : Int64) σ (fun σ4 => mw_qTold_162 X7 x1 x2 σ4 Q)))) ∧ (¬ (fA σ 102 (Int32.toNatClampNeg x2)) < (40 : Int32) → mw_qPartOf ((fA σ 102 (Int32.toNatClampNeg x2)) - (40 : Int32)) x1 σ (fun r6 σ5 => mw_qClip r6 σ5 (fun r8 σ7 => mw_qPuts r8 σ7 (fun σ9 => mw_qTold_162 X7 x1 x2 σ9 Q)))))) ∧ (¬ (fA σ 102 (Int32.toNatClampNeg x2)) < (60 : Int32) → (vp_in ((fI σ 0 109) - (1 : Int32)) 1700 ∧ mw_qOf ((fA σ 102 (Int32.toNatClampNeg x2)) - (60 : Int32)) (fB σ 108 (Int32.toNatClampNeg ((fI σ 0 109) - (1 : Int32)))) x1 σ (fun r11 σ10 => mw_qClip r11 σ10 (fun r13 σ12 => (vp_in ((fI σ 0 109) - (1 : Int32)) 1700 ∧ ∀ σ14, σ14 = sB σ12 108 (Int32.toNatClampNeg ((fI σ 0 109) - (1 : Int32))) r13 → mw_qTold_162 X7 x1 x2 σ14 Q))))))) ∧ (¬ (fA σ 102 (Int32.toNatClampNeg x2)) < (1000 : Int32) → mw_qPuts (Int32.toInt64 ((fA σ 102 (Int32.toNatClampNeg x2)) - (1000 : Int32))) σ (fun σ15 => mw_qTold_162 X7 x1 x2 σ15 Q)))))) → X7 x1 x2 σ) → X7 x1 x2 σ
theorem mt_qTold_7 {κ : Cx} {S : Adr} {Z : State → Prop} {Q : Int64 → FS → Prop} (h : MCx κ cX6_qTold S 4) (hR : RetL κ S Z cX6_qTold Q) {x1 : Int32} {x2 : Int32} {σ : FS} (hw : mw_qTold_7 x1 x2 σ Q) : MG κ S Z 7 σ [some (.ref (S.2.1 0)), some (.int x1), some (.int x2), none] [] := by
  refine hw (fun x1 x2 σ => MG κ S Z 7 σ [some (.ref (S.2.1 0)), some (.int x1), some (.int x2), none] []) ?_
  clear hw
  intro x1 x2 σ hw
  have hX7 : ∀ (x1 : Int32) (x2 : Int32) (σ : FS), MG κ S Z 7 σ [some (.ref (S.2.1 0)), some (.int x1), some (.int x2), none] [] → MG κ S Z 7 σ [some (.ref (S.2.1 0)), some (.int x1), some (.int x2), none] [] := fun _ _ _ hh => hh
  refine g_iload_2 7 h.1 dX6_qTold_7 ?_
  refine g_aload_0 8 h.1 dX6_qTold_8 ?_
  refine mg_103 9 h dX6_qTold_9 ?_
  refine g_icmp_ge 12 168 h.1 dX6_qTold_12 (by decide) (fun c => ?_) (fun c => ?_)
  · have hw := hw.1 c
    refine g_aload_0 168 h.1 dX6_qTold_168 ?_
    refine mg_108 169 h dX6_qTold_169 ?_
    refine g_iconstv 172 _ ic_0 h.1 dX6_qTold_172 ?_
    refine m_lald 173 rfl hw.1 h dX6_qTold_173 ?_
    have hw := hw.2
    exact hR 174 _ _ _ dX6_qTold_174 hw
  · have hw := hw.2 c
    refine g_aload_0 15 h.1 dX6_qTold_15 ?_
    refine mg_102 16 h dX6_qTold_16 ?_
    refine g_iload_2 19 h.1 dX6_qTold_19 ?_
    refine m_iald 20 rfl hw.1 h dX6_qTold_20 ?_
    have hw := hw.2
    refine g_istore_3 21 h.1 rfl dX6_qTold_21 ?_
    refine g_iload_3 22 h.1 dX6_qTold_22 ?_
    refine g_sipush 23 _ sp_1000 h.1 dX6_qTold_23 ?_
    refine g_icmp_lt 26 42 h.1 dX6_qTold_26 (by decide) (fun c => ?_) (fun c => ?_)
    · have hw := hw.1 c
      refine g_iload_3 42 h.1 dX6_qTold_42 ?_
      refine g_bipush 43 _ bp_60 h.1 dX6_qTold_43 ?_
      refine g_icmp_lt 45 85 h.1 dX6_qTold_45 (by decide) (fun c => ?_) (fun c => ?_)
      · have hw := hw.1 c
        refine g_iload_3 85 h.1 dX6_qTold_85 ?_
        refine g_bipush 86 _ bp_40 h.1 dX6_qTold_86 ?_
        refine g_icmp_lt 88 110 h.1 dX6_qTold_88 (by decide) (fun c => ?_) (fun c => ?_)
        · have hw := hw.1 c
          refine g_iload_3 110 h.1 dX6_qTold_110 ?_
          refine g_bipush 111 _ bp_13 h.1 dX6_qTold_111 ?_
          refine g_icmp_ne 113 124 h.1 dX6_qTold_113 (by decide) (fun c => ?_) (fun c => ?_)
          · have hw := hw.1 c
            refine g_iload_3 124 h.1 dX6_qTold_124 ?_
            refine g_bipush 125 _ bp_12 h.1 dX6_qTold_125 ?_
            refine g_icmp_ne 127 157 h.1 dX6_qTold_127 (by decide) (fun c => ?_) (fun c => ?_)
            · have hw := hw.1 c
              refine g_aload_0 157 h.1 dX6_qTold_157 ?_
              refine g_iload_3 158 h.1 dX6_qTold_158 ?_
              refine m_callV_1 159 h (mm_qJoins h.2.2.1 hw) (by decide) q2395 (Nat.le_of_ble_eq_true rfl) dX6_qTold_159 (fun σ2 hw => ?_)
              exact g_le (mt_qTold_162 h hR hX7 hw) ⟨rfl, rfl, rfl, trivial⟩
            · have hw := hw.2 c
              refine g_aload_0 130 h.1 dX6_qTold_130 ?_
              refine mg_108 131 h dX6_qTold_131 ?_
              refine g_aload_0 134 h.1 dX6_qTold_134 ?_
              refine mg_109 135 h dX6_qTold_135 ?_
              refine g_iconstv 138 _ ic_1 h.1 dX6_qTold_138 ?_
              refine g_isub 139 h.1 dX6_qTold_139 ?_
              refine g_lconst 140 _ lc_1 h.1 dX6_qTold_140 ?_
              refine g_aload_0 141 h.1 dX6_qTold_141 ?_
              refine mg_108 142 h dX6_qTold_142 ?_
              refine g_aload_0 145 h.1 dX6_qTold_145 ?_
              refine mg_109 146 h dX6_qTold_146 ?_
              refine g_iconstv 149 _ ic_1 h.1 dX6_qTold_149 ?_
              refine g_isub 150 h.1 dX6_qTold_150 ?_
              refine m_lald 151 rfl hw.1 h dX6_qTold_151 ?_
              have hw := hw.2
              refine g_lsub 152 h.1 dX6_qTold_152 ?_
              refine m_last 153 rfl hw.1 h dX6_qTold_153 ?_
              have hw := hw.2 _ rfl
              refine g_goto 154 162 h.1 dX6_qTold_154 (by decide) ?_
              exact g_le (mt_qTold_162 h hR hX7 hw) ⟨rfl, rfl, rfl, trivial⟩
          · have hw := hw.2 c
            refine g_aload_0 116 h.1 dX6_qTold_116 ?_
            refine g_lconst 117 _ lc_1 h.1 dX6_qTold_117 ?_
            refine m_callV_1 118 h (mm_qPuts h.2.2.1 hw) (by decide) q2384 (Nat.le_of_ble_eq_true rfl) dX6_qTold_118 (fun σ4 hw => ?_)
            refine g_goto 121 162 h.1 dX6_qTold_121 (by decide) ?_
            exact g_le (mt_qTold_162 h hR hX7 hw) ⟨rfl, rfl, rfl, trivial⟩
        · have hw := hw.2 c
          refine g_aload_0 91 h.1 dX6_qTold_91 ?_
          refine g_aload_0 92 h.1 dX6_qTold_92 ?_
          refine g_iload_3 93 h.1 dX6_qTold_93 ?_
          refine g_bipush 94 _ bp_40 h.1 dX6_qTold_94 ?_
          refine g_isub 96 h.1 dX6_qTold_96 ?_
          refine g_iload_1 97 h.1 dX6_qTold_97 ?_
          refine m_callL_2 98 h (mm_qPartOf h.2.2.1 hw) (by decide) q2388 (Nat.le_of_ble_eq_true rfl) dX6_qTold_98 (fun r6 σ5 hw => ?_)
          refine m_scallL_1 101 h (mm_qClip h.2.2.1 hw) (by decide) q2399 (Nat.le_of_ble_eq_true rfl) dX6_qTold_101 (fun r8 σ7 hw => ?_)
          refine m_callV_1 104 h (mm_qPuts h.2.2.1 hw) (by decide) q2384 (Nat.le_of_ble_eq_true rfl) dX6_qTold_104 (fun σ9 hw => ?_)
          refine g_goto 107 162 h.1 dX6_qTold_107 (by decide) ?_
          exact g_le (mt_qTold_162 h hR hX7 hw) ⟨rfl, rfl, rfl, trivial⟩
      · have hw := hw.2 c
        refine g_aload_0 48 h.1 dX6_qTold_48 ?_
        refine mg_108 49 h dX6_qTold_49 ?_
        refine g_aload_0 52 h.1 dX6_qTold_52 ?_
        refine mg_109 53 h dX6_qTold_53 ?_
        refine g_iconstv 56 _ ic_1 h.1 dX6_qTold_56 ?_
        refine g_isub 57 h.1 dX6_qTold_57 ?_
        refine g_aload_0 58 h.1 dX6_qTold_58 ?_
        refine g_iload_3 59 h.1 dX6_qTold_59 ?_
        refine g_bipush 60 _ bp_60 h.1 dX6_qTold_60 ?_
        refine g_isub 62 h.1 dX6_qTold_62 ?_
        refine g_aload_0 63 h.1 dX6_qTold_63 ?_
        refine mg_108 64 h dX6_qTold_64 ?_
        refine g_aload_0 67 h.1 dX6_qTold_67 ?_
        refine mg_109 68 h dX6_qTold_68 ?_
        refine g_iconstv 71 _ ic_1 h.1 dX6_qTold_71 ?_
        refine g_isub 72 h.1 dX6_qTold_72 ?_
        refine m_lald 73 rfl hw.1 h dX6_qTold_73 ?_
        have hw := hw.2
        refine g_iload_1 74 h.1 dX6_qTold_74 ?_
        refine m_callL_3 75 h (mm_qOf h.2.2.1 hw) (by decide) q2659 (Nat.le_of_ble_eq_true rfl) dX6_qTold_75 (fun r11 σ10 hw => ?_)
        refine m_scallL_1 78 h (mm_qClip h.2.2.1 hw) (by decide) q2399 (Nat.le_of_ble_eq_true rfl) dX6_qTold_78 (fun r13 σ12 hw => ?_)
        refine m_last 81 rfl hw.1 h dX6_qTold_81 ?_
        have hw := hw.2 _ rfl
        refine g_goto 82 162 h.1 dX6_qTold_82 (by decide) ?_
        exact g_le (mt_qTold_162 h hR hX7 hw) ⟨rfl, rfl, rfl, trivial⟩
    · have hw := hw.2 c
      refine g_aload_0 29 h.1 dX6_qTold_29 ?_
      refine g_iload_3 30 h.1 dX6_qTold_30 ?_
      refine g_sipush 31 _ sp_1000 h.1 dX6_qTold_31 ?_
      refine g_isub 34 h.1 dX6_qTold_34 ?_
      refine g_i2l 35 h.1 dX6_qTold_35 ?_
      refine m_callV_1 36 h (mm_qPuts h.2.2.1 hw) (by decide) q2384 (Nat.le_of_ble_eq_true rfl) dX6_qTold_36 (fun σ15 hw => ?_)
      refine g_goto 39 162 h.1 dX6_qTold_39 (by decide) ?_
      exact g_le (mt_qTold_162 h hR hX7 hw) ⟨rfl, rfl, rfl, trivial⟩
def mw_qTold (x1 : Int32) (σ : FS) (Q : Int64 → FS → Prop) : Prop :=
  (∀ σ1, σ1 = sI σ 0 109 (0 : Int32) → mw_qTold_7 x1 (0 : Int32) σ1 Q)
theorem mt_qTold {κ : Cx} {S : Adr} {Z : State → Prop} {Q : Int64 → FS → Prop} (h : MCx κ cX6_qTold S 4) (hR : RetL κ S Z cX6_qTold Q) {x1 : Int32} {σ : FS} (hw : mw_qTold x1 σ Q) : MG κ S Z 0 σ [some (.ref (S.2.1 0)), some (.int x1), none, none] [] := by
  unfold mw_qTold at hw
  refine g_aload_0 0 h.1 dX6_qTold_0 ?_
  refine g_iconstv 1 _ ic_0 h.1 dX6_qTold_1 ?_
  refine mp_109 2 h dX6_qTold_2 ?_
  have hw := hw _ rfl
  refine g_iconstv 5 _ ic_0 h.1 dX6_qTold_5 ?_
  refine g_istore_2 6 h.1 rfl dX6_qTold_6 ?_
  exact g_le (mt_qTold_7 h hR hw) ⟨rfl, rfl, rfl, trivial⟩
theorem mm_qTold {l : Launch} {S : Adr} (hD : MD S) {x1 : Int32} {σ : FS} {Q : Int64 → FS → Prop} (hw : mw_qTold x1 σ Q) : mMet l S 4 yX6_qTold [.int x1] σ (mQl S Q) :=
  m_metL hD ⟨rfl, by decide, by show _ = some 1; decide +kernel, q2658⟩ q2657 qs164 (Nat.le_of_ble_eq_true rfl) (fun κ Z h hR => mt_qTold h hR hw)
def mw_ask_192 (x1 : Int32) (x2 : Int32) (σ : FS) (Q : Int64 → FS → Prop) : Prop :=
  ∀ X192 : Int32 → Int32 → FS → Prop, (∀ (x1 : Int32) (x2 : Int32) (σ : FS), mw_personMany σ (fun r27 σ26 => ((r27 ≤ x2 → Q (fL σ26 0 110) σ26) ∧ (¬ r27 ≤ x2 → (∀ σ28, σ28 = sI σ26 0 54 x2 → mw_qTold x2 σ28 (fun r30 σ29 => mw_qTakes x1 r30 x2 σ29 (fun σ31 => X192 x1 (x2 + 1) σ31)))))) → X192 x1 x2 σ) → X192 x1 x2 σ
theorem mt_ask_192 {κ : Cx} {S : Adr} {Z : State → Prop} {Q : Int64 → FS → Prop} (h : MCx κ cX6_ask S 10) (hR : RetL κ S Z cX6_ask Q) {x1 : Int32} {x2 : Int32} {σ : FS} (hw : mw_ask_192 x1 x2 σ Q) : MG κ S Z 192 σ [some (.ref (S.2.1 0)), some (.int x1), some (.int x2)] [] := by
  refine hw (fun x1 x2 σ => MG κ S Z 192 σ [some (.ref (S.2.1 0)), some (.int x1), some (.int x2)] []) ?_
  clear hw
  intro x1 x2 σ hw
  have hX192 : ∀ (x1 : Int32) (x2 : Int32) (σ : FS), MG κ S Z 192 σ [some (.ref (S.2.1 0)), some (.int x1), some (.int x2)] [] → MG κ S Z 192 σ [some (.ref (S.2.1 0)), some (.int x1), some (.int x2)] [] := fun _ _ _ hh => hh
  refine g_iload_2 192 h.1 dX6_ask_192 ?_
  refine g_aload_0 193 h.1 dX6_ask_193 ?_
  refine m_callI_0 194 h (mm_personMany h.2.2.1 hw) (by decide) q2307 (Nat.le_of_ble_eq_true rfl) dX6_ask_194 (fun r27 σ26 hw => ?_)
  refine g_icmp_ge 197 222 h.1 dX6_ask_197 (by decide) (fun c => ?_) (fun c => ?_)
  · have hw := hw.1 c
    refine g_aload_0 222 h.1 dX6_ask_222 ?_
    refine mg_110 223 h dX6_ask_223 ?_
    exact hR 226 _ _ _ dX6_ask_226 hw
  · have hw := hw.2 c
    refine g_aload_0 200 h.1 dX6_ask_200 ?_
    refine g_iload_2 201 h.1 dX6_ask_201 ?_
    refine mp_54 202 h dX6_ask_202 ?_
    have hw := hw _ rfl
    refine g_aload_0 205 h.1 dX6_ask_205 ?_
    refine g_iload_1 206 h.1 dX6_ask_206 ?_
    refine g_aload_0 207 h.1 dX6_ask_207 ?_
    refine g_iload_2 208 h.1 dX6_ask_208 ?_
    refine m_callL_1 209 h (mm_qTold h.2.2.1 hw) (by decide) q2655 (Nat.le_of_ble_eq_true rfl) dX6_ask_209 (fun r30 σ29 hw => ?_)
    refine g_iload_2 212 h.1 dX6_ask_212 ?_
    refine m_callV_3 213 h (mm_qTakes h.2.2.1 hw) (by decide) q2663 (Nat.le_of_ble_eq_true rfl) dX6_ask_213 (fun σ31 hw => ?_)
    refine g_iinc_2 216 (x2 + 1) (congrArg _ ic_1) h.1 rfl dX6_ask_216 ?_
    refine g_goto 219 192 h.1 dX6_ask_219 (by decide) ?_
    exact g_le (hX192 _ _ _ hw) ⟨rfl, rfl, rfl, trivial⟩
def mw_ask_173 (x1 : Int32) (y0 : Int64) (σ : FS) (Q : Int64 → FS → Prop) : Prop :=
  (∀ σ22, σ22 = sL σ 0 110 y0 → (∀ σ23, σ23 = sI σ22 0 111 (1 : Int32) → mw_laysLifted σ23 (fun σ24 => (∀ σ25, σ25 = sI σ24 0 51 (2 : Int32) → mw_ask_192 x1 (0 : Int32) σ25 Q))))
theorem mt_ask_173 {κ : Cx} {S : Adr} {Z : State → Prop} {Q : Int64 → FS → Prop} (h : MCx κ cX6_ask S 10) (hR : RetL κ S Z cX6_ask Q) {x1 : Int32} {y0 : Int64} {σ : FS} (hw : mw_ask_173 x1 y0 σ Q) : MG κ S Z 173 σ [some (.ref (S.2.1 0)), some (.int x1), none] [.long y0, .ref (S.2.1 0)] := by
  unfold mw_ask_173 at hw
  refine mp_110 173 h dX6_ask_173 ?_
  have hw := hw _ rfl
  refine g_aload_0 176 h.1 dX6_ask_176 ?_
  refine g_iconstv 177 _ ic_1 h.1 dX6_ask_177 ?_
  refine mp_111 178 rfl rfl h dX6_ask_178 ?_
  have hw := hw _ rfl
  refine g_aload_0 181 h.1 dX6_ask_181 ?_
  refine m_callV_0 182 h (mm_laysLifted h.2.2.1 hw) (by decide) q2651 (Nat.le_of_ble_eq_true rfl) dX6_ask_182 (fun σ24 hw => ?_)
  refine g_aload_0 185 h.1 dX6_ask_185 ?_
  refine g_iconstv 186 _ ic_2 h.1 dX6_ask_186 ?_
  refine mp_51 187 h dX6_ask_187 ?_
  have hw := hw _ rfl
  refine g_iconstv 190 _ ic_0 h.1 dX6_ask_190 ?_
  refine g_istore_2 191 h.1 rfl dX6_ask_191 ?_
  exact g_le (mt_ask_192 h hR hw) ⟨rfl, rfl, rfl, trivial⟩
def mw_ask_133 (x1 : Int32) (σ : FS) (Q : Int64 → FS → Prop) : Prop :=
  (∀ σ20, σ20 = sI σ 0 7 (fI σ 0 5) → (∀ σ21, σ21 = sI σ20 0 8 (fI σ20 0 6) → (((fI σ21 0 5) = 0 → (((2 : Int32) ≤ x1 → mw_ask_173 x1 (0 : Int64) σ21 Q) ∧ (¬ (2 : Int32) ≤ x1 → mw_ask_173 x1 (-1 : Int64) σ21 Q))) ∧ (¬ (fI σ21 0 5) = 0 → Q (-1000000000000000 : Int64) σ21))))
theorem mt_ask_133 {κ : Cx} {S : Adr} {Z : State → Prop} {Q : Int64 → FS → Prop} (h : MCx κ cX6_ask S 10) (hR : RetL κ S Z cX6_ask Q) {x1 : Int32} {σ : FS} (hw : mw_ask_133 x1 σ Q) : MG κ S Z 133 σ [some (.ref (S.2.1 0)), some (.int x1), none] [] := by
  unfold mw_ask_133 at hw
  refine g_aload_0 133 h.1 dX6_ask_133 ?_
  refine g_aload_0 134 h.1 dX6_ask_134 ?_
  refine mg_5 135 h dX6_ask_135 ?_
  refine mp_7 138 h dX6_ask_138 ?_
  have hw := hw _ rfl
  refine g_aload_0 141 h.1 dX6_ask_141 ?_
  refine g_aload_0 142 h.1 dX6_ask_142 ?_
  refine mg_6 143 h dX6_ask_143 ?_
  refine mp_8 146 h dX6_ask_146 ?_
  have hw := hw _ rfl
  refine g_aload_0 149 h.1 dX6_ask_149 ?_
  refine mg_5 150 h dX6_ask_150 ?_
  refine g_if_eq 153 160 h.1 dX6_ask_153 (by decide) (fun c => ?_) (fun c => ?_)
  · have hw := hw.1 c
    refine g_aload_0 160 h.1 dX6_ask_160 ?_
    refine g_iload_1 161 h.1 dX6_ask_161 ?_
    refine g_iconstv 162 _ ic_2 h.1 dX6_ask_162 ?_
    refine g_icmp_ge 163 172 h.1 dX6_ask_163 (by decide) (fun c => ?_) (fun c => ?_)
    · have hw := hw.1 c
      refine g_lconst 172 _ lc_0 h.1 dX6_ask_172 ?_
      exact g_le (mt_ask_173 h hR hw) ⟨rfl, rfl, trivial⟩
    · have hw := hw.2 c
      refine g_ldc2 166 h.1 q2650 dX6_ask_166 ?_
      refine g_goto 169 173 h.1 dX6_ask_169 (by decide) ?_
      exact g_le (mt_ask_173 h hR hw) ⟨rfl, rfl, trivial⟩
  · have hw := hw.2 c
    refine g_ldc2 156 h.1 q2645 dX6_ask_156 ?_
    exact hR 159 _ _ _ dX6_ask_159 hw
def mw_ask_109 (x1 : Int32) (σ : FS) (Q : Int64 → FS → Prop) : Prop :=
  ((¬ (fI σ 0 5) = 0 → mw_ask_133 x1 σ Q) ∧ ((fI σ 0 5) = 0 → mw_look σ (fun r18 σ17 => ((r18 = (-1 : Int32) → mw_ask_133 x1 σ17 Q) ∧ (¬ r18 = (-1 : Int32) → mw_fail (1 : Int32) (fI σ17 0 2) σ17 (fun σ19 => mw_ask_133 x1 σ19 Q))))))
theorem mt_ask_109 {κ : Cx} {S : Adr} {Z : State → Prop} {Q : Int64 → FS → Prop} (h : MCx κ cX6_ask S 10) (hR : RetL κ S Z cX6_ask Q) {x1 : Int32} {σ : FS} (hw : mw_ask_109 x1 σ Q) : MG κ S Z 109 σ [some (.ref (S.2.1 0)), some (.int x1), none] [] := by
  unfold mw_ask_109 at hw
  refine g_aload_0 109 h.1 dX6_ask_109 ?_
  refine mg_5 110 h dX6_ask_110 ?_
  refine g_if_ne 113 133 h.1 dX6_ask_113 (by decide) (fun c => ?_) (fun c => ?_)
  · have hw := hw.1 c
    exact g_le (mt_ask_133 h hR hw) ⟨rfl, rfl, trivial⟩
  · have hw := hw.2 c
    refine g_aload_0 116 h.1 dX6_ask_116 ?_
    refine m_callI_0 117 h (mm_look h.2.2.1 hw) (by decide) q2129 (Nat.le_of_ble_eq_true rfl) dX6_ask_117 (fun r18 σ17 hw => ?_)
    refine g_iconstv 120 _ ic_m1 h.1 dX6_ask_120 ?_
    refine g_icmp_eq 121 133 h.1 dX6_ask_121 (by decide) (fun c => ?_) (fun c => ?_)
    · have hw := hw.1 c
      exact g_le (mt_ask_133 h hR hw) ⟨rfl, rfl, trivial⟩
    · have hw := hw.2 c
      refine g_aload_0 124 h.1 dX6_ask_124 ?_
      refine g_iconstv 125 _ ic_1 h.1 dX6_ask_125 ?_
      refine g_aload_0 126 h.1 dX6_ask_126 ?_
      refine mg_2 127 h dX6_ask_127 ?_
      refine m_callV_2 130 h (mm_fail h.2.2.1 hw) (by decide) q2136 (Nat.le_of_ble_eq_true rfl) dX6_ask_130 (fun σ19 hw => ?_)
      exact g_le (mt_ask_133 h hR hw) ⟨rfl, rfl, trivial⟩
def mw_ask_98 (x1 : Int32) (σ : FS) (Q : Int64 → FS → Prop) : Prop :=
  ((¬ (fI σ 0 5) = 0 → mw_ask_109 x1 σ Q) ∧ ((fI σ 0 5) = 0 → mw_qSums σ (fun σ16 => mw_ask_109 x1 σ16 Q)))
theorem mt_ask_98 {κ : Cx} {S : Adr} {Z : State → Prop} {Q : Int64 → FS → Prop} (h : MCx κ cX6_ask S 10) (hR : RetL κ S Z cX6_ask Q) {x1 : Int32} {σ : FS} (hw : mw_ask_98 x1 σ Q) : MG κ S Z 98 σ [some (.ref (S.2.1 0)), some (.int x1), none] [] := by
  unfold mw_ask_98 at hw
  refine g_aload_0 98 h.1 dX6_ask_98 ?_
  refine mg_5 99 h dX6_ask_99 ?_
  refine g_if_ne 102 109 h.1 dX6_ask_102 (by decide) (fun c => ?_) (fun c => ?_)
  · have hw := hw.1 c
    exact g_le (mt_ask_109 h hR hw) ⟨rfl, rfl, trivial⟩
  · have hw := hw.2 c
    refine g_aload_0 105 h.1 dX6_ask_105 ?_
    refine m_callV_0 106 h (mm_qSums h.2.2.1 hw) (by decide) q2228 (Nat.le_of_ble_eq_true rfl) dX6_ask_106 (fun σ16 hw => ?_)
    exact g_le (mt_ask_109 h hR hw) ⟨rfl, rfl, trivial⟩
def mw_ask (σ : FS) (Q : Int64 → FS → Prop) : Prop :=
  ((¬ (fI σ 0 50) = 0 → (∀ σ1, σ1 = sI σ 0 3 (fI σ 0 1) → (∀ σ2, σ2 = sI σ1 0 1 (0 : Int32) → (∀ σ3, σ3 = sI σ2 0 2 (0 : Int32) → (∀ σ4, σ4 = sI σ3 0 4 (-1 : Int32) → (∀ σ5, σ5 = sI σ4 0 5 (0 : Int32) → (∀ σ6, σ6 = sI σ5 0 6 (-1 : Int32) → (∀ σ7, σ7 = sI σ6 0 51 (2 : Int32) → (∀ σ8, σ8 = sI σ7 0 103 (0 : Int32) → (∀ σ9, σ9 = sI σ8 0 105 (0 : Int32) → (∀ σ10, σ10 = sI σ9 0 106 (0 : Int32) → (∀ σ11, σ11 = sI σ10 0 107 (0 : Int32) → mw_qKind σ11 (fun r13 σ12 => ((¬ (fI σ12 0 5) = 0 → mw_ask_98 r13 σ12 Q) ∧ ((fI σ12 0 5) = 0 → (((3 : Int32) ≤ r13 → mw_ask_98 r13 σ12 Q) ∧ (¬ (3 : Int32) ≤ r13 → mw_qTest σ12 (fun σ14 => mw_ask_109 r13 σ14 Q)))))))))))))))))) ∧ ((fI σ 0 50) = 0 → (∀ σ15, σ15 = sI σ 0 1 (0 : Int32) → Q (-1000000000000000 : Int64) σ15)))
theorem mt_ask {κ : Cx} {S : Adr} {Z : State → Prop} {Q : Int64 → FS → Prop} (h : MCx κ cX6_ask S 10) (hR : RetL κ S Z cX6_ask Q) {σ : FS} (hw : mw_ask σ Q) : MG κ S Z 0 σ [some (.ref (S.2.1 0)), none, none] [] := by
  unfold mw_ask at hw
  refine g_aload_0 0 h.1 dX6_ask_0 ?_
  refine mg_50 1 h dX6_ask_1 ?_
  refine g_if_ne 4 16 h.1 dX6_ask_4 (by decide) (fun c => ?_) (fun c => ?_)
  · have hw := hw.1 c
    refine g_aload_0 16 h.1 dX6_ask_16 ?_
    refine g_aload_0 17 h.1 dX6_ask_17 ?_
    refine mg_1 18 h dX6_ask_18 ?_
    refine mp_3 21 h dX6_ask_21 ?_
    have hw := hw _ rfl
    refine g_aload_0 24 h.1 dX6_ask_24 ?_
    refine g_iconstv 25 _ ic_0 h.1 dX6_ask_25 ?_
    refine mp_1 26 h dX6_ask_26 ?_
    have hw := hw _ rfl
    refine g_aload_0 29 h.1 dX6_ask_29 ?_
    refine g_iconstv 30 _ ic_0 h.1 dX6_ask_30 ?_
    refine mp_2 31 h dX6_ask_31 ?_
    have hw := hw _ rfl
    refine g_aload_0 34 h.1 dX6_ask_34 ?_
    refine g_iconstv 35 _ ic_m1 h.1 dX6_ask_35 ?_
    refine mp_4 36 h dX6_ask_36 ?_
    have hw := hw _ rfl
    refine g_aload_0 39 h.1 dX6_ask_39 ?_
    refine g_iconstv 40 _ ic_0 h.1 dX6_ask_40 ?_
    refine mp_5 41 h dX6_ask_41 ?_
    have hw := hw _ rfl
    refine g_aload_0 44 h.1 dX6_ask_44 ?_
    refine g_iconstv 45 _ ic_m1 h.1 dX6_ask_45 ?_
    refine mp_6 46 h dX6_ask_46 ?_
    have hw := hw _ rfl
    refine g_aload_0 49 h.1 dX6_ask_49 ?_
    refine g_iconstv 50 _ ic_2 h.1 dX6_ask_50 ?_
    refine mp_51 51 h dX6_ask_51 ?_
    have hw := hw _ rfl
    refine g_aload_0 54 h.1 dX6_ask_54 ?_
    refine g_iconstv 55 _ ic_0 h.1 dX6_ask_55 ?_
    refine mp_103 56 h dX6_ask_56 ?_
    have hw := hw _ rfl
    refine g_aload_0 59 h.1 dX6_ask_59 ?_
    refine g_iconstv 60 _ ic_0 h.1 dX6_ask_60 ?_
    refine mp_105 61 h dX6_ask_61 ?_
    have hw := hw _ rfl
    refine g_aload_0 64 h.1 dX6_ask_64 ?_
    refine g_iconstv 65 _ ic_0 h.1 dX6_ask_65 ?_
    refine mp_106 66 h dX6_ask_66 ?_
    have hw := hw _ rfl
    refine g_aload_0 69 h.1 dX6_ask_69 ?_
    refine g_iconstv 70 _ ic_0 h.1 dX6_ask_70 ?_
    refine mp_107 71 h dX6_ask_71 ?_
    have hw := hw _ rfl
    refine g_aload_0 74 h.1 dX6_ask_74 ?_
    refine m_callI_0 75 h (mm_qKind h.2.2.1 hw) (by decide) q2646 (Nat.le_of_ble_eq_true rfl) dX6_ask_75 (fun r13 σ12 hw => ?_)
    refine g_istore_1 78 h.1 rfl dX6_ask_78 ?_
    refine g_aload_0 79 h.1 dX6_ask_79 ?_
    refine mg_5 80 h dX6_ask_80 ?_
    refine g_if_ne 83 98 h.1 dX6_ask_83 (by decide) (fun c => ?_) (fun c => ?_)
    · have hw := hw.1 c
      exact g_le (mt_ask_98 h hR hw) ⟨rfl, rfl, trivial⟩
    · have hw := hw.2 c
      refine g_iload_1 86 h.1 dX6_ask_86 ?_
      refine g_iconstv 87 _ ic_3 h.1 dX6_ask_87 ?_
      refine g_icmp_ge 88 98 h.1 dX6_ask_88 (by decide) (fun c => ?_) (fun c => ?_)
      · have hw := hw.1 c
        exact g_le (mt_ask_98 h hR hw) ⟨rfl, rfl, trivial⟩
      · have hw := hw.2 c
        refine g_aload_0 91 h.1 dX6_ask_91 ?_
        refine m_callV_0 92 h (mm_qTest h.2.2.1 hw) (by decide) q2212 (Nat.le_of_ble_eq_true rfl) dX6_ask_92 (fun σ14 hw => ?_)
        refine g_goto 95 109 h.1 dX6_ask_95 (by decide) ?_
        exact g_le (mt_ask_109 h hR hw) ⟨rfl, rfl, trivial⟩
  · have hw := hw.2 c
    refine g_aload_0 7 h.1 dX6_ask_7 ?_
    refine g_iconstv 8 _ ic_0 h.1 dX6_ask_8 ?_
    refine mp_1 9 h dX6_ask_9 ?_
    have hw := hw _ rfl
    refine g_ldc2 12 h.1 q2645 dX6_ask_12 ?_
    exact hR 15 _ _ _ dX6_ask_15 hw
theorem mm_ask {l : Launch} {S : Adr} (hD : MD S) {σ : FS} {Q : Int64 → FS → Prop} (hw : mw_ask σ Q) : mMet l S 10 yX6_ask [] σ (mQl S Q) :=
  m_metL hD ⟨rfl, by decide, by show _ = some 0; decide +kernel, q2644⟩ q2642 q2643 (Nat.le_of_ble_eq_true rfl) (fun κ Z h hR => mt_ask h hR hw)
def mw_askingMany (σ : FS) (Q : Int32 → FS → Prop) : Prop :=
  mw_personMany σ (fun r2 σ1 => mw_topicMany σ1 (fun r4 σ3 => Q (r2 * r4) σ3))
theorem mt_askingMany {κ : Cx} {S : Adr} {Z : State → Prop} {Q : Int32 → FS → Prop} (h : MCx κ cX6_askingMany S 2) (hR : RetI κ S Z cX6_askingMany Q) {σ : FS} (hw : mw_askingMany σ Q) : MG κ S Z 0 σ [some (.ref (S.2.1 0))] [] := by
  unfold mw_askingMany at hw
  refine g_aload_0 0 h.1 dX6_askingMany_0 ?_
  refine m_callI_0 1 h (mm_personMany h.2.2.1 hw) (by decide) q2307 (Nat.le_of_ble_eq_true rfl) dX6_askingMany_1 (fun r2 σ1 hw => ?_)
  refine g_aload_0 4 h.1 dX6_askingMany_4 ?_
  refine m_callI_0 5 h (mm_topicMany h.2.2.1 hw) (by decide) q2303 (Nat.le_of_ble_eq_true rfl) dX6_askingMany_5 (fun r4 σ3 hw => ?_)
  refine g_imul 8 h.1 dX6_askingMany_8 ?_
  exact hR 9 _ _ _ dX6_askingMany_9 hw
theorem mm_askingMany {l : Launch} {S : Adr} (hD : MD S) {σ : FS} {Q : Int32 → FS → Prop} (hw : mw_askingMany σ Q) : mMet l S 2 yX6_askingMany [] σ (mQi S Q) :=
  m_metI hD ⟨rfl, by decide, by show _ = some 0; decide +kernel, q2496⟩ q2495 qs142 (Nat.le_of_ble_eq_true rfl) (fun κ Z h hR => mt_askingMany h hR hw)
def mw_isPerson (x1 : Int32) (σ : FS) (Q : Int32 → FS → Prop) : Prop :=
  mw_personMany σ (fun r2 σ1 => mw_isIn (Int32.toInt64 x1) (0 : Int64) (Int32.toInt64 (r2 - (1 : Int32))) σ1 (fun r4 σ3 => (nb r4 ∧ Q r4 σ3)))
theorem mt_isPerson {κ : Cx} {S : Adr} {Z : State → Prop} {Q : Int32 → FS → Prop} (h : MCx κ cX6_isPerson S 2) (hR : RetZ κ S Z cX6_isPerson Q) {x1 : Int32} {σ : FS} (hw : mw_isPerson x1 σ Q) : MG κ S Z 0 σ [some (.ref (S.2.1 0)), some (.int x1)] [] := by
  unfold mw_isPerson at hw
  refine g_iload_1 0 h.1 dX6_isPerson_0 ?_
  refine g_i2l 1 h.1 dX6_isPerson_1 ?_
  refine g_lconst 2 _ lc_0 h.1 dX6_isPerson_2 ?_
  refine g_aload_0 3 h.1 dX6_isPerson_3 ?_
  refine m_callI_0 4 h (mm_personMany h.2.2.1 hw) (by decide) q2307 (Nat.le_of_ble_eq_true rfl) dX6_isPerson_4 (fun r2 σ1 hw => ?_)
  refine g_iconstv 7 _ ic_1 h.1 dX6_isPerson_7 ?_
  refine g_isub 8 h.1 dX6_isPerson_8 ?_
  refine g_i2l 9 h.1 dX6_isPerson_9 ?_
  refine m_scallI_3 10 h (mm_isIn h.2.2.1 hw) (by decide) q2147 (Nat.le_of_ble_eq_true rfl) dX6_isPerson_10 (fun r4 σ3 hw => ?_)
  exact hR 13 _ _ _ dX6_isPerson_13 hw.1 hw.2
theorem mm_isPerson {l : Launch} {S : Adr} (hD : MD S) {x1 : Int32} {σ : FS} {Q : Int32 → FS → Prop} (hw : mw_isPerson x1 σ Q) : mMet l S 2 yX6_isPerson [.int x1] σ (mQi S Q) :=
  m_metZ hD ⟨rfl, by decide, by show _ = some 1; decide +kernel, q2351⟩ q2350 qs117 (Nat.le_of_ble_eq_true rfl) (fun κ Z h hR => mt_isPerson h hR hw)
def mw_refuses (x1 : Int32) (σ : FS) (Q : Int32 → FS → Prop) : Prop :=
  (vp_in x1 6 ∧ (vp_in x1 6 ∧ ∀ σ1, σ1 = sA σ 9 (Int32.toNatClampNeg x1) ((fA σ 9 (Int32.toNatClampNeg x1)) + (1 : Int32)) → Q (-1 : Int32) σ1))
theorem mt_refuses {κ : Cx} {S : Adr} {Z : State → Prop} {Q : Int32 → FS → Prop} (h : MCx κ cX6_refuses S 1) (hR : RetI κ S Z cX6_refuses Q) {x1 : Int32} {σ : FS} (hw : mw_refuses x1 σ Q) : MG κ S Z 0 σ [some (.ref (S.2.1 0)), some (.int x1)] [] := by
  unfold mw_refuses at hw
  refine g_aload_0 0 h.1 dX6_refuses_0 ?_
  refine mg_9 1 h dX6_refuses_1 ?_
  refine g_iload_1 4 h.1 dX6_refuses_4 ?_
  refine g_dup2 5 rfl rfl h.1 dX6_refuses_5 ?_
  refine m_iald 6 rfl hw.1 h dX6_refuses_6 ?_
  have hw := hw.2
  refine g_iconstv 7 _ ic_1 h.1 dX6_refuses_7 ?_
  refine g_iadd 8 h.1 dX6_refuses_8 ?_
  refine m_iast 9 rfl hw.1 h dX6_refuses_9 ?_
  have hw := hw.2 _ rfl
  refine g_iconstv 10 _ ic_m1 h.1 dX6_refuses_10 ?_
  exact hR 11 _ _ _ dX6_refuses_11 hw
theorem mm_refuses {l : Launch} {S : Adr} (hD : MD S) {x1 : Int32} {σ : FS} {Q : Int32 → FS → Prop} (hw : mw_refuses x1 σ Q) : mMet l S 1 yX6_refuses [.int x1] σ (mQi S Q) :=
  m_metI hD ⟨rfl, by decide, by show _ = some 1; decide +kernel, q2567⟩ q2566 qs154 (Nat.le_of_ble_eq_true rfl) (fun κ Z h hR => mt_refuses h hR hw)
def mw_stores_15 (x1 : Int32) (σ : FS) (Q : FS → Prop) : Prop :=
  ∀ X15 : Int32 → FS → Prop, (∀ (x1 : Int32) (σ : FS), (((232 : Int32) ≤ x1 → (((20 : Int32) ≤ (fI σ 0 76) → Q σ) ∧ (¬ (20 : Int32) ≤ (fI σ 0 76) → (∀ σ2, σ2 = sI σ 0 76 ((fI σ 0 76) + (1 : Int32)) → Q σ2)))) ∧ (¬ (232 : Int32) ≤ x1 → (vp_in x1 232 ∧ (vp_in (((232 : Int32) * (fI σ 0 77)) + x1) 4640 ∧ ∀ σ3, σ3 = sA σ 75 (Int32.toNatClampNeg (((232 : Int32) * (fI σ 0 77)) + x1)) (fA σ 52 (Int32.toNatClampNeg x1)) → X15 (x1 + 1) σ3)))) → X15 x1 σ) → X15 x1 σ
theorem mt_stores_15 {κ : Cx} {S : Adr} {Z : State → Prop} {Q : FS → Prop} (h : MCx κ cX6_stores S 1) (hR : RetV κ S Z cX6_stores Q) {x1 : Int32} {σ : FS} (hw : mw_stores_15 x1 σ Q) : MG κ S Z 15 σ [some (.ref (S.2.1 0)), some (.int x1)] [] := by
  refine hw (fun x1 σ => MG κ S Z 15 σ [some (.ref (S.2.1 0)), some (.int x1)] []) ?_
  clear hw
  intro x1 σ hw
  have hX15 : ∀ (x1 : Int32) (σ : FS), MG κ S Z 15 σ [some (.ref (S.2.1 0)), some (.int x1)] [] → MG κ S Z 15 σ [some (.ref (S.2.1 0)), some (.int x1)] [] := fun _ _ hh => hh
  refine g_iload_1 15 h.1 dX6_stores_15 ?_
  refine g_sipush 16 _ sp_232 h.1 dX6_stores_16 ?_
  refine g_icmp_ge 19 49 h.1 dX6_stores_19 (by decide) (fun c => ?_) (fun c => ?_)
  · have hw := hw.1 c
    refine g_aload_0 49 h.1 dX6_stores_49 ?_
    refine mg_76 50 h dX6_stores_50 ?_
    refine g_bipush 53 _ bp_20 h.1 dX6_stores_53 ?_
    refine g_icmp_ge 55 68 h.1 dX6_stores_55 (by decide) (fun c => ?_) (fun c => ?_)
    · have hw := hw.1 c
      exact hR 68 _ _ dX6_stores_68 hw
    · have hw := hw.2 c
      refine g_aload_0 58 h.1 dX6_stores_58 ?_
      refine g_dup 59 rfl h.1 dX6_stores_59 ?_
      refine mg_76 60 h dX6_stores_60 ?_
      refine g_iconstv 63 _ ic_1 h.1 dX6_stores_63 ?_
      refine g_iadd 64 h.1 dX6_stores_64 ?_
      refine mp_76 65 h dX6_stores_65 ?_
      have hw := hw _ rfl
      exact hR 68 _ _ dX6_stores_68 hw
  · have hw := hw.2 c
    refine g_aload_0 22 h.1 dX6_stores_22 ?_
    refine mg_75 23 h dX6_stores_23 ?_
    refine g_sipush 26 _ sp_232 h.1 dX6_stores_26 ?_
    refine g_aload_0 29 h.1 dX6_stores_29 ?_
    refine mg_77 30 h dX6_stores_30 ?_
    refine g_imul 33 h.1 dX6_stores_33 ?_
    refine g_iload_1 34 h.1 dX6_stores_34 ?_
    refine g_iadd 35 h.1 dX6_stores_35 ?_
    refine g_aload_0 36 h.1 dX6_stores_36 ?_
    refine mg_52 37 h dX6_stores_37 ?_
    refine g_iload_1 40 h.1 dX6_stores_40 ?_
    refine m_iald 41 rfl hw.1 h dX6_stores_41 ?_
    have hw := hw.2
    refine m_iast 42 rfl hw.1 h dX6_stores_42 ?_
    have hw := hw.2 _ rfl
    refine g_iinc_1 43 (x1 + 1) (congrArg _ ic_1) h.1 rfl dX6_stores_43 ?_
    refine g_goto 46 15 h.1 dX6_stores_46 (by decide) ?_
    exact g_le (hX15 _ _ hw) ⟨rfl, rfl, trivial⟩
def mw_stores (σ : FS) (Q : FS → Prop) : Prop :=
  (∀ σ1, σ1 = sI σ 0 77 (((fI σ 0 77) + (1 : Int32)) - ((fI σ 0 77) + (1 : Int32)) / (20 : Int32) * (20 : Int32)) → mw_stores_15 (0 : Int32) σ1 Q)
theorem mt_stores {κ : Cx} {S : Adr} {Z : State → Prop} {Q : FS → Prop} (h : MCx κ cX6_stores S 1) (hR : RetV κ S Z cX6_stores Q) {σ : FS} (hw : mw_stores σ Q) : MG κ S Z 0 σ [some (.ref (S.2.1 0)), none] [] := by
  unfold mw_stores at hw
  refine g_aload_0 0 h.1 dX6_stores_0 ?_
  refine g_aload_0 1 h.1 dX6_stores_1 ?_
  refine mg_77 2 h dX6_stores_2 ?_
  refine g_iconstv 5 _ ic_1 h.1 dX6_stores_5 ?_
  refine g_iadd 6 h.1 dX6_stores_6 ?_
  refine g_bipush 7 _ bp_20 h.1 dX6_stores_7 ?_
  refine g_irem 9 (by decide) h.1 dX6_stores_9 ?_
  refine mp_77 10 h dX6_stores_10 ?_
  have hw := hw _ rfl
  refine g_iconstv 13 _ ic_0 h.1 dX6_stores_13 ?_
  refine g_istore_1 14 h.1 rfl dX6_stores_14 ?_
  exact g_le (mt_stores_15 h hR hw) ⟨rfl, rfl, trivial⟩
theorem mm_stores {l : Launch} {S : Adr} (hD : MD S) {σ : FS} {Q : FS → Prop} (hw : mw_stores σ Q) : mMet l S 1 yX6_stores [] σ (mQv S Q) :=
  m_metV hD ⟨rfl, by decide, by show _ = some 0; decide +kernel, q2600⟩ q2599 qs158 (Nat.le_of_ble_eq_true rfl) (fun κ Z h hR => mt_stores h hR hw)
def mw_asks_17 (σ : FS) (Q : Int32 → FS → Prop) : Prop :=
  mw_refuses (2 : Int32) σ (fun r9 σ8 => Q r9 σ8)
theorem mt_asks_17 {κ : Cx} {S : Adr} {Z : State → Prop} {Q : Int32 → FS → Prop} (h : MCx κ cX6_asks S 7) (hR : RetI κ S Z cX6_asks Q) {σ : FS} (hw : mw_asks_17 σ Q) : MG κ S Z 17 σ [some (.ref (S.2.1 0)), none, none] [] := by
  unfold mw_asks_17 at hw
  refine g_aload_0 17 h.1 dX6_asks_17 ?_
  refine g_iconstv 18 _ ic_2 h.1 dX6_asks_18 ?_
  refine m_callI_1 19 h (mm_refuses h.2.2.1 hw) (by decide) q2564 (Nat.le_of_ble_eq_true rfl) dX6_asks_19 (fun r9 σ8 hw => ?_)
  exact hR 22 _ _ _ dX6_asks_22 hw
def mw_asks (x1 : Int32) (x2 : Int32) (σ : FS) (Q : Int32 → FS → Prop) : Prop :=
  mw_isPerson x1 σ (fun r2 σ1 => ((r2 = 0 → mw_asks_17 σ1 Q) ∧ (¬ r2 = 0 → mw_isTopic (Int32.toInt64 x2) σ1 (fun r4 σ3 => ((¬ r4 = 0 → mw_stores σ3 (fun σ5 => mw_isAsked x1 x2 σ5 (fun r7 σ6 => Q r7 σ6))) ∧ (r4 = 0 → mw_asks_17 σ3 Q))))))
theorem mt_asks {κ : Cx} {S : Adr} {Z : State → Prop} {Q : Int32 → FS → Prop} (h : MCx κ cX6_asks S 7) (hR : RetI κ S Z cX6_asks Q) {x1 : Int32} {x2 : Int32} {σ : FS} (hw : mw_asks x1 x2 σ Q) : MG κ S Z 0 σ [some (.ref (S.2.1 0)), some (.int x1), some (.int x2)] [] := by
  unfold mw_asks at hw
  refine g_aload_0 0 h.1 dX6_asks_0 ?_
  refine g_iload_1 1 h.1 dX6_asks_1 ?_
  refine m_callI_1 2 h (mm_isPerson h.2.2.1 hw) (by decide) q2348 (Nat.le_of_ble_eq_true rfl) dX6_asks_2 (fun r2 σ1 hw => ?_)
  refine g_if_eq 5 17 h.1 dX6_asks_5 (by decide) (fun c => ?_) (fun c => ?_)
  · have hw := hw.1 c
    exact g_le (mt_asks_17 h hR hw) ⟨rfl, trivial⟩
  · have hw := hw.2 c
    refine g_aload_0 8 h.1 dX6_asks_8 ?_
    refine g_iload_2 9 h.1 dX6_asks_9 ?_
    refine g_i2l 10 h.1 dX6_asks_10 ?_
    refine m_callI_1 11 h (mm_isTopic h.2.2.1 hw) (by decide) q2372 (Nat.le_of_ble_eq_true rfl) dX6_asks_11 (fun r4 σ3 hw => ?_)
    refine g_if_ne 14 23 h.1 dX6_asks_14 (by decide) (fun c => ?_) (fun c => ?_)
    · have hw := hw.1 c
      refine g_aload_0 23 h.1 dX6_asks_23 ?_
      refine m_callV_0 24 h (mm_stores h.2.2.1 hw) (by decide) q2597 (Nat.le_of_ble_eq_true rfl) dX6_asks_24 (fun σ5 hw => ?_)
      refine g_aload_0 27 h.1 dX6_asks_27 ?_
      refine g_iload_1 28 h.1 dX6_asks_28 ?_
      refine g_iload_2 29 h.1 dX6_asks_29 ?_
      refine m_callI_2 30 h (mm_isAsked h.2.2.1 hw) (by decide) q2432 (Nat.le_of_ble_eq_true rfl) dX6_asks_30 (fun r7 σ6 hw => ?_)
      exact hR 33 _ _ _ dX6_asks_33 hw
    · have hw := hw.2 c
      exact g_le (mt_asks_17 h hR hw) ⟨rfl, trivial⟩
theorem mm_asks {l : Launch} {S : Adr} (hD : MD S) {x1 : Int32} {x2 : Int32} {σ : FS} {Q : Int32 → FS → Prop} (hw : mw_asks x1 x2 σ Q) : mMet l S 7 yX6_asks [.int x1, .int x2] σ (mQi S Q) :=
  m_metI hD ⟨rfl, by decide, by show _ = some 2; decide +kernel, q2596⟩ q2594 q2595 (Nat.le_of_ble_eq_true rfl) (fun κ Z h hR => mt_asks h hR hw)
def mw_cellAt (x1 : Int32) (x2 : Int32) (σ : FS) (Q : Int32 → FS → Prop) : Prop :=
  (((fI σ 0 50) = 0 → Q (-1 : Int32) σ) ∧ (¬ (fI σ 0 50) = 0 → (vp_in (3 : Int32) 6 ∧ mw_isIn (Int32.toInt64 x1) (0 : Int64) (Int32.toInt64 ((fA σ 39 (Int32.toNatClampNeg (3 : Int32))) - (1 : Int32))) σ (fun r2 σ1 => ((r2 = 0 → Q (-1 : Int32) σ1) ∧ (¬ r2 = 0 → (vp_in (4 : Int32) 6 ∧ mw_isIn (Int32.toInt64 x2) (0 : Int64) (Int32.toInt64 ((fA σ1 39 (Int32.toNatClampNeg (4 : Int32))) - (1 : Int32))) σ1 (fun r4 σ3 => ((r4 = 0 → Q (-1 : Int32) σ3) ∧ (¬ r4 = 0 → Q (x1 + ((7 : Int32) * x2)) σ3))))))))))
theorem mt_cellAt {κ : Cx} {S : Adr} {Z : State → Prop} {Q : Int32 → FS → Prop} (h : MCx κ cX6_cellAt S 2) (hR : RetI κ S Z cX6_cellAt Q) {x1 : Int32} {x2 : Int32} {σ : FS} (hw : mw_cellAt x1 x2 σ Q) : MG κ S Z 0 σ [some (.ref (S.2.1 0)), some (.int x1), some (.int x2)] [] := by
  unfold mw_cellAt at hw
  refine g_aload_0 0 h.1 dX6_cellAt_0 ?_
  refine mg_50 1 h dX6_cellAt_1 ?_
  refine g_if_eq 4 52 h.1 dX6_cellAt_4 (by decide) (fun c => ?_) (fun c => ?_)
  · have hw := hw.1 c
    refine g_iconstv 52 _ ic_m1 h.1 dX6_cellAt_52 ?_
    exact hR 53 _ _ _ dX6_cellAt_53 hw
  · have hw := hw.2 c
    refine g_iload_1 7 h.1 dX6_cellAt_7 ?_
    refine g_i2l 8 h.1 dX6_cellAt_8 ?_
    refine g_lconst 9 _ lc_0 h.1 dX6_cellAt_9 ?_
    refine g_aload_0 10 h.1 dX6_cellAt_10 ?_
    refine mg_39 11 h dX6_cellAt_11 ?_
    refine g_iconstv 14 _ ic_3 h.1 dX6_cellAt_14 ?_
    refine m_iald 15 rfl hw.1 h dX6_cellAt_15 ?_
    have hw := hw.2
    refine g_iconstv 16 _ ic_1 h.1 dX6_cellAt_16 ?_
    refine g_isub 17 h.1 dX6_cellAt_17 ?_
    refine g_i2l 18 h.1 dX6_cellAt_18 ?_
    refine m_scallI_3 19 h (mm_isIn h.2.2.1 hw) (by decide) q2147 (Nat.le_of_ble_eq_true rfl) dX6_cellAt_19 (fun r2 σ1 hw => ?_)
    refine g_if_eq 22 52 h.1 dX6_cellAt_22 (by decide) (fun c => ?_) (fun c => ?_)
    · have hw := hw.1 c
      refine g_iconstv 52 _ ic_m1 h.1 dX6_cellAt_52 ?_
      exact hR 53 _ _ _ dX6_cellAt_53 hw
    · have hw := hw.2 c
      refine g_iload_2 25 h.1 dX6_cellAt_25 ?_
      refine g_i2l 26 h.1 dX6_cellAt_26 ?_
      refine g_lconst 27 _ lc_0 h.1 dX6_cellAt_27 ?_
      refine g_aload_0 28 h.1 dX6_cellAt_28 ?_
      refine mg_39 29 h dX6_cellAt_29 ?_
      refine g_iconstv 32 _ ic_4 h.1 dX6_cellAt_32 ?_
      refine m_iald 33 rfl hw.1 h dX6_cellAt_33 ?_
      have hw := hw.2
      refine g_iconstv 34 _ ic_1 h.1 dX6_cellAt_34 ?_
      refine g_isub 35 h.1 dX6_cellAt_35 ?_
      refine g_i2l 36 h.1 dX6_cellAt_36 ?_
      refine m_scallI_3 37 h (mm_isIn h.2.2.1 hw) (by decide) q2147 (Nat.le_of_ble_eq_true rfl) dX6_cellAt_37 (fun r4 σ3 hw => ?_)
      refine g_if_eq 40 52 h.1 dX6_cellAt_40 (by decide) (fun c => ?_) (fun c => ?_)
      · have hw := hw.1 c
        refine g_iconstv 52 _ ic_m1 h.1 dX6_cellAt_52 ?_
        exact hR 53 _ _ _ dX6_cellAt_53 hw
      · have hw := hw.2 c
        refine g_iload_1 43 h.1 dX6_cellAt_43 ?_
        refine g_bipush 44 _ bp_7 h.1 dX6_cellAt_44 ?_
        refine g_iload_2 46 h.1 dX6_cellAt_46 ?_
        refine g_imul 47 h.1 dX6_cellAt_47 ?_
        refine g_iadd 48 h.1 dX6_cellAt_48 ?_
        refine g_goto 49 53 h.1 dX6_cellAt_49 (by decide) ?_
        exact hR 53 _ _ _ dX6_cellAt_53 hw
theorem mm_cellAt {l : Launch} {S : Adr} (hD : MD S) {x1 : Int32} {x2 : Int32} {σ : FS} {Q : Int32 → FS → Prop} (hw : mw_cellAt x1 x2 σ Q) : mMet l S 2 yX6_cellAt [.int x1, .int x2] σ (mQi S Q) :=
  m_metI hD ⟨rfl, by decide, by show _ = some 2; decide +kernel, q2343⟩ q2342 qs116 (Nat.le_of_ble_eq_true rfl) (fun κ Z h hR => mt_cellAt h hR hw)
def mw_beside_47 (x3 : Int32) (y0 : Int32) (y1 : Int32) (σ : FS) (Q : Int32 → FS → Prop) : Prop :=
  mw_cellAt x3 (y1 + y0) σ (fun r2 σ1 => Q r2 σ1)
theorem mt_beside_47 {κ : Cx} {S : Adr} {Z : State → Prop} {Q : Int32 → FS → Prop} (h : MCx κ cX6_beside S 3) (hR : RetI κ S Z cX6_beside Q) {x3 : Int32} {y0 : Int32} {y1 : Int32} {σ : FS} (hw : mw_beside_47 x3 y0 y1 σ Q) : MG κ S Z 47 σ [some (.ref (S.2.1 0)), none, none, some (.int x3), none] [.int y0, .int y1] := by
  unfold mw_beside_47 at hw
  refine g_iadd 47 h.1 dX6_beside_47 ?_
  refine g_istore_4 48 h.1 rfl dX6_beside_48 ?_
  refine g_aload_0 50 h.1 dX6_beside_50 ?_
  refine g_iload_3 51 h.1 dX6_beside_51 ?_
  refine g_iload_4 52 h.1 dX6_beside_52 ?_
  refine m_callI_2 54 h (mm_cellAt h.2.2.1 hw) (by decide) q2340 (Nat.le_of_ble_eq_true rfl) dX6_beside_54 (fun r2 σ1 hw => ?_)
  exact hR 57 _ _ _ dX6_beside_57 hw
def mw_beside_23 (x1 : Int32) (x2 : Int32) (y0 : Int32) (y1 : Int32) (σ : FS) (Q : Int32 → FS → Prop) : Prop :=
  ((¬ x2 = 0 → ((¬ x2 = (3 : Int32) → mw_beside_47 (y1 + y0) (0 : Int32) (x1 / (7 : Int32)) σ Q) ∧ (x2 = (3 : Int32) → mw_beside_47 (y1 + y0) (1 : Int32) (x1 / (7 : Int32)) σ Q))) ∧ (x2 = 0 → mw_beside_47 (y1 + y0) (-1 : Int32) (x1 / (7 : Int32)) σ Q))
theorem mt_beside_23 {κ : Cx} {S : Adr} {Z : State → Prop} {Q : Int32 → FS → Prop} (h : MCx κ cX6_beside S 3) (hR : RetI κ S Z cX6_beside Q) {x1 : Int32} {x2 : Int32} {y0 : Int32} {y1 : Int32} {σ : FS} (hw : mw_beside_23 x1 x2 y0 y1 σ Q) : MG κ S Z 23 σ [some (.ref (S.2.1 0)), some (.int x1), some (.int x2), none, none] [.int y0, .int y1] := by
  unfold mw_beside_23 at hw
  refine g_iadd 23 h.1 dX6_beside_23 ?_
  refine g_istore_3 24 h.1 rfl dX6_beside_24 ?_
  refine g_iload_1 25 h.1 dX6_beside_25 ?_
  refine g_bipush 26 _ bp_7 h.1 dX6_beside_26 ?_
  refine g_idiv 28 (by decide) h.1 dX6_beside_28 ?_
  refine g_iload_2 29 h.1 dX6_beside_29 ?_
  refine g_if_ne 30 37 h.1 dX6_beside_30 (by decide) (fun c => ?_) (fun c => ?_)
  · have hw := hw.1 c
    refine g_iload_2 37 h.1 dX6_beside_37 ?_
    refine g_iconstv 38 _ ic_3 h.1 dX6_beside_38 ?_
    refine g_icmp_ne 39 46 h.1 dX6_beside_39 (by decide) (fun c => ?_) (fun c => ?_)
    · have hw := hw.1 c
      refine g_iconstv 46 _ ic_0 h.1 dX6_beside_46 ?_
      exact g_le (mt_beside_47 h hR hw) ⟨rfl, rfl, trivial⟩
    · have hw := hw.2 c
      refine g_iconstv 42 _ ic_1 h.1 dX6_beside_42 ?_
      refine g_goto 43 47 h.1 dX6_beside_43 (by decide) ?_
      exact g_le (mt_beside_47 h hR hw) ⟨rfl, rfl, trivial⟩
  · have hw := hw.2 c
    refine g_iconstv 33 _ ic_m1 h.1 dX6_beside_33 ?_
    refine g_goto 34 47 h.1 dX6_beside_34 (by decide) ?_
    exact g_le (mt_beside_47 h hR hw) ⟨rfl, rfl, trivial⟩
def mw_beside (x1 : Int32) (x2 : Int32) (σ : FS) (Q : Int32 → FS → Prop) : Prop :=
  ((¬ x2 = (1 : Int32) → ((¬ x2 = (2 : Int32) → mw_beside_23 x1 x2 (0 : Int32) (x1 - x1 / (7 : Int32) * (7 : Int32)) σ Q) ∧ (x2 = (2 : Int32) → mw_beside_23 x1 x2 (1 : Int32) (x1 - x1 / (7 : Int32) * (7 : Int32)) σ Q))) ∧ (x2 = (1 : Int32) → mw_beside_23 x1 x2 (-1 : Int32) (x1 - x1 / (7 : Int32) * (7 : Int32)) σ Q))
theorem mt_beside {κ : Cx} {S : Adr} {Z : State → Prop} {Q : Int32 → FS → Prop} (h : MCx κ cX6_beside S 3) (hR : RetI κ S Z cX6_beside Q) {x1 : Int32} {x2 : Int32} {σ : FS} (hw : mw_beside x1 x2 σ Q) : MG κ S Z 0 σ [some (.ref (S.2.1 0)), some (.int x1), some (.int x2), none, none] [] := by
  unfold mw_beside at hw
  refine g_iload_1 0 h.1 dX6_beside_0 ?_
  refine g_bipush 1 _ bp_7 h.1 dX6_beside_1 ?_
  refine g_irem 3 (by decide) h.1 dX6_beside_3 ?_
  refine g_iload_2 4 h.1 dX6_beside_4 ?_
  refine g_iconstv 5 _ ic_1 h.1 dX6_beside_5 ?_
  refine g_icmp_ne 6 13 h.1 dX6_beside_6 (by decide) (fun c => ?_) (fun c => ?_)
  · have hw := hw.1 c
    refine g_iload_2 13 h.1 dX6_beside_13 ?_
    refine g_iconstv 14 _ ic_2 h.1 dX6_beside_14 ?_
    refine g_icmp_ne 15 22 h.1 dX6_beside_15 (by decide) (fun c => ?_) (fun c => ?_)
    · have hw := hw.1 c
      refine g_iconstv 22 _ ic_0 h.1 dX6_beside_22 ?_
      exact g_le (mt_beside_23 h hR hw) ⟨rfl, rfl, rfl, trivial⟩
    · have hw := hw.2 c
      refine g_iconstv 18 _ ic_1 h.1 dX6_beside_18 ?_
      refine g_goto 19 23 h.1 dX6_beside_19 (by decide) ?_
      exact g_le (mt_beside_23 h hR hw) ⟨rfl, rfl, rfl, trivial⟩
  · have hw := hw.2 c
    refine g_iconstv 9 _ ic_m1 h.1 dX6_beside_9 ?_
    refine g_goto 10 23 h.1 dX6_beside_10 (by decide) ?_
    exact g_le (mt_beside_23 h hR hw) ⟨rfl, rfl, rfl, trivial⟩
theorem mm_beside {l : Launch} {S : Adr} (hD : MD S) {x1 : Int32} {x2 : Int32} {σ : FS} {Q : Int32 → FS → Prop} (hw : mw_beside x1 x2 σ Q) : mMet l S 3 yX6_beside [.int x1, .int x2] σ (mQi S Q) :=
  m_metI hD ⟨rfl, by decide, by show _ = some 2; decide +kernel, q2528⟩ q2527 qs149 (Nat.le_of_ble_eq_true rfl) (fun κ Z h hR => mt_beside h hR hw)
def mw_cellNumbered (x1 : Int32) (σ : FS) (Q : Int32 → FS → Prop) : Prop :=
  ((0 ≤ x1 → mw_cellAt (x1 - x1 / (8 : Int32) * (8 : Int32)) (x1 / (8 : Int32)) σ (fun r2 σ1 => Q r2 σ1)) ∧ (¬ 0 ≤ x1 → Q (-1 : Int32) σ))
theorem mt_cellNumbered {κ : Cx} {S : Adr} {Z : State → Prop} {Q : Int32 → FS → Prop} (h : MCx κ cX6_cellNumbered S 3) (hR : RetI κ S Z cX6_cellNumbered Q) {x1 : Int32} {σ : FS} (hw : mw_cellNumbered x1 σ Q) : MG κ S Z 0 σ [some (.ref (S.2.1 0)), some (.int x1)] [] := by
  unfold mw_cellNumbered at hw
  refine g_iload_1 0 h.1 dX6_cellNumbered_0 ?_
  refine g_if_ge 1 8 h.1 dX6_cellNumbered_1 (by decide) (fun c => ?_) (fun c => ?_)
  · have hw := hw.1 c
    refine g_aload_0 8 h.1 dX6_cellNumbered_8 ?_
    refine g_iload_1 9 h.1 dX6_cellNumbered_9 ?_
    refine g_bipush 10 _ bp_8 h.1 dX6_cellNumbered_10 ?_
    refine g_irem 12 (by decide) h.1 dX6_cellNumbered_12 ?_
    refine g_iload_1 13 h.1 dX6_cellNumbered_13 ?_
    refine g_bipush 14 _ bp_8 h.1 dX6_cellNumbered_14 ?_
    refine g_idiv 16 (by decide) h.1 dX6_cellNumbered_16 ?_
    refine m_callI_2 17 h (mm_cellAt h.2.2.1 hw) (by decide) q2340 (Nat.le_of_ble_eq_true rfl) dX6_cellNumbered_17 (fun r2 σ1 hw => ?_)
    exact hR 20 _ _ _ dX6_cellNumbered_20 hw
  · have hw := hw.2 c
    refine g_iconstv 4 _ ic_m1 h.1 dX6_cellNumbered_4 ?_
    refine g_goto 5 20 h.1 dX6_cellNumbered_5 (by decide) ?_
    exact hR 20 _ _ _ dX6_cellNumbered_20 hw
theorem mm_cellNumbered {l : Launch} {S : Adr} (hD : MD S) {x1 : Int32} {σ : FS} {Q : Int32 → FS → Prop} (hw : mw_cellNumbered x1 σ Q) : mMet l S 3 yX6_cellNumbered [.int x1] σ (mQi S Q) :=
  m_metI hD ⟨rfl, by decide, by show _ = some 1; decide +kernel, q2479⟩ q2478 qs138 (Nat.le_of_ble_eq_true rfl) (fun κ Z h hR => mt_cellNumbered h hR hw)
def mw_cellTold (σ : FS) (Q : Int32 → FS → Prop) : Prop :=
  (vp_in (0 : Int32) 6 ∧ mw_number (0 : Int32) ((fA σ 39 (Int32.toNatClampNeg (0 : Int32))) - (1 : Int32)) σ (fun r2 σ1 => (vp_in (1 : Int32) 6 ∧ mw_number (0 : Int32) ((fA σ1 39 (Int32.toNatClampNeg (1 : Int32))) - (1 : Int32)) σ1 (fun r4 σ3 => ((¬ (fI σ3 0 5) = 0 → Q (0 : Int32) σ3) ∧ ((fI σ3 0 5) = 0 → Q (r2 + ((7 : Int32) * r4)) σ3))))))
theorem mt_cellTold {κ : Cx} {S : Adr} {Z : State → Prop} {Q : Int32 → FS → Prop} (h : MCx κ cX6_cellTold S 3) (hR : RetI κ S Z cX6_cellTold Q) {σ : FS} (hw : mw_cellTold σ Q) : MG κ S Z 0 σ [some (.ref (S.2.1 0)), none, none] [] := by
  unfold mw_cellTold at hw
  refine g_aload_0 0 h.1 dX6_cellTold_0 ?_
  refine g_iconstv 1 _ ic_0 h.1 dX6_cellTold_1 ?_
  refine g_aload_0 2 h.1 dX6_cellTold_2 ?_
  refine mg_39 3 h dX6_cellTold_3 ?_
  refine g_iconstv 6 _ ic_0 h.1 dX6_cellTold_6 ?_
  refine m_iald 7 rfl hw.1 h dX6_cellTold_7 ?_
  have hw := hw.2
  refine g_iconstv 8 _ ic_1 h.1 dX6_cellTold_8 ?_
  refine g_isub 9 h.1 dX6_cellTold_9 ?_
  refine m_callI_2 10 h (mm_number h.2.2.1 hw) (by decide) q2140 (Nat.le_of_ble_eq_true rfl) dX6_cellTold_10 (fun r2 σ1 hw => ?_)
  refine g_istore_1 13 h.1 rfl dX6_cellTold_13 ?_
  refine g_aload_0 14 h.1 dX6_cellTold_14 ?_
  refine g_iconstv 15 _ ic_0 h.1 dX6_cellTold_15 ?_
  refine g_aload_0 16 h.1 dX6_cellTold_16 ?_
  refine mg_39 17 h dX6_cellTold_17 ?_
  refine g_iconstv 20 _ ic_1 h.1 dX6_cellTold_20 ?_
  refine m_iald 21 rfl hw.1 h dX6_cellTold_21 ?_
  have hw := hw.2
  refine g_iconstv 22 _ ic_1 h.1 dX6_cellTold_22 ?_
  refine g_isub 23 h.1 dX6_cellTold_23 ?_
  refine m_callI_2 24 h (mm_number h.2.2.1 hw) (by decide) q2140 (Nat.le_of_ble_eq_true rfl) dX6_cellTold_24 (fun r4 σ3 hw => ?_)
  refine g_istore_2 27 h.1 rfl dX6_cellTold_27 ?_
  refine g_aload_0 28 h.1 dX6_cellTold_28 ?_
  refine mg_5 29 h dX6_cellTold_29 ?_
  refine g_if_ne 32 44 h.1 dX6_cellTold_32 (by decide) (fun c => ?_) (fun c => ?_)
  · have hw := hw.1 c
    refine g_iconstv 44 _ ic_0 h.1 dX6_cellTold_44 ?_
    exact hR 45 _ _ _ dX6_cellTold_45 hw
  · have hw := hw.2 c
    refine g_iload_1 35 h.1 dX6_cellTold_35 ?_
    refine g_bipush 36 _ bp_7 h.1 dX6_cellTold_36 ?_
    refine g_iload_2 38 h.1 dX6_cellTold_38 ?_
    refine g_imul 39 h.1 dX6_cellTold_39 ?_
    refine g_iadd 40 h.1 dX6_cellTold_40 ?_
    refine g_goto 41 45 h.1 dX6_cellTold_41 (by decide) ?_
    exact hR 45 _ _ _ dX6_cellTold_45 hw
theorem mm_cellTold {l : Launch} {S : Adr} (hD : MD S) {σ : FS} {Q : Int32 → FS → Prop} (hw : mw_cellTold σ Q) : mMet l S 3 yX6_cellTold [] σ (mQi S Q) :=
  m_metI hD ⟨rfl, by decide, by show _ = some 0; decide +kernel, q2169⟩ q2168 qs78 (Nat.le_of_ble_eq_true rfl) (fun κ Z h hR => mt_cellTold h hR hw)
