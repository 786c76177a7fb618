/-! THE REFERENCE, walked: for each cut point of each method its predicate and its walk (written by gen_w.py) -/
def mw_topicTold (x1 : Int32) (σ : FS) (Q : FS → Prop) : Prop :=
  mw_isFull (0 : Int32) (5 : Int32) x1 σ (fun r2 σ1 => ((r2 = 0 → mw_newName σ1 (fun r4 σ3 => (((fI σ3 0 5) = 0 → (vp_in (0 : Int32) 6 ∧ (vp_in (fA σ3 40 (Int32.toNatClampNeg (0 : Int32))) 32 ∧ ∀ σ5, σ5 = sB σ3 41 (Int32.toNatClampNeg (fA σ3 40 (Int32.toNatClampNeg (0 : Int32)))) r4 → (vp_in (0 : Int32) 6 ∧ (vp_in (0 : Int32) 6 ∧ ∀ σ6, σ6 = sA σ5 40 (Int32.toNatClampNeg (0 : Int32)) ((fA σ5 40 (Int32.toNatClampNeg (0 : Int32))) + (1 : Int32)) → Q σ6))))) ∧ (¬ (fI σ3 0 5) = 0 → Q σ3)))) ∧ (¬ r2 = 0 → Q σ1)))
theorem mt_topicTold {κ : Cx} {S : Adr} {Z : State → Prop} {Q : FS → Prop} (h : MCx κ cX6_topicTold S 6) (hR : RetV κ S Z cX6_topicTold Q) {x1 : Int32} {σ : FS} (hw : mw_topicTold x1 σ Q) : MG κ S Z 0 σ [some (.ref (S.2.1 0)), some (.int x1), none, none] [] := by
  unfold mw_topicTold at hw
  refine g_aload_0 0 h.1 dX6_topicTold_0 ?_
  refine g_iconstv 1 _ ic_0 h.1 dX6_topicTold_1 ?_
  refine g_iconstv 2 _ ic_5 h.1 dX6_topicTold_2 ?_
  refine g_iload_1 3 h.1 dX6_topicTold_3 ?_
  refine m_callI_3 4 h (mm_isFull h.2.2.1 hw) (by decide) q2174 (Nat.le_of_ble_eq_true rfl) dX6_topicTold_4 (fun r2 σ1 hw => ?_)
  refine g_if_eq 7 11 h.1 dX6_topicTold_7 (by decide) (fun c => ?_) (fun c => ?_)
  · have hw := hw.1 c
    refine g_aload_0 11 h.1 dX6_topicTold_11 ?_
    refine m_callL_0 12 h (mm_newName h.2.2.1 hw) (by decide) q2178 (Nat.le_of_ble_eq_true rfl) dX6_topicTold_12 (fun r4 σ3 hw => ?_)
    refine g_lstore_2 15 h.1 rfl dX6_topicTold_15 ?_
    refine g_aload_0 16 h.1 dX6_topicTold_16 ?_
    refine mg_5 17 h dX6_topicTold_17 ?_
    refine g_if_eq 20 24 h.1 dX6_topicTold_20 (by decide) (fun c => ?_) (fun c => ?_)
    · have hw := hw.1 c
      refine g_aload_0 24 h.1 dX6_topicTold_24 ?_
      refine mg_41 25 h dX6_topicTold_25 ?_
      refine g_aload_0 28 h.1 dX6_topicTold_28 ?_
      refine mg_40 29 h dX6_topicTold_29 ?_
      refine g_iconstv 32 _ ic_0 h.1 dX6_topicTold_32 ?_
      refine m_iald 33 rfl hw.1 h dX6_topicTold_33 ?_
      have hw := hw.2
      refine g_lload_2 34 h.1 dX6_topicTold_34 ?_
      refine m_last 35 rfl hw.1 h dX6_topicTold_35 ?_
      have hw := hw.2 _ rfl
      refine g_aload_0 36 h.1 dX6_topicTold_36 ?_
      refine mg_40 37 h dX6_topicTold_37 ?_
      refine g_iconstv 40 _ ic_0 h.1 dX6_topicTold_40 ?_
      refine g_dup2 41 rfl rfl h.1 dX6_topicTold_41 ?_
      refine m_iald 42 rfl hw.1 h dX6_topicTold_42 ?_
      have hw := hw.2
      refine g_iconstv 43 _ ic_1 h.1 dX6_topicTold_43 ?_
      refine g_iadd 44 h.1 dX6_topicTold_44 ?_
      refine m_iast 45 rfl hw.1 h dX6_topicTold_45 ?_
      have hw := hw.2 _ rfl
      exact hR 46 _ _ dX6_topicTold_46 hw
    · have hw := hw.2 c
      exact hR 23 _ _ dX6_topicTold_23 hw
  · have hw := hw.2 c
    exact hR 10 _ _ dX6_topicTold_10 hw
theorem mm_topicTold {l : Launch} {S : Adr} (hD : MD S) {x1 : Int32} {σ : FS} {Q : FS → Prop} (hw : mw_topicTold x1 σ Q) : mMet l S 6 yX6_topicTold [.int x1] σ (mQv S Q) :=
  m_metV hD ⟨rfl, by decide, by show _ = some 1; decide +kernel, q2173⟩ q2172 qs79 (Nat.le_of_ble_eq_true rfl) (fun κ Z h hR => mt_topicTold h hR hw)
def mw_statementTold_195 (σ : FS) (Q : FS → Prop) : Prop :=
  mw_asksSign (59 : Int32) σ (fun σ30 => (∀ σ31, σ31 = sI σ30 0 49 ((fI σ30 0 49) + (1 : Int32)) → Q σ31))
theorem mt_statementTold_195 {κ : Cx} {S : Adr} {Z : State → Prop} {Q : FS → Prop} (h : MCx κ cX6_statementTold S 11) (hR : RetV κ S Z cX6_statementTold Q) {σ : FS} (hw : mw_statementTold_195 σ Q) : MG κ S Z 195 σ [some (.ref (S.2.1 0)), none] [] := by
  unfold mw_statementTold_195 at hw
  refine g_aload_0 195 h.1 dX6_statementTold_195 ?_
  refine g_bipush 196 _ bp_59 h.1 dX6_statementTold_196 ?_
  refine m_callV_1 198 h (mm_asksSign h.2.2.1 hw) (by decide) q2150 (Nat.le_of_ble_eq_true rfl) dX6_statementTold_198 (fun σ30 hw => ?_)
  refine g_aload_0 201 h.1 dX6_statementTold_201 ?_
  refine g_dup 202 rfl h.1 dX6_statementTold_202 ?_
  refine mg_49 203 h dX6_statementTold_203 ?_
  refine g_iconstv 206 _ ic_1 h.1 dX6_statementTold_206 ?_
  refine g_iadd 207 h.1 dX6_statementTold_207 ?_
  refine mp_49 208 h dX6_statementTold_208 ?_
  have hw := hw _ rfl
  exact hR 211 _ _ dX6_statementTold_211 hw
def mw_statementTold (σ : FS) (Q : FS → Prop) : Prop :=
  ((¬ (fI σ 0 49) = (80 : Int32) → mw_takes 13 σ (fun r2 σ1 => ((r2 = 0 → mw_takes 14 σ1 (fun r4 σ3 => ((r4 = 0 → mw_takes 15 σ3 (fun r6 σ5 => ((r6 = 0 → mw_takes 18 σ5 (fun r8 σ7 => ((r8 = 0 → mw_takes 20 σ7 (fun r10 σ9 => ((r10 = 0 → mw_takes 21 σ9 (fun r12 σ11 => ((r12 = 0 → mw_takes 22 σ11 (fun r14 σ13 => ((r14 = 0 → mw_takes 23 σ13 (fun r16 σ15 => ((r16 = 0 → mw_needs 24 σ15 (fun σ17 => mw_number (0 : Int32) (100 : Int32) σ17 (fun r19 σ18 => (vp_in (2 : Int32) 6 ∧ ∀ σ20, σ20 = sA σ18 39 (Int32.toNatClampNeg (2 : Int32)) r19 → mw_statementTold_195 σ20 Q)))) ∧ (¬ r16 = 0 → mw_codesTold (2 : Int32) (fI σ 0 2) σ15 (fun σ21 => mw_statementTold_195 σ21 Q))))) ∧ (¬ r14 = 0 → mw_codesTold (1 : Int32) (fI σ 0 2) σ13 (fun σ22 => mw_statementTold_195 σ22 Q))))) ∧ (¬ r12 = 0 → mw_codesTold (0 : Int32) (fI σ 0 2) σ11 (fun σ23 => mw_statementTold_195 σ23 Q))))) ∧ (¬ r10 = 0 → mw_listTold (fI σ 0 2) σ9 (fun σ24 => mw_statementTold_195 σ24 Q))))) ∧ (¬ r8 = 0 → mw_knowsTold σ7 (fun σ25 => mw_statementTold_195 σ25 Q))))) ∧ (¬ r6 = 0 → mw_personTold (fI σ 0 2) σ5 (fun σ26 => mw_statementTold_195 σ26 Q))))) ∧ (¬ r4 = 0 → mw_topicTold (fI σ 0 2) σ3 (fun σ27 => mw_statementTold_195 σ27 Q))))) ∧ (¬ r2 = 0 → mw_highTold σ1 (fun σ28 => mw_statementTold_195 σ28 Q))))) ∧ ((fI σ 0 49) = (80 : Int32) → mw_fail (5 : Int32) (fI σ 0 2) σ (fun σ29 => Q σ29)))
theorem mt_statementTold {κ : Cx} {S : Adr} {Z : State → Prop} {Q : FS → Prop} (h : MCx κ cX6_statementTold S 11) (hR : RetV κ S Z cX6_statementTold Q) {σ : FS} (hw : mw_statementTold σ Q) : MG κ S Z 0 σ [some (.ref (S.2.1 0)), none] [] := by
  unfold mw_statementTold at hw
  refine g_aload_0 0 h.1 dX6_statementTold_0 ?_
  refine mg_2 1 h dX6_statementTold_1 ?_
  refine g_istore_1 4 h.1 rfl dX6_statementTold_4 ?_
  refine g_aload_0 5 h.1 dX6_statementTold_5 ?_
  refine mg_49 6 h dX6_statementTold_6 ?_
  refine g_bipush 9 _ bp_80 h.1 dX6_statementTold_9 ?_
  refine g_icmp_ne 11 21 h.1 dX6_statementTold_11 (by decide) (fun c => ?_) (fun c => ?_)
  · have hw := hw.1 c
    refine g_aload_0 21 h.1 dX6_statementTold_21 ?_
    refine g_aload_0 22 h.1 dX6_statementTold_22 ?_
    refine mg_13 23 h dX6_statementTold_23 ?_
    refine m_callI_1 26 h (mm_takes h.2.2.1 hw) (by decide) q2121 (Nat.le_of_ble_eq_true rfl) dX6_statementTold_26 (fun r2 σ1 hw => ?_)
    refine g_if_eq 29 39 h.1 dX6_statementTold_29 (by decide) (fun c => ?_) (fun c => ?_)
    · have hw := hw.1 c
      refine g_aload_0 39 h.1 dX6_statementTold_39 ?_
      refine g_aload_0 40 h.1 dX6_statementTold_40 ?_
      refine mg_14 41 h dX6_statementTold_41 ?_
      refine m_callI_1 44 h (mm_takes h.2.2.1 hw) (by decide) q2121 (Nat.le_of_ble_eq_true rfl) dX6_statementTold_44 (fun r4 σ3 hw => ?_)
      refine g_if_eq 47 58 h.1 dX6_statementTold_47 (by decide) (fun c => ?_) (fun c => ?_)
      · have hw := hw.1 c
        refine g_aload_0 58 h.1 dX6_statementTold_58 ?_
        refine g_aload_0 59 h.1 dX6_statementTold_59 ?_
        refine mg_15 60 h dX6_statementTold_60 ?_
        refine m_callI_1 63 h (mm_takes h.2.2.1 hw) (by decide) q2121 (Nat.le_of_ble_eq_true rfl) dX6_statementTold_63 (fun r6 σ5 hw => ?_)
        refine g_if_eq 66 77 h.1 dX6_statementTold_66 (by decide) (fun c => ?_) (fun c => ?_)
        · have hw := hw.1 c
          refine g_aload_0 77 h.1 dX6_statementTold_77 ?_
          refine g_aload_0 78 h.1 dX6_statementTold_78 ?_
          refine mg_18 79 h dX6_statementTold_79 ?_
          refine m_callI_1 82 h (mm_takes h.2.2.1 hw) (by decide) q2121 (Nat.le_of_ble_eq_true rfl) dX6_statementTold_82 (fun r8 σ7 hw => ?_)
          refine g_if_eq 85 95 h.1 dX6_statementTold_85 (by decide) (fun c => ?_) (fun c => ?_)
          · have hw := hw.1 c
            refine g_aload_0 95 h.1 dX6_statementTold_95 ?_
            refine g_aload_0 96 h.1 dX6_statementTold_96 ?_
            refine mg_20 97 h dX6_statementTold_97 ?_
            refine m_callI_1 100 h (mm_takes h.2.2.1 hw) (by decide) q2121 (Nat.le_of_ble_eq_true rfl) dX6_statementTold_100 (fun r10 σ9 hw => ?_)
            refine g_if_eq 103 114 h.1 dX6_statementTold_103 (by decide) (fun c => ?_) (fun c => ?_)
            · have hw := hw.1 c
              refine g_aload_0 114 h.1 dX6_statementTold_114 ?_
              refine g_aload_0 115 h.1 dX6_statementTold_115 ?_
              refine mg_21 116 h dX6_statementTold_116 ?_
              refine m_callI_1 119 h (mm_takes h.2.2.1 hw) (by decide) q2121 (Nat.le_of_ble_eq_true rfl) dX6_statementTold_119 (fun r12 σ11 hw => ?_)
              refine g_if_eq 122 134 h.1 dX6_statementTold_122 (by decide) (fun c => ?_) (fun c => ?_)
              · have hw := hw.1 c
                refine g_aload_0 134 h.1 dX6_statementTold_134 ?_
                refine g_aload_0 135 h.1 dX6_statementTold_135 ?_
                refine mg_22 136 h dX6_statementTold_136 ?_
                refine m_callI_1 139 h (mm_takes h.2.2.1 hw) (by decide) q2121 (Nat.le_of_ble_eq_true rfl) dX6_statementTold_139 (fun r14 σ13 hw => ?_)
                refine g_if_eq 142 154 h.1 dX6_statementTold_142 (by decide) (fun c => ?_) (fun c => ?_)
                · have hw := hw.1 c
                  refine g_aload_0 154 h.1 dX6_statementTold_154 ?_
                  refine g_aload_0 155 h.1 dX6_statementTold_155 ?_
                  refine mg_23 156 h dX6_statementTold_156 ?_
                  refine m_callI_1 159 h (mm_takes h.2.2.1 hw) (by decide) q2121 (Nat.le_of_ble_eq_true rfl) dX6_statementTold_159 (fun r16 σ15 hw => ?_)
                  refine g_if_eq 162 174 h.1 dX6_statementTold_162 (by decide) (fun c => ?_) (fun c => ?_)
                  · have hw := hw.1 c
                    refine g_aload_0 174 h.1 dX6_statementTold_174 ?_
                    refine g_aload_0 175 h.1 dX6_statementTold_175 ?_
                    refine mg_24 176 h dX6_statementTold_176 ?_
                    refine m_callV_1 179 h (mm_needs h.2.2.1 hw) (by decide) q2117 (Nat.le_of_ble_eq_true rfl) dX6_statementTold_179 (fun σ17 hw => ?_)
                    refine g_aload_0 182 h.1 dX6_statementTold_182 ?_
                    refine mg_39 183 h dX6_statementTold_183 ?_
                    refine g_iconstv 186 _ ic_2 h.1 dX6_statementTold_186 ?_
                    refine g_aload_0 187 h.1 dX6_statementTold_187 ?_
                    refine g_iconstv 188 _ ic_0 h.1 dX6_statementTold_188 ?_
                    refine g_bipush 189 _ bp_100 h.1 dX6_statementTold_189 ?_
                    refine m_callI_2 191 h (mm_number h.2.2.1 hw) (by decide) q2140 (Nat.le_of_ble_eq_true rfl) dX6_statementTold_191 (fun r19 σ18 hw => ?_)
                    refine m_iast 194 rfl hw.1 h dX6_statementTold_194 ?_
                    have hw := hw.2 _ rfl
                    exact g_le (mt_statementTold_195 h hR hw) ⟨rfl, trivial⟩
                  · have hw := hw.2 c
                    refine g_aload_0 165 h.1 dX6_statementTold_165 ?_
                    refine g_iconstv 166 _ ic_2 h.1 dX6_statementTold_166 ?_
                    refine g_iload_1 167 h.1 dX6_statementTold_167 ?_
                    refine m_callV_2 168 h (mm_codesTold h.2.2.1 hw) (by decide) q2208 (Nat.le_of_ble_eq_true rfl) dX6_statementTold_168 (fun σ21 hw => ?_)
                    refine g_goto 171 195 h.1 dX6_statementTold_171 (by decide) ?_
                    exact g_le (mt_statementTold_195 h hR hw) ⟨rfl, trivial⟩
                · have hw := hw.2 c
                  refine g_aload_0 145 h.1 dX6_statementTold_145 ?_
                  refine g_iconstv 146 _ ic_1 h.1 dX6_statementTold_146 ?_
                  refine g_iload_1 147 h.1 dX6_statementTold_147 ?_
                  refine m_callV_2 148 h (mm_codesTold h.2.2.1 hw) (by decide) q2208 (Nat.le_of_ble_eq_true rfl) dX6_statementTold_148 (fun σ22 hw => ?_)
                  refine g_goto 151 195 h.1 dX6_statementTold_151 (by decide) ?_
                  exact g_le (mt_statementTold_195 h hR hw) ⟨rfl, trivial⟩
              · have hw := hw.2 c
                refine g_aload_0 125 h.1 dX6_statementTold_125 ?_
                refine g_iconstv 126 _ ic_0 h.1 dX6_statementTold_126 ?_
                refine g_iload_1 127 h.1 dX6_statementTold_127 ?_
                refine m_callV_2 128 h (mm_codesTold h.2.2.1 hw) (by decide) q2208 (Nat.le_of_ble_eq_true rfl) dX6_statementTold_128 (fun σ23 hw => ?_)
                refine g_goto 131 195 h.1 dX6_statementTold_131 (by decide) ?_
                exact g_le (mt_statementTold_195 h hR hw) ⟨rfl, trivial⟩
            · have hw := hw.2 c
              refine g_aload_0 106 h.1 dX6_statementTold_106 ?_
              refine g_iload_1 107 h.1 dX6_statementTold_107 ?_
              refine m_callV_1 108 h (mm_listTold h.2.2.1 hw) (by decide) q2204 (Nat.le_of_ble_eq_true rfl) dX6_statementTold_108 (fun σ24 hw => ?_)
              refine g_goto 111 195 h.1 dX6_statementTold_111 (by decide) ?_
              exact g_le (mt_statementTold_195 h hR hw) ⟨rfl, trivial⟩
          · have hw := hw.2 c
            refine g_aload_0 88 h.1 dX6_statementTold_88 ?_
            refine m_callV_0 89 h (mm_knowsTold h.2.2.1 hw) (by decide) q2196 (Nat.le_of_ble_eq_true rfl) dX6_statementTold_89 (fun σ25 hw => ?_)
            refine g_goto 92 195 h.1 dX6_statementTold_92 (by decide) ?_
            exact g_le (mt_statementTold_195 h hR hw) ⟨rfl, trivial⟩
        · have hw := hw.2 c
          refine g_aload_0 69 h.1 dX6_statementTold_69 ?_
          refine g_iload_1 70 h.1 dX6_statementTold_70 ?_
          refine m_callV_1 71 h (mm_personTold h.2.2.1 hw) (by decide) q2192 (Nat.le_of_ble_eq_true rfl) dX6_statementTold_71 (fun σ26 hw => ?_)
          refine g_goto 74 195 h.1 dX6_statementTold_74 (by decide) ?_
          exact g_le (mt_statementTold_195 h hR hw) ⟨rfl, trivial⟩
      · have hw := hw.2 c
        refine g_aload_0 50 h.1 dX6_statementTold_50 ?_
        refine g_iload_1 51 h.1 dX6_statementTold_51 ?_
        refine m_callV_1 52 h (mm_topicTold h.2.2.1 hw) (by decide) q2170 (Nat.le_of_ble_eq_true rfl) dX6_statementTold_52 (fun σ27 hw => ?_)
        refine g_goto 55 195 h.1 dX6_statementTold_55 (by decide) ?_
        exact g_le (mt_statementTold_195 h hR hw) ⟨rfl, trivial⟩
    · have hw := hw.2 c
      refine g_aload_0 32 h.1 dX6_statementTold_32 ?_
      refine m_callV_0 33 h (mm_highTold h.2.2.1 hw) (by decide) q2162 (Nat.le_of_ble_eq_true rfl) dX6_statementTold_33 (fun σ28 hw => ?_)
      refine g_goto 36 195 h.1 dX6_statementTold_36 (by decide) ?_
      exact g_le (mt_statementTold_195 h hR hw) ⟨rfl, trivial⟩
  · have hw := hw.2 c
    refine g_aload_0 14 h.1 dX6_statementTold_14 ?_
    refine g_iconstv 15 _ ic_5 h.1 dX6_statementTold_15 ?_
    refine g_iload_1 16 h.1 dX6_statementTold_16 ?_
    refine m_callV_2 17 h (mm_fail h.2.2.1 hw) (by decide) q2136 (Nat.le_of_ble_eq_true rfl) dX6_statementTold_17 (fun σ29 hw => ?_)
    exact hR 20 _ _ dX6_statementTold_20 hw
theorem mm_statementTold {l : Launch} {S : Adr} (hD : MD S) {σ : FS} {Q : FS → Prop} (hw : mw_statementTold σ Q) : mMet l S 11 yX6_statementTold [] σ (mQv S Q) :=
  m_metV hD ⟨rfl, by decide, by show _ = some 0; decide +kernel, q2161⟩ q2160 qs76 (Nat.le_of_ble_eq_true rfl) (fun κ Z h hR => mt_statementTold h hR hw)
def mw_plain_125 (σ : FS) (Q : Int32 → FS → Prop) : Prop :=
  (∀ σ17, σ17 = sI σ 0 7 (fI σ 0 5) → (∀ σ18, σ18 = sI σ17 0 8 (fI σ17 0 6) → (((fI σ18 0 5) = 0 → mw_stands σ18 (fun σ19 => Q (fI σ19 0 49) σ19)) ∧ (¬ (fI σ18 0 5) = 0 → (vp_in (1 : Int32) 6 ∧ (vp_in (1 : Int32) 6 ∧ ∀ σ20, σ20 = sA σ18 9 (Int32.toNatClampNeg (1 : Int32)) ((fA σ18 9 (Int32.toNatClampNeg (1 : Int32))) + (1 : Int32)) → Q (-1 : Int32) σ20))))))
theorem mt_plain_125 {κ : Cx} {S : Adr} {Z : State → Prop} {Q : Int32 → FS → Prop} (h : MCx κ cX6_plain S 12) (hR : RetI κ S Z cX6_plain Q) {σ : FS} (hw : mw_plain_125 σ Q) : MG κ S Z 125 σ [some (.ref (S.2.1 0)), none] [] := by
  unfold mw_plain_125 at hw
  refine g_aload_0 125 h.1 dX6_plain_125 ?_
  refine g_aload_0 126 h.1 dX6_plain_126 ?_
  refine mg_5 127 h dX6_plain_127 ?_
  refine mp_7 130 h dX6_plain_130 ?_
  have hw := hw _ rfl
  refine g_aload_0 133 h.1 dX6_plain_133 ?_
  refine g_aload_0 134 h.1 dX6_plain_134 ?_
  refine mg_6 135 h dX6_plain_135 ?_
  refine mp_8 138 h dX6_plain_138 ?_
  have hw := hw _ rfl
  refine g_aload_0 141 h.1 dX6_plain_141 ?_
  refine mg_5 142 h dX6_plain_142 ?_
  refine g_if_eq 145 160 h.1 dX6_plain_145 (by decide) (fun c => ?_) (fun c => ?_)
  · have hw := hw.1 c
    refine g_aload_0 160 h.1 dX6_plain_160 ?_
    refine m_callV_0 161 h (mm_stands h.2.2.1 hw) (by decide) q2291 (Nat.le_of_ble_eq_true rfl) dX6_plain_161 (fun σ19 hw => ?_)
    refine g_aload_0 164 h.1 dX6_plain_164 ?_
    refine mg_49 165 h dX6_plain_165 ?_
    exact hR 168 _ _ _ dX6_plain_168 hw
  · have hw := hw.2 c
    refine g_aload_0 148 h.1 dX6_plain_148 ?_
    refine mg_9 149 h dX6_plain_149 ?_
    refine g_iconstv 152 _ ic_1 h.1 dX6_plain_152 ?_
    refine g_dup2 153 rfl rfl h.1 dX6_plain_153 ?_
    refine m_iald 154 rfl hw.1 h dX6_plain_154 ?_
    have hw := hw.2
    refine g_iconstv 155 _ ic_1 h.1 dX6_plain_155 ?_
    refine g_iadd 156 h.1 dX6_plain_156 ?_
    refine m_iast 157 rfl hw.1 h dX6_plain_157 ?_
    have hw := hw.2 _ rfl
    refine g_iconstv 158 _ ic_m1 h.1 dX6_plain_158 ?_
    exact hR 159 _ _ _ dX6_plain_159 hw
def mw_plain_103 (σ : FS) (Q : Int32 → FS → Prop) : Prop :=
  ∀ X103 : FS → Prop, (∀ (σ : FS), ((¬ (fI σ 0 5) = 0 → mw_plain_125 σ Q) ∧ ((fI σ 0 5) = 0 → mw_look σ (fun r15 σ14 => ((r15 = (-1 : Int32) → mw_plain_125 σ14 Q) ∧ (¬ r15 = (-1 : Int32) → mw_statementTold σ14 (fun σ16 => X103 σ16)))))) → X103 σ) → X103 σ
theorem mt_plain_103 {κ : Cx} {S : Adr} {Z : State → Prop} {Q : Int32 → FS → Prop} (h : MCx κ cX6_plain S 12) (hR : RetI κ S Z cX6_plain Q) {σ : FS} (hw : mw_plain_103 σ Q) : MG κ S Z 103 σ [some (.ref (S.2.1 0)), none] [] := by
  refine hw (fun σ => MG κ S Z 103 σ [some (.ref (S.2.1 0)), none] []) ?_
  clear hw
  intro σ hw
  have hX103 : ∀ (σ : FS), MG κ S Z 103 σ [some (.ref (S.2.1 0)), none] [] → MG κ S Z 103 σ [some (.ref (S.2.1 0)), none] [] := fun _ hh => hh
  refine g_aload_0 103 h.1 dX6_plain_103 ?_
  refine mg_5 104 h dX6_plain_104 ?_
  refine g_if_ne 107 125 h.1 dX6_plain_107 (by decide) (fun c => ?_) (fun c => ?_)
  · have hw := hw.1 c
    exact g_le (mt_plain_125 h hR hw) ⟨rfl, trivial⟩
  · have hw := hw.2 c
    refine g_aload_0 110 h.1 dX6_plain_110 ?_
    refine m_callI_0 111 h (mm_look h.2.2.1 hw) (by decide) q2129 (Nat.le_of_ble_eq_true rfl) dX6_plain_111 (fun r15 σ14 hw => ?_)
    refine g_iconstv 114 _ ic_m1 h.1 dX6_plain_114 ?_
    refine g_icmp_eq 115 125 h.1 dX6_plain_115 (by decide) (fun c => ?_) (fun c => ?_)
    · have hw := hw.1 c
      exact g_le (mt_plain_125 h hR hw) ⟨rfl, trivial⟩
    · have hw := hw.2 c
      refine g_aload_0 118 h.1 dX6_plain_118 ?_
      refine m_callV_0 119 h (mm_statementTold h.2.2.1 hw) (by decide) q2158 (Nat.le_of_ble_eq_true rfl) dX6_plain_119 (fun σ16 hw => ?_)
      refine g_goto 122 103 h.1 dX6_plain_122 (by decide) ?_
      exact g_le (hX103 _ hw) ⟨rfl, trivial⟩
def mw_plain_74 (x1 : Int32) (σ : FS) (Q : Int32 → FS → Prop) : Prop :=
  ∀ X74 : Int32 → FS → Prop, (∀ (x1 : Int32) (σ : FS), (((49 : Int32) ≤ x1 → mw_plainTold σ (fun σ11 => (∀ σ12, σ12 = sI σ11 0 49 (1 : Int32) → mw_plain_103 σ12 Q))) ∧ (¬ (49 : Int32) ≤ x1 → (vp_in x1 49 ∧ ∀ σ13, σ13 = sA σ 42 (Int32.toNatClampNeg x1) (50 : Int32) → X74 (x1 + 1) σ13))) → X74 x1 σ) → X74 x1 σ
theorem mt_plain_74 {κ : Cx} {S : Adr} {Z : State → Prop} {Q : Int32 → FS → Prop} (h : MCx κ cX6_plain S 12) (hR : RetI κ S Z cX6_plain Q) {x1 : Int32} {σ : FS} (hw : mw_plain_74 x1 σ Q) : MG κ S Z 74 σ [some (.ref (S.2.1 0)), some (.int x1)] [] := by
  refine hw (fun x1 σ => MG κ S Z 74 σ [some (.ref (S.2.1 0)), some (.int x1)] []) ?_
  clear hw
  intro x1 σ hw
  have hX74 : ∀ (x1 : Int32) (σ : FS), MG κ S Z 74 σ [some (.ref (S.2.1 0)), some (.int x1)] [] → MG κ S Z 74 σ [some (.ref (S.2.1 0)), some (.int x1)] [] := fun _ _ hh => hh
  refine g_iload_1 74 h.1 dX6_plain_74 ?_
  refine g_bipush 75 _ bp_49 h.1 dX6_plain_75 ?_
  refine g_icmp_ge 77 94 h.1 dX6_plain_77 (by decide) (fun c => ?_) (fun c => ?_)
  · have hw := hw.1 c
    refine g_aload_0 94 h.1 dX6_plain_94 ?_
    refine m_callV_0 95 h (mm_plainTold h.2.2.1 hw) (by decide) q2113 (Nat.le_of_ble_eq_true rfl) dX6_plain_95 (fun σ11 hw => ?_)
    refine g_aload_0 98 h.1 dX6_plain_98 ?_
    refine g_iconstv 99 _ ic_1 h.1 dX6_plain_99 ?_
    refine mp_49 100 h dX6_plain_100 ?_
    have hw := hw _ rfl
    exact g_le (mt_plain_103 h hR hw) ⟨rfl, trivial⟩
  · have hw := hw.2 c
    refine g_aload_0 80 h.1 dX6_plain_80 ?_
    refine mg_42 81 h dX6_plain_81 ?_
    refine g_iload_1 84 h.1 dX6_plain_84 ?_
    refine g_bipush 85 _ bp_50 h.1 dX6_plain_85 ?_
    refine m_iast 87 rfl hw.1 h dX6_plain_87 ?_
    have hw := hw.2 _ rfl
    refine g_iinc_1 88 (x1 + 1) (congrArg _ ic_1) h.1 rfl dX6_plain_88 ?_
    refine g_goto 91 74 h.1 dX6_plain_91 (by decide) ?_
    exact g_le (hX74 _ _ hw) ⟨rfl, rfl, trivial⟩
def mw_plain_47 (x1 : Int32) (σ : FS) (Q : Int32 → FS → Prop) : Prop :=
  ∀ X47 : Int32 → FS → Prop, (∀ (x1 : Int32) (σ : FS), (((3 : Int32) ≤ x1 → mw_plain_74 (0 : Int32) σ Q) ∧ (¬ (3 : Int32) ≤ x1 → (vp_in x1 6 ∧ ∀ σ9, σ9 = sA σ 40 (Int32.toNatClampNeg x1) (0 : Int32) → (vp_in x1 6 ∧ ∀ σ10, σ10 = sA σ9 45 (Int32.toNatClampNeg x1) (-1 : Int32) → X47 (x1 + 1) σ10)))) → X47 x1 σ) → X47 x1 σ
theorem mt_plain_47 {κ : Cx} {S : Adr} {Z : State → Prop} {Q : Int32 → FS → Prop} (h : MCx κ cX6_plain S 12) (hR : RetI κ S Z cX6_plain Q) {x1 : Int32} {σ : FS} (hw : mw_plain_47 x1 σ Q) : MG κ S Z 47 σ [some (.ref (S.2.1 0)), some (.int x1)] [] := by
  refine hw (fun x1 σ => MG κ S Z 47 σ [some (.ref (S.2.1 0)), some (.int x1)] []) ?_
  clear hw
  intro x1 σ hw
  have hX47 : ∀ (x1 : Int32) (σ : FS), MG κ S Z 47 σ [some (.ref (S.2.1 0)), some (.int x1)] [] → MG κ S Z 47 σ [some (.ref (S.2.1 0)), some (.int x1)] [] := fun _ _ hh => hh
  refine g_iload_1 47 h.1 dX6_plain_47 ?_
  refine g_iconstv 48 _ ic_3 h.1 dX6_plain_48 ?_
  refine g_icmp_ge 49 72 h.1 dX6_plain_49 (by decide) (fun c => ?_) (fun c => ?_)
  · have hw := hw.1 c
    refine g_iconstv 72 _ ic_0 h.1 dX6_plain_72 ?_
    refine g_istore_1 73 h.1 rfl dX6_plain_73 ?_
    exact g_le (mt_plain_74 h hR hw) ⟨rfl, rfl, trivial⟩
  · have hw := hw.2 c
    refine g_aload_0 52 h.1 dX6_plain_52 ?_
    refine mg_40 53 h dX6_plain_53 ?_
    refine g_iload_1 56 h.1 dX6_plain_56 ?_
    refine g_iconstv 57 _ ic_0 h.1 dX6_plain_57 ?_
    refine m_iast 58 rfl hw.1 h dX6_plain_58 ?_
    have hw := hw.2 _ rfl
    refine g_aload_0 59 h.1 dX6_plain_59 ?_
    refine mg_45 60 h dX6_plain_60 ?_
    refine g_iload_1 63 h.1 dX6_plain_63 ?_
    refine g_iconstv 64 _ ic_m1 h.1 dX6_plain_64 ?_
    refine m_iast 65 rfl hw.1 h dX6_plain_65 ?_
    have hw := hw.2 _ rfl
    refine g_iinc_1 66 (x1 + 1) (congrArg _ ic_1) h.1 rfl dX6_plain_66 ?_
    refine g_goto 69 47 h.1 dX6_plain_69 (by decide) ?_
    exact g_le (hX47 _ _ hw) ⟨rfl, rfl, trivial⟩
def mw_plain (σ : FS) (Q : Int32 → FS → Prop) : Prop :=
  (∀ σ1, σ1 = sI σ 0 3 (fI σ 0 1) → (∀ σ2, σ2 = sI σ1 0 1 (0 : Int32) → (∀ σ3, σ3 = sI σ2 0 2 (0 : Int32) → (∀ σ4, σ4 = sI σ3 0 4 (-1 : Int32) → (∀ σ5, σ5 = sI σ4 0 5 (0 : Int32) → (∀ σ6, σ6 = sI σ5 0 6 (-1 : Int32) → (∀ σ7, σ7 = sI σ6 0 48 (0 : Int32) → (vp_in (2 : Int32) 6 ∧ ∀ σ8, σ8 = sA σ7 39 (Int32.toNatClampNeg (2 : Int32)) (0 : Int32) → mw_plain_47 (0 : Int32) σ8 Q))))))))
theorem mt_plain {κ : Cx} {S : Adr} {Z : State → Prop} {Q : Int32 → FS → Prop} (h : MCx κ cX6_plain S 12) (hR : RetI κ S Z cX6_plain Q) {σ : FS} (hw : mw_plain σ Q) : MG κ S Z 0 σ [some (.ref (S.2.1 0)), none] [] := by
  unfold mw_plain at hw
  refine g_aload_0 0 h.1 dX6_plain_0 ?_
  refine g_aload_0 1 h.1 dX6_plain_1 ?_
  refine mg_1 2 h dX6_plain_2 ?_
  refine mp_3 5 h dX6_plain_5 ?_
  have hw := hw _ rfl
  refine g_aload_0 8 h.1 dX6_plain_8 ?_
  refine g_iconstv 9 _ ic_0 h.1 dX6_plain_9 ?_
  refine mp_1 10 h dX6_plain_10 ?_
  have hw := hw _ rfl
  refine g_aload_0 13 h.1 dX6_plain_13 ?_
  refine g_iconstv 14 _ ic_0 h.1 dX6_plain_14 ?_
  refine mp_2 15 h dX6_plain_15 ?_
  have hw := hw _ rfl
  refine g_aload_0 18 h.1 dX6_plain_18 ?_
  refine g_iconstv 19 _ ic_m1 h.1 dX6_plain_19 ?_
  refine mp_4 20 h dX6_plain_20 ?_
  have hw := hw _ rfl
  refine g_aload_0 23 h.1 dX6_plain_23 ?_
  refine g_iconstv 24 _ ic_0 h.1 dX6_plain_24 ?_
  refine mp_5 25 h dX6_plain_25 ?_
  have hw := hw _ rfl
  refine g_aload_0 28 h.1 dX6_plain_28 ?_
  refine g_iconstv 29 _ ic_m1 h.1 dX6_plain_29 ?_
  refine mp_6 30 h dX6_plain_30 ?_
  have hw := hw _ rfl
  refine g_aload_0 33 h.1 dX6_plain_33 ?_
  refine g_iconstv 34 _ ic_0 h.1 dX6_plain_34 ?_
  refine mp_48 35 h dX6_plain_35 ?_
  have hw := hw _ rfl
  refine g_aload_0 38 h.1 dX6_plain_38 ?_
  refine mg_39 39 h dX6_plain_39 ?_
  refine g_iconstv 42 _ ic_2 h.1 dX6_plain_42 ?_
  refine g_iconstv 43 _ ic_0 h.1 dX6_plain_43 ?_
  refine m_iast 44 rfl hw.1 h dX6_plain_44 ?_
  have hw := hw.2 _ rfl
  refine g_iconstv 45 _ ic_0 h.1 dX6_plain_45 ?_
  refine g_istore_1 46 h.1 rfl dX6_plain_46 ?_
  exact g_le (mt_plain_47 h hR hw) ⟨rfl, rfl, trivial⟩
theorem mm_plain {l : Launch} {S : Adr} (hD : MD S) {σ : FS} {Q : Int32 → FS → Prop} (hw : mw_plain σ Q) : mMet l S 12 yX6_plain [] σ (mQi S Q) :=
  m_metI hD ⟨rfl, by decide, by show _ = some 0; decide +kernel, q2112⟩ q2110 q2111 (Nat.le_of_ble_eq_true rfl) (fun κ Z h hR => mt_plain h hR hw)
def mw_planMany (σ : FS) (Q : Int32 → FS → Prop) : Prop :=
  mw_isSo σ (fun r2 σ1 => ((r2 = 0 → mw_isOne σ1 (fun r4 σ3 => ((r4 = 0 → mw_isTwo σ3 (fun r6 σ5 => ((r6 = 0 → mw_triesAnew σ5 (fun σ7 => mw_isThree σ7 (fun r9 σ8 => ((r9 = 0 → Q (-1 : Int32) σ8) ∧ (¬ r9 = 0 → Q (3 : Int32) σ8))))) ∧ (¬ r6 = 0 → Q (2 : Int32) σ5)))) ∧ (¬ r4 = 0 → Q (1 : Int32) σ3)))) ∧ (¬ r2 = 0 → Q (0 : Int32) σ1)))
theorem mt_planMany {κ : Cx} {S : Adr} {Z : State → Prop} {Q : Int32 → FS → Prop} (h : MCx κ cX6_planMany S 10) (hR : RetI κ S Z cX6_planMany Q) {σ : FS} (hw : mw_planMany σ Q) : MG κ S Z 0 σ [some (.ref (S.2.1 0))] [] := by
  unfold mw_planMany at hw
  refine g_aload_0 0 h.1 dX6_planMany_0 ?_
  refine m_callI_0 1 h (mm_isSo h.2.2.1 hw) (by decide) q2485 (Nat.le_of_ble_eq_true rfl) dX6_planMany_1 (fun r2 σ1 hw => ?_)
  refine g_if_eq 4 9 h.1 dX6_planMany_4 (by decide) (fun c => ?_) (fun c => ?_)
  · have hw := hw.1 c
    refine g_aload_0 9 h.1 dX6_planMany_9 ?_
    refine m_callI_0 10 h (mm_isOne h.2.2.1 hw) (by decide) q2489 (Nat.le_of_ble_eq_true rfl) dX6_planMany_10 (fun r4 σ3 hw => ?_)
    refine g_if_eq 13 18 h.1 dX6_planMany_13 (by decide) (fun c => ?_) (fun c => ?_)
    · have hw := hw.1 c
      refine g_aload_0 18 h.1 dX6_planMany_18 ?_
      refine m_callI_0 19 h (mm_isTwo h.2.2.1 hw) (by decide) q2501 (Nat.le_of_ble_eq_true rfl) dX6_planMany_19 (fun r6 σ5 hw => ?_)
      refine g_if_eq 22 27 h.1 dX6_planMany_22 (by decide) (fun c => ?_) (fun c => ?_)
      · have hw := hw.1 c
        refine g_aload_0 27 h.1 dX6_planMany_27 ?_
        refine m_callV_0 28 h (mm_triesAnew h.2.2.1 hw) (by decide) q2460 (Nat.le_of_ble_eq_true rfl) dX6_planMany_28 (fun σ7 hw => ?_)
        refine g_aload_0 31 h.1 dX6_planMany_31 ?_
        refine m_callI_0 32 h (mm_isThree h.2.2.1 hw) (by decide) q2505 (Nat.le_of_ble_eq_true rfl) dX6_planMany_32 (fun r9 σ8 hw => ?_)
        refine g_if_eq 35 42 h.1 dX6_planMany_35 (by decide) (fun c => ?_) (fun c => ?_)
        · have hw := hw.1 c
          refine g_iconstv 42 _ ic_m1 h.1 dX6_planMany_42 ?_
          exact hR 43 _ _ _ dX6_planMany_43 hw
        · have hw := hw.2 c
          refine g_iconstv 38 _ ic_3 h.1 dX6_planMany_38 ?_
          refine g_goto 39 43 h.1 dX6_planMany_39 (by decide) ?_
          exact hR 43 _ _ _ dX6_planMany_43 hw
      · have hw := hw.2 c
        refine g_iconstv 25 _ ic_2 h.1 dX6_planMany_25 ?_
        exact hR 26 _ _ _ dX6_planMany_26 hw
    · have hw := hw.2 c
      refine g_iconstv 16 _ ic_1 h.1 dX6_planMany_16 ?_
      exact hR 17 _ _ _ dX6_planMany_17 hw
  · have hw := hw.2 c
    refine g_iconstv 7 _ ic_0 h.1 dX6_planMany_7 ?_
    exact hR 8 _ _ _ dX6_planMany_8 hw
theorem mm_planMany {l : Launch} {S : Adr} (hD : MD S) {σ : FS} {Q : Int32 → FS → Prop} (hw : mw_planMany σ Q) : mMet l S 10 yX6_planMany [] σ (mQi S Q) :=
  m_metI hD ⟨rfl, by decide, by show _ = some 0; decide +kernel, q2484⟩ q2483 qs139 (Nat.le_of_ble_eq_true rfl) (fun κ Z h hR => mt_planMany h hR hw)
def mw_plan (x1 : Int32) (x2 : Int32) (x3 : Int32) (x4 : Int32) (σ : FS) (Q : Int32 → FS → Prop) : Prop :=
  mw_cellNumbered x1 σ (fun r2 σ1 => (∀ σ3, σ3 = sI σ1 0 65 r2 → mw_cellNumbered x3 σ3 (fun r5 σ4 => (∀ σ6, σ6 = sI σ4 0 67 r5 → (((fI σ6 0 65) = (-1 : Int32) → Q (-1 : Int32) σ6) ∧ (¬ (fI σ6 0 65) = (-1 : Int32) → (((fI σ6 0 67) = (-1 : Int32) → Q (-1 : Int32) σ6) ∧ (¬ (fI σ6 0 67) = (-1 : Int32) → mw_isIn (Int32.toInt64 x2) (0 : Int64) (99 : Int64) σ6 (fun r8 σ7 => ((r8 = 0 → Q (-1 : Int32) σ7) ∧ (¬ r8 = 0 → (((-1 : Int32) ≤ x4 → (∀ σ9, σ9 = sI σ7 0 66 x2 → mw_heightOf (fI σ9 0 67) σ9 (fun r11 σ10 => (∀ σ12, σ12 = sI σ10 0 68 r11 → mw_putsAside σ12 (fun σ13 => mw_planMany σ13 (fun r15 σ14 => mw_takesBack σ14 (fun σ16 => ((x4 = (-1 : Int32) → Q r15 σ16) ∧ (¬ x4 = (-1 : Int32) → ((¬ r15 = (-1 : Int32) → ((r15 ≤ x4 → Q (-1 : Int32) σ16) ∧ (¬ r15 ≤ x4 → (vp_in x4 3 ∧ mw_topicMany σ16 (fun r18 σ17 => (¬ r18 = 0 ∧ (vp_in x4 3 ∧ mw_topicMany σ17 (fun r20 σ19 => (¬ r20 = 0 ∧ Q (((8 : Int32) * ((fA σ16 62 (Int32.toNatClampNeg x4)) / r18)) + ((fA σ17 62 (Int32.toNatClampNeg x4)) - (fA σ17 62 (Int32.toNatClampNeg x4)) / r20 * r20)) σ19))))))))) ∧ (r15 = (-1 : Int32) → Q r15 σ16))))))))))) ∧ (¬ (-1 : Int32) ≤ x4 → Q (-1 : Int32) σ7)))))))))))))
theorem mt_plan {κ : Cx} {S : Adr} {Z : State → Prop} {Q : Int32 → FS → Prop} (h : MCx κ cX6_plan S 11) (hR : RetI κ S Z cX6_plan Q) {x1 : Int32} {x2 : Int32} {x3 : Int32} {x4 : Int32} {σ : FS} (hw : mw_plan x1 x2 x3 x4 σ Q) : MG κ S Z 0 σ [some (.ref (S.2.1 0)), some (.int x1), some (.int x2), some (.int x3), some (.int x4), none] [] := by
  unfold mw_plan at hw
  refine g_aload_0 0 h.1 dX6_plan_0 ?_
  refine g_aload_0 1 h.1 dX6_plan_1 ?_
  refine g_iload_1 2 h.1 dX6_plan_2 ?_
  refine m_callI_1 3 h (mm_cellNumbered h.2.2.1 hw) (by decide) q2476 (Nat.le_of_ble_eq_true rfl) dX6_plan_3 (fun r2 σ1 hw => ?_)
  refine mp_65 6 h dX6_plan_6 ?_
  have hw := hw _ rfl
  refine g_aload_0 9 h.1 dX6_plan_9 ?_
  refine g_aload_0 10 h.1 dX6_plan_10 ?_
  refine g_iload_3 11 h.1 dX6_plan_11 ?_
  refine m_callI_1 12 h (mm_cellNumbered h.2.2.1 hw) (by decide) q2476 (Nat.le_of_ble_eq_true rfl) dX6_plan_12 (fun r5 σ4 hw => ?_)
  refine mp_67 15 h dX6_plan_15 ?_
  have hw := hw _ rfl
  refine g_aload_0 18 h.1 dX6_plan_18 ?_
  refine mg_65 19 h dX6_plan_19 ?_
  refine g_iconstv 22 _ ic_m1 h.1 dX6_plan_22 ?_
  refine g_icmp_eq 23 52 h.1 dX6_plan_23 (by decide) (fun c => ?_) (fun c => ?_)
  · have hw := hw.1 c
    refine g_iconstv 52 _ ic_m1 h.1 dX6_plan_52 ?_
    exact hR 53 _ _ _ dX6_plan_53 hw
  · have hw := hw.2 c
    refine g_aload_0 26 h.1 dX6_plan_26 ?_
    refine mg_67 27 h dX6_plan_27 ?_
    refine g_iconstv 30 _ ic_m1 h.1 dX6_plan_30 ?_
    refine g_icmp_eq 31 52 h.1 dX6_plan_31 (by decide) (fun c => ?_) (fun c => ?_)
    · have hw := hw.1 c
      refine g_iconstv 52 _ ic_m1 h.1 dX6_plan_52 ?_
      exact hR 53 _ _ _ dX6_plan_53 hw
    · have hw := hw.2 c
      refine g_iload_2 34 h.1 dX6_plan_34 ?_
      refine g_i2l 35 h.1 dX6_plan_35 ?_
      refine g_lconst 36 _ lc_0 h.1 dX6_plan_36 ?_
      refine g_ldc2 37 h.1 q2480 dX6_plan_37 ?_
      refine m_scallI_3 40 h (mm_isIn h.2.2.1 hw) (by decide) q2147 (Nat.le_of_ble_eq_true rfl) dX6_plan_40 (fun r8 σ7 hw => ?_)
      refine g_if_eq 43 52 h.1 dX6_plan_43 (by decide) (fun c => ?_) (fun c => ?_)
      · have hw := hw.1 c
        refine g_iconstv 52 _ ic_m1 h.1 dX6_plan_52 ?_
        exact hR 53 _ _ _ dX6_plan_53 hw
      · have hw := hw.2 c
        refine g_iload_4 46 h.1 dX6_plan_46 ?_
        refine g_iconstv 48 _ ic_m1 h.1 dX6_plan_48 ?_
        refine g_icmp_ge 49 54 h.1 dX6_plan_49 (by decide) (fun c => ?_) (fun c => ?_)
        · have hw := hw.1 c
          refine g_aload_0 54 h.1 dX6_plan_54 ?_
          refine g_iload_2 55 h.1 dX6_plan_55 ?_
          refine mp_66 56 h dX6_plan_56 ?_
          have hw := hw _ rfl
          refine g_aload_0 59 h.1 dX6_plan_59 ?_
          refine g_aload_0 60 h.1 dX6_plan_60 ?_
          refine g_aload_0 61 h.1 dX6_plan_61 ?_
          refine mg_67 62 h dX6_plan_62 ?_
          refine m_callI_1 65 h (mm_heightOf h.2.2.1 hw) (by decide) q2327 (Nat.le_of_ble_eq_true rfl) dX6_plan_65 (fun r11 σ10 hw => ?_)
          refine mp_68 68 h dX6_plan_68 ?_
          have hw := hw _ rfl
          refine g_aload_0 71 h.1 dX6_plan_71 ?_
          refine m_callV_0 72 h (mm_putsAside h.2.2.1 hw) (by decide) q2420 (Nat.le_of_ble_eq_true rfl) dX6_plan_72 (fun σ13 hw => ?_)
          refine g_aload_0 75 h.1 dX6_plan_75 ?_
          refine m_callI_0 76 h (mm_planMany h.2.2.1 hw) (by decide) q2481 (Nat.le_of_ble_eq_true rfl) dX6_plan_76 (fun r15 σ14 hw => ?_)
          refine g_istore_5 79 h.1 rfl dX6_plan_79 ?_
          refine g_aload_0 81 h.1 dX6_plan_81 ?_
          refine m_callV_0 82 h (mm_takesBack h.2.2.1 hw) (by decide) q2456 (Nat.le_of_ble_eq_true rfl) dX6_plan_82 (fun σ16 hw => ?_)
          refine g_iload_4 85 h.1 dX6_plan_85 ?_
          refine g_iconstv 87 _ ic_m1 h.1 dX6_plan_87 ?_
          refine g_icmp_eq 88 97 h.1 dX6_plan_88 (by decide) (fun c => ?_) (fun c => ?_)
          · have hw := hw.1 c
            refine g_iload_5 97 h.1 dX6_plan_97 ?_
            exact hR 99 _ _ _ dX6_plan_99 hw
          · have hw := hw.2 c
            refine g_iload_5 91 h.1 dX6_plan_91 ?_
            refine g_iconstv 93 _ ic_m1 h.1 dX6_plan_93 ?_
            refine g_icmp_ne 94 100 h.1 dX6_plan_94 (by decide) (fun c => ?_) (fun c => ?_)
            · have hw := hw.1 c
              refine g_iload_4 100 h.1 dX6_plan_100 ?_
              refine g_iload_5 102 h.1 dX6_plan_102 ?_
              refine g_icmp_ge 104 138 h.1 dX6_plan_104 (by decide) (fun c => ?_) (fun c => ?_)
              · have hw := hw.1 c
                refine g_iconstv 138 _ ic_m1 h.1 dX6_plan_138 ?_
                exact hR 139 _ _ _ dX6_plan_139 hw
              · have hw := hw.2 c
                refine g_bipush 107 _ bp_8 h.1 dX6_plan_107 ?_
                refine g_aload_0 109 h.1 dX6_plan_109 ?_
                refine mg_62 110 h dX6_plan_110 ?_
                refine g_iload_4 113 h.1 dX6_plan_113 ?_
                refine m_iald 115 rfl hw.1 h dX6_plan_115 ?_
                have hw := hw.2
                refine g_aload_0 116 h.1 dX6_plan_116 ?_
                refine m_callI_0 117 h (mm_topicMany h.2.2.1 hw) (by decide) q2303 (Nat.le_of_ble_eq_true rfl) dX6_plan_117 (fun r18 σ17 hw => ?_)
                refine g_idiv 120 hw.1 h.1 dX6_plan_120 ?_
                have hw := hw.2
                refine g_imul 121 h.1 dX6_plan_121 ?_
                refine g_aload_0 122 h.1 dX6_plan_122 ?_
                refine mg_62 123 h dX6_plan_123 ?_
                refine g_iload_4 126 h.1 dX6_plan_126 ?_
                refine m_iald 128 rfl hw.1 h dX6_plan_128 ?_
                have hw := hw.2
                refine g_aload_0 129 h.1 dX6_plan_129 ?_
                refine m_callI_0 130 h (mm_topicMany h.2.2.1 hw) (by decide) q2303 (Nat.le_of_ble_eq_true rfl) dX6_plan_130 (fun r20 σ19 hw => ?_)
                refine g_irem 133 hw.1 h.1 dX6_plan_133 ?_
                have hw := hw.2
                refine g_iadd 134 h.1 dX6_plan_134 ?_
                refine g_goto 135 139 h.1 dX6_plan_135 (by decide) ?_
                exact hR 139 _ _ _ dX6_plan_139 hw
            · have hw := hw.2 c
              refine g_iload_5 97 h.1 dX6_plan_97 ?_
              exact hR 99 _ _ _ dX6_plan_99 hw
        · have hw := hw.2 c
          refine g_iconstv 52 _ ic_m1 h.1 dX6_plan_52 ?_
          exact hR 53 _ _ _ dX6_plan_53 hw
theorem mm_plan {l : Launch} {S : Adr} (hD : MD S) {x1 : Int32} {x2 : Int32} {x3 : Int32} {x4 : Int32} {σ : FS} {Q : Int32 → FS → Prop} (hw : mw_plan x1 x2 x3 x4 σ Q) : mMet l S 11 yX6_plan [.int x1, .int x2, .int x3, .int x4] σ (mQi S Q) :=
  m_metI hD ⟨rfl, by decide, by show _ = some 4; decide +kernel, q2475⟩ q2473 q2474 (Nat.le_of_ble_eq_true rfl) (fun κ Z h hR => mt_plan h hR hw)
def mw_pond_21 (x3 : Int32) (x4 : Int32) (σ : FS) (Q : Int32 → FS → Prop) : Prop :=
  ∀ X21 : Int32 → Int32 → FS → Prop, (∀ (x3 : Int32) (x4 : Int32) (σ : FS), ((x4 = x3 → mw_numberOf x3 σ (fun r6 σ5 => Q r6 σ5)) ∧ (¬ x4 = x3 → mw_lowerOf x4 σ (fun r8 σ7 => X21 x4 r8 σ7))) → X21 x3 x4 σ) → X21 x3 x4 σ
theorem mt_pond_21 {κ : Cx} {S : Adr} {Z : State → Prop} {Q : Int32 → FS → Prop} (h : MCx κ cX6_pond S 5) (hR : RetI κ S Z cX6_pond Q) {x3 : Int32} {x4 : Int32} {σ : FS} (hw : mw_pond_21 x3 x4 σ Q) : MG κ S Z 21 σ [some (.ref (S.2.1 0)), none, none, some (.int x3), some (.int x4)] [] := by
  refine hw (fun x3 x4 σ => MG κ S Z 21 σ [some (.ref (S.2.1 0)), none, none, some (.int x3), some (.int x4)] []) ?_
  clear hw
  intro x3 x4 σ hw
  have hX21 : ∀ (x3 : Int32) (x4 : Int32) (σ : FS), MG κ S Z 21 σ [some (.ref (S.2.1 0)), none, none, some (.int x3), some (.int x4)] [] → MG κ S Z 21 σ [some (.ref (S.2.1 0)), none, none, some (.int x3), some (.int x4)] [] := fun _ _ _ hh => hh
  refine g_iload_4 21 h.1 dX6_pond_21 ?_
  refine g_iload_3 23 h.1 dX6_pond_23 ?_
  refine g_icmp_eq 24 40 h.1 dX6_pond_24 (by decide) (fun c => ?_) (fun c => ?_)
  · have hw := hw.1 c
    refine g_iload_3 40 h.1 dX6_pond_40 ?_
    refine m_scallI_1 41 h (mm_numberOf h.2.2.1 hw) (by decide) q2537 (Nat.le_of_ble_eq_true rfl) dX6_pond_41 (fun r6 σ5 hw => ?_)
    exact hR 44 _ _ _ dX6_pond_44 hw
  · have hw := hw.2 c
    refine g_iload_4 27 h.1 dX6_pond_27 ?_
    refine g_istore_3 29 h.1 rfl dX6_pond_29 ?_
    refine g_aload_0 30 h.1 dX6_pond_30 ?_
    refine g_iload_3 31 h.1 dX6_pond_31 ?_
    refine m_callI_1 32 h (mm_lowerOf h.2.2.1 hw) (by decide) q2533 (Nat.le_of_ble_eq_true rfl) dX6_pond_32 (fun r8 σ7 hw => ?_)
    refine g_istore_4 35 h.1 rfl dX6_pond_35 ?_
    refine g_goto 37 21 h.1 dX6_pond_37 (by decide) ?_
    exact g_le (hX21 _ _ _ hw) ⟨rfl, rfl, rfl, trivial⟩
def mw_pond (x1 : Int32) (x2 : Int32) (σ : FS) (Q : Int32 → FS → Prop) : Prop :=
  mw_cellAt x1 x2 σ (fun r2 σ1 => ((¬ r2 = (-1 : Int32) → mw_lowerOf r2 σ1 (fun r4 σ3 => mw_pond_21 r2 r4 σ3 Q)) ∧ (r2 = (-1 : Int32) → Q (-1 : Int32) σ1)))
theorem mt_pond {κ : Cx} {S : Adr} {Z : State → Prop} {Q : Int32 → FS → Prop} (h : MCx κ cX6_pond S 5) (hR : RetI κ S Z cX6_pond Q) {x1 : Int32} {x2 : Int32} {σ : FS} (hw : mw_pond x1 x2 σ Q) : MG κ S Z 0 σ [some (.ref (S.2.1 0)), some (.int x1), some (.int x2), none, none] [] := by
  unfold mw_pond at hw
  refine g_aload_0 0 h.1 dX6_pond_0 ?_
  refine g_iload_1 1 h.1 dX6_pond_1 ?_
  refine g_iload_2 2 h.1 dX6_pond_2 ?_
  refine m_callI_2 3 h (mm_cellAt h.2.2.1 hw) (by decide) q2340 (Nat.le_of_ble_eq_true rfl) dX6_pond_3 (fun r2 σ1 hw => ?_)
  refine g_istore_3 6 h.1 rfl dX6_pond_6 ?_
  refine g_iload_3 7 h.1 dX6_pond_7 ?_
  refine g_iconstv 8 _ ic_m1 h.1 dX6_pond_8 ?_
  refine g_icmp_ne 9 14 h.1 dX6_pond_9 (by decide) (fun c => ?_) (fun c => ?_)
  · have hw := hw.1 c
    refine g_aload_0 14 h.1 dX6_pond_14 ?_
    refine g_iload_3 15 h.1 dX6_pond_15 ?_
    refine m_callI_1 16 h (mm_lowerOf h.2.2.1 hw) (by decide) q2533 (Nat.le_of_ble_eq_true rfl) dX6_pond_16 (fun r4 σ3 hw => ?_)
    refine g_istore_4 19 h.1 rfl dX6_pond_19 ?_
    exact g_le (mt_pond_21 h hR hw) ⟨rfl, rfl, rfl, trivial⟩
  · have hw := hw.2 c
    refine g_iconstv 12 _ ic_m1 h.1 dX6_pond_12 ?_
    exact hR 13 _ _ _ dX6_pond_13 hw
theorem mm_pond {l : Launch} {S : Adr} (hD : MD S) {x1 : Int32} {x2 : Int32} {σ : FS} {Q : Int32 → FS → Prop} (hw : mw_pond x1 x2 σ Q) : mMet l S 5 yX6_pond [.int x1, .int x2] σ (mQi S Q) :=
  m_metI hD ⟨rfl, by decide, by show _ = some 2; decide +kernel, q2532⟩ q2530 q2531 (Nat.le_of_ble_eq_true rfl) (fun κ Z h hR => mt_pond h hR hw)
def mw_rest_61 (X22 : Int32 → Int32 → FS → Prop) (x2 : Int32) (x3 : Int32) (σ : FS) (Q : Int32 → FS → Prop) : Prop :=
  X22 x2 (x3 + 1) σ
theorem mt_rest_61 {κ : Cx} {S : Adr} {Z : State → Prop} {Q : Int32 → FS → Prop} (h : MCx κ cX6_rest S 10) (hR : RetI κ S Z cX6_rest Q) {X22 : Int32 → Int32 → FS → Prop} (hX22 : ∀ (x2 : Int32) (x3 : Int32) (σ : FS), X22 x2 x3 σ → MG κ S Z 22 σ [some (.ref (S.2.1 0)), none, some (.int x2), some (.int x3)] []) {x2 : Int32} {x3 : Int32} {σ : FS} (hw : mw_rest_61 X22 x2 x3 σ Q) : MG κ S Z 61 σ [some (.ref (S.2.1 0)), none, some (.int x2), some (.int x3)] [] := by
  unfold mw_rest_61 at hw
  refine g_iinc_3 61 (x3 + 1) (congrArg _ ic_1) h.1 rfl dX6_rest_61 ?_
  refine g_goto 64 22 h.1 dX6_rest_64 (by decide) ?_
  exact g_le (hX22 _ _ _ hw) ⟨rfl, rfl, rfl, trivial⟩
def mw_rest_51 (X22 : Int32 → Int32 → FS → Prop) (x2 : Int32) (x3 : Int32) (σ : FS) (Q : Int32 → FS → Prop) : Prop :=
  mw_isRest x3 σ (fun r11 σ10 => ((r11 = 0 → mw_rest_61 X22 x2 x3 σ10 Q) ∧ (¬ r11 = 0 → mw_rest_61 X22 x3 x3 σ10 Q)))
theorem mt_rest_51 {κ : Cx} {S : Adr} {Z : State → Prop} {Q : Int32 → FS → Prop} (h : MCx κ cX6_rest S 10) (hR : RetI κ S Z cX6_rest Q) {X22 : Int32 → Int32 → FS → Prop} (hX22 : ∀ (x2 : Int32) (x3 : Int32) (σ : FS), X22 x2 x3 σ → MG κ S Z 22 σ [some (.ref (S.2.1 0)), none, some (.int x2), some (.int x3)] []) {x2 : Int32} {x3 : Int32} {σ : FS} (hw : mw_rest_51 X22 x2 x3 σ Q) : MG κ S Z 51 σ [some (.ref (S.2.1 0)), none, some (.int x2), some (.int x3)] [] := by
  unfold mw_rest_51 at hw
  refine g_aload_0 51 h.1 dX6_rest_51 ?_
  refine g_iload_3 52 h.1 dX6_rest_52 ?_
  refine m_callI_1 53 h (mm_isRest h.2.2.1 hw) (by decide) q2556 (Nat.le_of_ble_eq_true rfl) dX6_rest_53 (fun r11 σ10 hw => ?_)
  refine g_if_eq 56 61 h.1 dX6_rest_56 (by decide) (fun c => ?_) (fun c => ?_)
  · have hw := hw.1 c
    exact g_le (mt_rest_61 h hR hX22 hw) ⟨rfl, rfl, rfl, trivial⟩
  · have hw := hw.2 c
    refine g_iload_3 59 h.1 dX6_rest_59 ?_
    refine g_istore_2 60 h.1 rfl dX6_rest_60 ?_
    exact g_le (mt_rest_61 h hR hX22 hw) ⟨rfl, rfl, rfl, trivial⟩
def mw_rest_22 (x2 : Int32) (x3 : Int32) (σ : FS) (Q : Int32 → FS → Prop) : Prop :=
  ∀ X22 : Int32 → Int32 → FS → Prop, (∀ (x2 : Int32) (x3 : Int32) (σ : FS), mw_personMany σ (fun r5 σ4 => ((((1 : Int32) <<< (r5 &&& 31)) ≤ x3 → Q x2 σ4) ∧ (¬ ((1 : Int32) <<< (r5 &&& 31)) ≤ x3 → ((x2 = (-1 : Int32) → mw_rest_51 X22 x2 x3 σ4 Q) ∧ (¬ x2 = (-1 : Int32) → mw_bits x3 σ4 (fun r7 σ6 => mw_bits x2 σ6 (fun r9 σ8 => ((r7 < r9 → mw_rest_51 X22 x2 x3 σ8 Q) ∧ (¬ r7 < r9 → mw_rest_61 X22 x2 x3 σ8 Q))))))))) → X22 x2 x3 σ) → X22 x2 x3 σ
theorem mt_rest_22 {κ : Cx} {S : Adr} {Z : State → Prop} {Q : Int32 → FS → Prop} (h : MCx κ cX6_rest S 10) (hR : RetI κ S Z cX6_rest Q) {x2 : Int32} {x3 : Int32} {σ : FS} (hw : mw_rest_22 x2 x3 σ Q) : MG κ S Z 22 σ [some (.ref (S.2.1 0)), none, some (.int x2), some (.int x3)] [] := by
  refine hw (fun x2 x3 σ => MG κ S Z 22 σ [some (.ref (S.2.1 0)), none, some (.int x2), some (.int x3)] []) ?_
  clear hw
  intro x2 x3 σ hw
  have hX22 : ∀ (x2 : Int32) (x3 : Int32) (σ : FS), MG κ S Z 22 σ [some (.ref (S.2.1 0)), none, some (.int x2), some (.int x3)] [] → MG κ S Z 22 σ [some (.ref (S.2.1 0)), none, some (.int x2), some (.int x3)] [] := fun _ _ _ hh => hh
  refine g_iload_3 22 h.1 dX6_rest_22 ?_
  refine g_iconstv 23 _ ic_1 h.1 dX6_rest_23 ?_
  refine g_aload_0 24 h.1 dX6_rest_24 ?_
  refine m_callI_0 25 h (mm_personMany h.2.2.1 hw) (by decide) q2307 (Nat.le_of_ble_eq_true rfl) dX6_rest_25 (fun r5 σ4 hw => ?_)
  refine g_ishl 28 h.1 dX6_rest_28 ?_
  refine g_icmp_ge 29 67 h.1 dX6_rest_29 (by decide) (fun c => ?_) (fun c => ?_)
  · have hw := hw.1 c
    refine g_iload_2 67 h.1 dX6_rest_67 ?_
    exact hR 68 _ _ _ dX6_rest_68 hw
  · have hw := hw.2 c
    refine g_iload_2 32 h.1 dX6_rest_32 ?_
    refine g_iconstv 33 _ ic_m1 h.1 dX6_rest_33 ?_
    refine g_icmp_eq 34 51 h.1 dX6_rest_34 (by decide) (fun c => ?_) (fun c => ?_)
    · have hw := hw.1 c
      exact g_le (mt_rest_51 h hR hX22 hw) ⟨rfl, rfl, rfl, trivial⟩
    · have hw := hw.2 c
      refine g_iload_3 37 h.1 dX6_rest_37 ?_
      refine m_scallI_1 38 h (mm_bits h.2.2.1 hw) (by decide) q2392 (Nat.le_of_ble_eq_true rfl) dX6_rest_38 (fun r7 σ6 hw => ?_)
      refine g_iload_2 41 h.1 dX6_rest_41 ?_
      refine m_scallI_1 42 h (mm_bits h.2.2.1 hw) (by decide) q2392 (Nat.le_of_ble_eq_true rfl) dX6_rest_42 (fun r9 σ8 hw => ?_)
      refine g_icmp_lt 45 51 h.1 dX6_rest_45 (by decide) (fun c => ?_) (fun c => ?_)
      · have hw := hw.1 c
        exact g_le (mt_rest_51 h hR hX22 hw) ⟨rfl, rfl, rfl, trivial⟩
      · have hw := hw.2 c
        refine g_goto 48 61 h.1 dX6_rest_48 (by decide) ?_
        exact g_le (mt_rest_61 h hR hX22 hw) ⟨rfl, rfl, rfl, trivial⟩
def mw_rest (x1 : Int32) (σ : FS) (Q : Int32 → FS → Prop) : Prop :=
  mw_isAhead x1 (1 : Int32) (20 : Int32) σ (fun r2 σ1 => ((¬ r2 = 0 → mw_laysOwn x1 σ1 (fun σ3 => mw_rest_22 (-1 : Int32) (0 : Int32) σ3 Q)) ∧ (r2 = 0 → Q (-1 : Int32) σ1)))
theorem mt_rest {κ : Cx} {S : Adr} {Z : State → Prop} {Q : Int32 → FS → Prop} (h : MCx κ cX6_rest S 10) (hR : RetI κ S Z cX6_rest Q) {x1 : Int32} {σ : FS} (hw : mw_rest x1 σ Q) : MG κ S Z 0 σ [some (.ref (S.2.1 0)), some (.int x1), none, none] [] := by
  unfold mw_rest at hw
  refine g_aload_0 0 h.1 dX6_rest_0 ?_
  refine g_iload_1 1 h.1 dX6_rest_1 ?_
  refine g_iconstv 2 _ ic_1 h.1 dX6_rest_2 ?_
  refine g_bipush 3 _ bp_20 h.1 dX6_rest_3 ?_
  refine m_callI_3 5 h (mm_isAhead h.2.2.1 hw) (by decide) q2416 (Nat.le_of_ble_eq_true rfl) dX6_rest_5 (fun r2 σ1 hw => ?_)
  refine g_if_ne 8 13 h.1 dX6_rest_8 (by decide) (fun c => ?_) (fun c => ?_)
  · have hw := hw.1 c
    refine g_aload_0 13 h.1 dX6_rest_13 ?_
    refine g_iload_1 14 h.1 dX6_rest_14 ?_
    refine m_callV_1 15 h (mm_laysOwn h.2.2.1 hw) (by decide) q2552 (Nat.le_of_ble_eq_true rfl) dX6_rest_15 (fun σ3 hw => ?_)
    refine g_iconstv 18 _ ic_m1 h.1 dX6_rest_18 ?_
    refine g_istore_2 19 h.1 rfl dX6_rest_19 ?_
    refine g_iconstv 20 _ ic_0 h.1 dX6_rest_20 ?_
    refine g_istore_3 21 h.1 rfl dX6_rest_21 ?_
    exact g_le (mt_rest_22 h hR hw) ⟨rfl, rfl, rfl, trivial⟩
  · have hw := hw.2 c
    refine g_iconstv 11 _ ic_m1 h.1 dX6_rest_11 ?_
    exact hR 12 _ _ _ dX6_rest_12 hw
theorem mm_rest {l : Launch} {S : Adr} (hD : MD S) {x1 : Int32} {σ : FS} {Q : Int32 → FS → Prop} (hw : mw_rest x1 σ Q) : mMet l S 10 yX6_rest [.int x1] σ (mQi S Q) :=
  m_metI hD ⟨rfl, by decide, by show _ = some 1; decide +kernel, q2551⟩ q2549 q2550 (Nat.le_of_ble_eq_true rfl) (fun κ Z h hR => mt_rest h hR hw)
def mw_rises_77 (x5 : Int32) (y0 : Int32) (σ : FS) (Q : Int32 → FS → Prop) : Prop :=
  mw_takesBack σ (fun σ9 => ((y0 = 0 → Q (-1 : Int32) σ9) ∧ (¬ y0 = 0 → Q x5 σ9)))
theorem mt_rises_77 {κ : Cx} {S : Adr} {Z : State → Prop} {Q : Int32 → FS → Prop} (h : MCx κ cX6_rises S 8) (hR : RetI κ S Z cX6_rises Q) {x5 : Int32} {y0 : Int32} {σ : FS} (hw : mw_rises_77 x5 y0 σ Q) : MG κ S Z 77 σ [some (.ref (S.2.1 0)), none, none, none, none, some (.int x5), none] [.int y0] := by
  unfold mw_rises_77 at hw
  refine g_istore_6 77 h.1 rfl dX6_rises_77 ?_
  refine g_aload_0 79 h.1 dX6_rises_79 ?_
  refine m_callV_0 80 h (mm_takesBack h.2.2.1 hw) (by decide) q2456 (Nat.le_of_ble_eq_true rfl) dX6_rises_80 (fun σ9 hw => ?_)
  refine g_iload_6 83 h.1 dX6_rises_83 ?_
  refine g_if_eq 85 93 h.1 dX6_rises_85 (by decide) (fun c => ?_) (fun c => ?_)
  · have hw := hw.1 c
    refine g_iconstv 93 _ ic_m1 h.1 dX6_rises_93 ?_
    exact hR 94 _ _ _ dX6_rises_94 hw
  · have hw := hw.2 c
    refine g_iload_5 88 h.1 dX6_rises_88 ?_
    refine g_goto 90 94 h.1 dX6_rises_90 (by decide) ?_
    exact hR 94 _ _ _ dX6_rises_94 hw
def mw_rises_62 (x3 : Int32) (x4 : Int32) (x5 : Int32) (σ : FS) (Q : Int32 → FS → Prop) : Prop :=
  mw_heightOf x4 σ (fun r8 σ7 => ((r8 < x3 → mw_rises_77 x5 (0 : Int32) σ7 Q) ∧ (¬ r8 < x3 → mw_rises_77 x5 (1 : Int32) σ7 Q)))
theorem mt_rises_62 {κ : Cx} {S : Adr} {Z : State → Prop} {Q : Int32 → FS → Prop} (h : MCx κ cX6_rises S 8) (hR : RetI κ S Z cX6_rises Q) {x3 : Int32} {x4 : Int32} {x5 : Int32} {σ : FS} (hw : mw_rises_62 x3 x4 x5 σ Q) : MG κ S Z 62 σ [some (.ref (S.2.1 0)), none, none, some (.int x3), some (.int x4), some (.int x5), none] [] := by
  unfold mw_rises_62 at hw
  refine g_aload_0 62 h.1 dX6_rises_62 ?_
  refine g_iload_4 63 h.1 dX6_rises_63 ?_
  refine m_callI_1 65 h (mm_heightOf h.2.2.1 hw) (by decide) q2327 (Nat.le_of_ble_eq_true rfl) dX6_rises_65 (fun r8 σ7 hw => ?_)
  refine g_iload_3 68 h.1 dX6_rises_68 ?_
  refine g_icmp_lt 69 76 h.1 dX6_rises_69 (by decide) (fun c => ?_) (fun c => ?_)
  · have hw := hw.1 c
    refine g_iconstv 76 _ ic_0 h.1 dX6_rises_76 ?_
    exact g_le (mt_rises_77 h hR hw) ⟨rfl, rfl, trivial⟩
  · have hw := hw.2 c
    refine g_iconstv 72 _ ic_1 h.1 dX6_rises_72 ?_
    refine g_goto 73 77 h.1 dX6_rises_73 (by decide) ?_
    exact g_le (mt_rises_77 h hR hw) ⟨rfl, rfl, trivial⟩
def mw_rises_23 (x3 : Int32) (x4 : Int32) (x5 : Int32) (σ : FS) (Q : Int32 → FS → Prop) : Prop :=
  ∀ X23 : Int32 → Int32 → Int32 → FS → Prop, (∀ (x3 : Int32) (x4 : Int32) (x5 : Int32) (σ : FS), mw_heightOf x4 σ (fun r5 σ4 => ((x3 ≤ r5 → mw_rises_62 x3 x4 x5 σ4 Q) ∧ (¬ x3 ≤ r5 → (((60 : Int32) ≤ x5 → mw_rises_62 x3 x4 x5 σ4 Q) ∧ (¬ (60 : Int32) ≤ x5 → (vp_in (0 : Int32) 232 ∧ (((999 : Int32) ≤ (fA σ4 52 (Int32.toNatClampNeg (0 : Int32))) → mw_rises_62 x3 x4 x5 σ4 Q) ∧ (¬ (999 : Int32) ≤ (fA σ4 52 (Int32.toNatClampNeg (0 : Int32))) → mw_dayGoes σ4 (fun σ6 => X23 x3 x4 (x5 + 1) σ6))))))))) → X23 x3 x4 x5 σ) → X23 x3 x4 x5 σ
theorem mt_rises_23 {κ : Cx} {S : Adr} {Z : State → Prop} {Q : Int32 → FS → Prop} (h : MCx κ cX6_rises S 8) (hR : RetI κ S Z cX6_rises Q) {x3 : Int32} {x4 : Int32} {x5 : Int32} {σ : FS} (hw : mw_rises_23 x3 x4 x5 σ Q) : MG κ S Z 23 σ [some (.ref (S.2.1 0)), none, none, some (.int x3), some (.int x4), some (.int x5), none] [] := by
  refine hw (fun x3 x4 x5 σ => MG κ S Z 23 σ [some (.ref (S.2.1 0)), none, none, some (.int x3), some (.int x4), some (.int x5), none] []) ?_
  clear hw
  intro x3 x4 x5 σ hw
  have hX23 : ∀ (x3 : Int32) (x4 : Int32) (x5 : Int32) (σ : FS), MG κ S Z 23 σ [some (.ref (S.2.1 0)), none, none, some (.int x3), some (.int x4), some (.int x5), none] [] → MG κ S Z 23 σ [some (.ref (S.2.1 0)), none, none, some (.int x3), some (.int x4), some (.int x5), none] [] := fun _ _ _ _ hh => hh
  refine g_aload_0 23 h.1 dX6_rises_23 ?_
  refine g_iload_4 24 h.1 dX6_rises_24 ?_
  refine m_callI_1 26 h (mm_heightOf h.2.2.1 hw) (by decide) q2327 (Nat.le_of_ble_eq_true rfl) dX6_rises_26 (fun r5 σ4 hw => ?_)
  refine g_iload_3 29 h.1 dX6_rises_29 ?_
  refine g_icmp_ge 30 62 h.1 dX6_rises_30 (by decide) (fun c => ?_) (fun c => ?_)
  · have hw := hw.1 c
    exact g_le (mt_rises_62 h hR hw) ⟨rfl, rfl, rfl, rfl, trivial⟩
  · have hw := hw.2 c
    refine g_iload_5 33 h.1 dX6_rises_33 ?_
    refine g_bipush 35 _ bp_60 h.1 dX6_rises_35 ?_
    refine g_icmp_ge 37 62 h.1 dX6_rises_37 (by decide) (fun c => ?_) (fun c => ?_)
    · have hw := hw.1 c
      exact g_le (mt_rises_62 h hR hw) ⟨rfl, rfl, rfl, rfl, trivial⟩
    · have hw := hw.2 c
      refine g_aload_0 40 h.1 dX6_rises_40 ?_
      refine mg_52 41 h dX6_rises_41 ?_
      refine g_iconstv 44 _ ic_0 h.1 dX6_rises_44 ?_
      refine m_iald 45 rfl hw.1 h dX6_rises_45 ?_
      have hw := hw.2
      refine g_sipush 46 _ sp_999 h.1 dX6_rises_46 ?_
      refine g_icmp_ge 49 62 h.1 dX6_rises_49 (by decide) (fun c => ?_) (fun c => ?_)
      · have hw := hw.1 c
        exact g_le (mt_rises_62 h hR hw) ⟨rfl, rfl, rfl, rfl, trivial⟩
      · have hw := hw.2 c
        refine g_aload_0 52 h.1 dX6_rises_52 ?_
        refine m_callV_0 53 h (mm_dayGoes h.2.2.1 hw) (by decide) q2428 (Nat.le_of_ble_eq_true rfl) dX6_rises_53 (fun σ6 hw => ?_)
        refine g_iinc_5 56 (x5 + 1) (congrArg _ ic_1) h.1 rfl dX6_rises_56 ?_
        refine g_goto 59 23 h.1 dX6_rises_59 (by decide) ?_
        exact g_le (hX23 _ _ _ _ hw) ⟨rfl, rfl, rfl, rfl, trivial⟩
def mw_rises (x1 : Int32) (x2 : Int32) (x3 : Int32) (σ : FS) (Q : Int32 → FS → Prop) : Prop :=
  mw_cellAt x1 x2 σ (fun r2 σ1 => ((¬ r2 = (-1 : Int32) → mw_putsAside σ1 (fun σ3 => mw_rises_23 x3 r2 (0 : Int32) σ3 Q)) ∧ (r2 = (-1 : Int32) → Q (-1 : Int32) σ1)))
theorem mt_rises {κ : Cx} {S : Adr} {Z : State → Prop} {Q : Int32 → FS → Prop} (h : MCx κ cX6_rises S 8) (hR : RetI κ S Z cX6_rises Q) {x1 : Int32} {x2 : Int32} {x3 : Int32} {σ : FS} (hw : mw_rises x1 x2 x3 σ Q) : MG κ S Z 0 σ [some (.ref (S.2.1 0)), some (.int x1), some (.int x2), some (.int x3), none, none, none] [] := by
  unfold mw_rises at hw
  refine g_aload_0 0 h.1 dX6_rises_0 ?_
  refine g_iload_1 1 h.1 dX6_rises_1 ?_
  refine g_iload_2 2 h.1 dX6_rises_2 ?_
  refine m_callI_2 3 h (mm_cellAt h.2.2.1 hw) (by decide) q2340 (Nat.le_of_ble_eq_true rfl) dX6_rises_3 (fun r2 σ1 hw => ?_)
  refine g_istore_4 6 h.1 rfl dX6_rises_6 ?_
  refine g_iload_4 8 h.1 dX6_rises_8 ?_
  refine g_iconstv 10 _ ic_m1 h.1 dX6_rises_10 ?_
  refine g_icmp_ne 11 16 h.1 dX6_rises_11 (by decide) (fun c => ?_) (fun c => ?_)
  · have hw := hw.1 c
    refine g_iconstv 16 _ ic_0 h.1 dX6_rises_16 ?_
    refine g_istore_5 17 h.1 rfl dX6_rises_17 ?_
    refine g_aload_0 19 h.1 dX6_rises_19 ?_
    refine m_callV_0 20 h (mm_putsAside h.2.2.1 hw) (by decide) q2420 (Nat.le_of_ble_eq_true rfl) dX6_rises_20 (fun σ3 hw => ?_)
    exact g_le (mt_rises_23 h hR hw) ⟨rfl, rfl, rfl, rfl, trivial⟩
  · have hw := hw.2 c
    refine g_iconstv 14 _ ic_m1 h.1 dX6_rises_14 ?_
    exact hR 15 _ _ _ dX6_rises_15 hw
theorem mm_rises {l : Launch} {S : Adr} (hD : MD S) {x1 : Int32} {x2 : Int32} {x3 : Int32} {σ : FS} {Q : Int32 → FS → Prop} (hw : mw_rises x1 x2 x3 σ Q) : mMet l S 8 yX6_rises [.int x1, .int x2, .int x3] σ (mQi S Q) :=
  m_metI hD ⟨rfl, by decide, by show _ = some 3; decide +kernel, q2471⟩ q2469 q2470 (Nat.le_of_ble_eq_true rfl) (fun κ Z h hR => mt_rises h hR hw)
def mw_see_98 (X36 : Int32 → Int32 → Int32 → FS → Prop) (x1 : Int32) (x3 : Int32) (y0 : Int32) (σ : FS) (Q : Int32 → FS → Prop) : Prop :=
  X36 x1 y0 (x3 + 4) σ
theorem mt_see_98 {κ : Cx} {S : Adr} {Z : State → Prop} {Q : Int32 → FS → Prop} (h : MCx κ cX6_see S 3) (hR : RetI κ S Z cX6_see Q) {X36 : Int32 → Int32 → Int32 → FS → Prop} (hX36 : ∀ (x1 : Int32) (x2 : Int32) (x3 : Int32) (σ : FS), X36 x1 x2 x3 σ → MG κ S Z 36 σ [some (.ref (S.2.1 0)), some (.int x1), some (.int x2), some (.int x3)] []) {x1 : Int32} {x3 : Int32} {y0 : Int32} {σ : FS} (hw : mw_see_98 X36 x1 x3 y0 σ Q) : MG κ S Z 98 σ [some (.ref (S.2.1 0)), some (.int x1), none, some (.int x3)] [.int y0] := by
  unfold mw_see_98 at hw
  refine g_istore_2 98 h.1 rfl dX6_see_98 ?_
  refine g_iinc_3 99 (x3 + 4) (congrArg _ ic_4) h.1 rfl dX6_see_99 ?_
  refine g_goto 102 36 h.1 dX6_see_102 (by decide) ?_
  exact g_le (hX36 _ _ _ _ hw) ⟨rfl, rfl, rfl, rfl, trivial⟩
def mw_see_97 (X36 : Int32 → Int32 → Int32 → FS → Prop) (x1 : Int32) (x3 : Int32) (σ : FS) (Q : Int32 → FS → Prop) : Prop :=
  mw_see_98 X36 x1 x3 (0 : Int32) σ Q
theorem mt_see_97 {κ : Cx} {S : Adr} {Z : State → Prop} {Q : Int32 → FS → Prop} (h : MCx κ cX6_see S 3) (hR : RetI κ S Z cX6_see Q) {X36 : Int32 → Int32 → Int32 → FS → Prop} (hX36 : ∀ (x1 : Int32) (x2 : Int32) (x3 : Int32) (σ : FS), X36 x1 x2 x3 σ → MG κ S Z 36 σ [some (.ref (S.2.1 0)), some (.int x1), some (.int x2), some (.int x3)] []) {x1 : Int32} {x3 : Int32} {σ : FS} (hw : mw_see_97 X36 x1 x3 σ Q) : MG κ S Z 97 σ [some (.ref (S.2.1 0)), some (.int x1), none, some (.int x3)] [] := by
  unfold mw_see_97 at hw
  refine g_iconstv 97 _ ic_0 h.1 dX6_see_97 ?_
  exact g_le (mt_see_98 h hR hX36 hw) ⟨rfl, rfl, rfl, trivial⟩
def mw_see_124 (x3 : Int32) (σ : FS) (Q : Int32 → FS → Prop) : Prop :=
  ∀ X124 : Int32 → FS → Prop, (∀ (x3 : Int32) (σ : FS), (((fI σ 0 71) ≤ x3 → Q (fI σ 0 71) σ) ∧ (¬ (fI σ 0 71) ≤ x3 → (vp_in ((4 : Int32) * x3) 1600 ∧ (vp_in ((3 : Int32) * x3) 48 ∧ ∀ σ7, σ7 = sA σ 72 (Int32.toNatClampNeg ((3 : Int32) * x3)) (fA σ 0 (Int32.toNatClampNeg ((4 : Int32) * x3))) → (vp_in (((4 : Int32) * x3) + (1 : Int32)) 1600 ∧ (vp_in (((4 : Int32) * x3) + (2 : Int32)) 1600 ∧ mw_cellAt (fA σ7 0 (Int32.toNatClampNeg (((4 : Int32) * x3) + (1 : Int32)))) (fA σ7 0 (Int32.toNatClampNeg (((4 : Int32) * x3) + (2 : Int32)))) σ7 (fun r9 σ8 => (vp_in (((3 : Int32) * x3) + (1 : Int32)) 48 ∧ ∀ σ10, σ10 = sA σ8 72 (Int32.toNatClampNeg (((3 : Int32) * x3) + (1 : Int32))) r9 → (vp_in (((4 : Int32) * x3) + (3 : Int32)) 1600 ∧ (vp_in (((3 : Int32) * x3) + (2 : Int32)) 48 ∧ ∀ σ11, σ11 = sA σ10 72 (Int32.toNatClampNeg (((3 : Int32) * x3) + (2 : Int32))) (fA σ10 0 (Int32.toNatClampNeg (((4 : Int32) * x3) + (3 : Int32)))) → X124 (x3 + 1) σ11)))))))))) → X124 x3 σ) → X124 x3 σ
theorem mt_see_124 {κ : Cx} {S : Adr} {Z : State → Prop} {Q : Int32 → FS → Prop} (h : MCx κ cX6_see S 3) (hR : RetI κ S Z cX6_see Q) {x3 : Int32} {σ : FS} (hw : mw_see_124 x3 σ Q) : MG κ S Z 124 σ [some (.ref (S.2.1 0)), none, none, some (.int x3)] [] := by
  refine hw (fun x3 σ => MG κ S Z 124 σ [some (.ref (S.2.1 0)), none, none, some (.int x3)] []) ?_
  clear hw
  intro x3 σ hw
  have hX124 : ∀ (x3 : Int32) (σ : FS), MG κ S Z 124 σ [some (.ref (S.2.1 0)), none, none, some (.int x3)] [] → MG κ S Z 124 σ [some (.ref (S.2.1 0)), none, none, some (.int x3)] [] := fun _ _ hh => hh
  refine g_iload_3 124 h.1 dX6_see_124 ?_
  refine g_aload_0 125 h.1 dX6_see_125 ?_
  refine mg_71 126 h dX6_see_126 ?_
  refine g_icmp_ge 129 208 h.1 dX6_see_129 (by decide) (fun c => ?_) (fun c => ?_)
  · have hw := hw.1 c
    refine g_aload_0 208 h.1 dX6_see_208 ?_
    refine mg_71 209 h dX6_see_209 ?_
    exact hR 212 _ _ _ dX6_see_212 hw
  · have hw := hw.2 c
    refine g_aload_0 132 h.1 dX6_see_132 ?_
    refine mg_72 133 h dX6_see_133 ?_
    refine g_iconstv 136 _ ic_3 h.1 dX6_see_136 ?_
    refine g_iload_3 137 h.1 dX6_see_137 ?_
    refine g_imul 138 h.1 dX6_see_138 ?_
    refine g_aload_0 139 h.1 dX6_see_139 ?_
    refine mg_0 140 h dX6_see_140 ?_
    refine g_iconstv 143 _ ic_4 h.1 dX6_see_143 ?_
    refine g_iload_3 144 h.1 dX6_see_144 ?_
    refine g_imul 145 h.1 dX6_see_145 ?_
    refine m_iald 146 rfl hw.1 h dX6_see_146 ?_
    have hw := hw.2
    refine m_iast 147 rfl hw.1 h dX6_see_147 ?_
    have hw := hw.2 _ rfl
    refine g_aload_0 148 h.1 dX6_see_148 ?_
    refine mg_72 149 h dX6_see_149 ?_
    refine g_iconstv 152 _ ic_3 h.1 dX6_see_152 ?_
    refine g_iload_3 153 h.1 dX6_see_153 ?_
    refine g_imul 154 h.1 dX6_see_154 ?_
    refine g_iconstv 155 _ ic_1 h.1 dX6_see_155 ?_
    refine g_iadd 156 h.1 dX6_see_156 ?_
    refine g_aload_0 157 h.1 dX6_see_157 ?_
    refine g_aload_0 158 h.1 dX6_see_158 ?_
    refine mg_0 159 h dX6_see_159 ?_
    refine g_iconstv 162 _ ic_4 h.1 dX6_see_162 ?_
    refine g_iload_3 163 h.1 dX6_see_163 ?_
    refine g_imul 164 h.1 dX6_see_164 ?_
    refine g_iconstv 165 _ ic_1 h.1 dX6_see_165 ?_
    refine g_iadd 166 h.1 dX6_see_166 ?_
    refine m_iald 167 rfl hw.1 h dX6_see_167 ?_
    have hw := hw.2
    refine g_aload_0 168 h.1 dX6_see_168 ?_
    refine mg_0 169 h dX6_see_169 ?_
    refine g_iconstv 172 _ ic_4 h.1 dX6_see_172 ?_
    refine g_iload_3 173 h.1 dX6_see_173 ?_
    refine g_imul 174 h.1 dX6_see_174 ?_
    refine g_iconstv 175 _ ic_2 h.1 dX6_see_175 ?_
    refine g_iadd 176 h.1 dX6_see_176 ?_
    refine m_iald 177 rfl hw.1 h dX6_see_177 ?_
    have hw := hw.2
    refine m_callI_2 178 h (mm_cellAt h.2.2.1 hw) (by decide) q2340 (Nat.le_of_ble_eq_true rfl) dX6_see_178 (fun r9 σ8 hw => ?_)
    refine m_iast 181 rfl hw.1 h dX6_see_181 ?_
    have hw := hw.2 _ rfl
    refine g_aload_0 182 h.1 dX6_see_182 ?_
    refine mg_72 183 h dX6_see_183 ?_
    refine g_iconstv 186 _ ic_3 h.1 dX6_see_186 ?_
    refine g_iload_3 187 h.1 dX6_see_187 ?_
    refine g_imul 188 h.1 dX6_see_188 ?_
    refine g_iconstv 189 _ ic_2 h.1 dX6_see_189 ?_
    refine g_iadd 190 h.1 dX6_see_190 ?_
    refine g_aload_0 191 h.1 dX6_see_191 ?_
    refine mg_0 192 h dX6_see_192 ?_
    refine g_iconstv 195 _ ic_4 h.1 dX6_see_195 ?_
    refine g_iload_3 196 h.1 dX6_see_196 ?_
    refine g_imul 197 h.1 dX6_see_197 ?_
    refine g_iconstv 198 _ ic_3 h.1 dX6_see_198 ?_
    refine g_iadd 199 h.1 dX6_see_199 ?_
    refine m_iald 200 rfl hw.1 h dX6_see_200 ?_
    have hw := hw.2
    refine m_iast 201 rfl hw.1 h dX6_see_201 ?_
    have hw := hw.2 _ rfl
    refine g_iinc_3 202 (x3 + 1) (congrArg _ ic_1) h.1 rfl dX6_see_202 ?_
    refine g_goto 205 124 h.1 dX6_see_205 (by decide) ?_
    exact g_le (hX124 _ _ hw) ⟨rfl, rfl, trivial⟩
def mw_see_105 (x1 : Int32) (x2 : Int32) (σ : FS) (Q : Int32 → FS → Prop) : Prop :=
  ((¬ x2 = 0 → (∀ σ4, σ4 = sI σ 0 71 (x1 / (4 : Int32)) → mw_see_124 (0 : Int32) σ4 Q)) ∧ (x2 = 0 → mw_refuses (1 : Int32) σ (fun r6 σ5 => Q r6 σ5)))
theorem mt_see_105 {κ : Cx} {S : Adr} {Z : State → Prop} {Q : Int32 → FS → Prop} (h : MCx κ cX6_see S 3) (hR : RetI κ S Z cX6_see Q) {x1 : Int32} {x2 : Int32} {σ : FS} (hw : mw_see_105 x1 x2 σ Q) : MG κ S Z 105 σ [some (.ref (S.2.1 0)), some (.int x1), some (.int x2), none] [] := by
  unfold mw_see_105 at hw
  refine g_iload_2 105 h.1 dX6_see_105 ?_
  refine g_if_ne 106 115 h.1 dX6_see_106 (by decide) (fun c => ?_) (fun c => ?_)
  · have hw := hw.1 c
    refine g_aload_0 115 h.1 dX6_see_115 ?_
    refine g_iload_1 116 h.1 dX6_see_116 ?_
    refine g_iconstv 117 _ ic_4 h.1 dX6_see_117 ?_
    refine g_idiv 118 (by decide) h.1 dX6_see_118 ?_
    refine mp_71 119 h dX6_see_119 ?_
    have hw := hw _ rfl
    refine g_iconstv 122 _ ic_0 h.1 dX6_see_122 ?_
    refine g_istore_3 123 h.1 rfl dX6_see_123 ?_
    exact g_le (mt_see_124 h hR hw) ⟨rfl, rfl, trivial⟩
  · have hw := hw.2 c
    refine g_aload_0 109 h.1 dX6_see_109 ?_
    refine g_iconstv 110 _ ic_1 h.1 dX6_see_110 ?_
    refine m_callI_1 111 h (mm_refuses h.2.2.1 hw) (by decide) q2564 (Nat.le_of_ble_eq_true rfl) dX6_see_111 (fun r6 σ5 hw => ?_)
    exact hR 114 _ _ _ dX6_see_114 hw
def mw_see_36 (x1 : Int32) (x2 : Int32) (x3 : Int32) (σ : FS) (Q : Int32 → FS → Prop) : Prop :=
  ∀ X36 : Int32 → Int32 → Int32 → FS → Prop, (∀ (x1 : Int32) (x2 : Int32) (x3 : Int32) (σ : FS), ((x1 ≤ x3 → mw_see_105 x1 x2 σ Q) ∧ (¬ x1 ≤ x3 → ((x2 = 0 → mw_see_105 x1 x2 σ Q) ∧ (¬ x2 = 0 → (vp_in x3 1600 ∧ (((30 : Int32) < (fA σ 0 (Int32.toNatClampNeg x3)) → mw_see_97 X36 x1 x3 σ Q) ∧ (¬ (30 : Int32) < (fA σ 0 (Int32.toNatClampNeg x3)) → (vp_in (x3 + (1 : Int32)) 1600 ∧ (vp_in (x3 + (2 : Int32)) 1600 ∧ mw_cellAt (fA σ 0 (Int32.toNatClampNeg (x3 + (1 : Int32)))) (fA σ 0 (Int32.toNatClampNeg (x3 + (2 : Int32)))) σ (fun r3 σ2 => ((r3 = (-1 : Int32) → mw_see_97 X36 x1 x3 σ2 Q) ∧ (¬ r3 = (-1 : Int32) → (vp_in (x3 + (3 : Int32)) 1600 ∧ (((99 : Int32) < (fA σ2 0 (Int32.toNatClampNeg (x3 + (3 : Int32)))) → mw_see_97 X36 x1 x3 σ2 Q) ∧ (¬ (99 : Int32) < (fA σ2 0 (Int32.toNatClampNeg (x3 + (3 : Int32)))) → mw_see_98 X36 x1 x3 (1 : Int32) σ2 Q))))))))))))))) → X36 x1 x2 x3 σ) → X36 x1 x2 x3 σ
theorem mt_see_36 {κ : Cx} {S : Adr} {Z : State → Prop} {Q : Int32 → FS → Prop} (h : MCx κ cX6_see S 3) (hR : RetI κ S Z cX6_see Q) {x1 : Int32} {x2 : Int32} {x3 : Int32} {σ : FS} (hw : mw_see_36 x1 x2 x3 σ Q) : MG κ S Z 36 σ [some (.ref (S.2.1 0)), some (.int x1), some (.int x2), some (.int x3)] [] := by
  refine hw (fun x1 x2 x3 σ => MG κ S Z 36 σ [some (.ref (S.2.1 0)), some (.int x1), some (.int x2), some (.int x3)] []) ?_
  clear hw
  intro x1 x2 x3 σ hw
  have hX36 : ∀ (x1 : Int32) (x2 : Int32) (x3 : Int32) (σ : FS), MG κ S Z 36 σ [some (.ref (S.2.1 0)), some (.int x1), some (.int x2), some (.int x3)] [] → MG κ S Z 36 σ [some (.ref (S.2.1 0)), some (.int x1), some (.int x2), some (.int x3)] [] := fun _ _ _ _ hh => hh
  refine g_iload_3 36 h.1 dX6_see_36 ?_
  refine g_iload_1 37 h.1 dX6_see_37 ?_
  refine g_icmp_ge 38 105 h.1 dX6_see_38 (by decide) (fun c => ?_) (fun c => ?_)
  · have hw := hw.1 c
    exact g_le (mt_see_105 h hR hw) ⟨rfl, rfl, rfl, trivial⟩
  · have hw := hw.2 c
    refine g_iload_2 41 h.1 dX6_see_41 ?_
    refine g_if_eq 42 105 h.1 dX6_see_42 (by decide) (fun c => ?_) (fun c => ?_)
    · have hw := hw.1 c
      exact g_le (mt_see_105 h hR hw) ⟨rfl, rfl, rfl, trivial⟩
    · have hw := hw.2 c
      refine g_aload_0 45 h.1 dX6_see_45 ?_
      refine mg_0 46 h dX6_see_46 ?_
      refine g_iload_3 49 h.1 dX6_see_49 ?_
      refine m_iald 50 rfl hw.1 h dX6_see_50 ?_
      have hw := hw.2
      refine g_bipush 51 _ bp_30 h.1 dX6_see_51 ?_
      refine g_icmp_gt 53 97 h.1 dX6_see_53 (by decide) (fun c => ?_) (fun c => ?_)
      · have hw := hw.1 c
        exact g_le (mt_see_97 h hR hX36 hw) ⟨rfl, rfl, rfl, trivial⟩
      · have hw := hw.2 c
        refine g_aload_0 56 h.1 dX6_see_56 ?_
        refine g_aload_0 57 h.1 dX6_see_57 ?_
        refine mg_0 58 h dX6_see_58 ?_
        refine g_iload_3 61 h.1 dX6_see_61 ?_
        refine g_iconstv 62 _ ic_1 h.1 dX6_see_62 ?_
        refine g_iadd 63 h.1 dX6_see_63 ?_
        refine m_iald 64 rfl hw.1 h dX6_see_64 ?_
        have hw := hw.2
        refine g_aload_0 65 h.1 dX6_see_65 ?_
        refine mg_0 66 h dX6_see_66 ?_
        refine g_iload_3 69 h.1 dX6_see_69 ?_
        refine g_iconstv 70 _ ic_2 h.1 dX6_see_70 ?_
        refine g_iadd 71 h.1 dX6_see_71 ?_
        refine m_iald 72 rfl hw.1 h dX6_see_72 ?_
        have hw := hw.2
        refine m_callI_2 73 h (mm_cellAt h.2.2.1 hw) (by decide) q2340 (Nat.le_of_ble_eq_true rfl) dX6_see_73 (fun r3 σ2 hw => ?_)
        refine g_iconstv 76 _ ic_m1 h.1 dX6_see_76 ?_
        refine g_icmp_eq 77 97 h.1 dX6_see_77 (by decide) (fun c => ?_) (fun c => ?_)
        · have hw := hw.1 c
          exact g_le (mt_see_97 h hR hX36 hw) ⟨rfl, rfl, rfl, trivial⟩
        · have hw := hw.2 c
          refine g_aload_0 80 h.1 dX6_see_80 ?_
          refine mg_0 81 h dX6_see_81 ?_
          refine g_iload_3 84 h.1 dX6_see_84 ?_
          refine g_iconstv 85 _ ic_3 h.1 dX6_see_85 ?_
          refine g_iadd 86 h.1 dX6_see_86 ?_
          refine m_iald 87 rfl hw.1 h dX6_see_87 ?_
          have hw := hw.2
          refine g_bipush 88 _ bp_99 h.1 dX6_see_88 ?_
          refine g_icmp_gt 90 97 h.1 dX6_see_90 (by decide) (fun c => ?_) (fun c => ?_)
          · have hw := hw.1 c
            exact g_le (mt_see_97 h hR hX36 hw) ⟨rfl, rfl, rfl, trivial⟩
          · have hw := hw.2 c
            refine g_iconstv 93 _ ic_1 h.1 dX6_see_93 ?_
            refine g_goto 94 98 h.1 dX6_see_94 (by decide) ?_
            exact g_le (mt_see_98 h hR hX36 hw) ⟨rfl, rfl, rfl, trivial⟩
def mw_see_33 (x1 : Int32) (y0 : Int32) (σ : FS) (Q : Int32 → FS → Prop) : Prop :=
  mw_see_36 x1 y0 (0 : Int32) σ Q
theorem mt_see_33 {κ : Cx} {S : Adr} {Z : State → Prop} {Q : Int32 → FS → Prop} (h : MCx κ cX6_see S 3) (hR : RetI κ S Z cX6_see Q) {x1 : Int32} {y0 : Int32} {σ : FS} (hw : mw_see_33 x1 y0 σ Q) : MG κ S Z 33 σ [some (.ref (S.2.1 0)), some (.int x1), none, none] [.int y0] := by
  unfold mw_see_33 at hw
  refine g_istore_2 33 h.1 rfl dX6_see_33 ?_
  refine g_iconstv 34 _ ic_0 h.1 dX6_see_34 ?_
  refine g_istore_3 35 h.1 rfl dX6_see_35 ?_
  exact g_le (mt_see_36 h hR hw) ⟨rfl, rfl, rfl, rfl, trivial⟩
def mw_see_32 (x1 : Int32) (σ : FS) (Q : Int32 → FS → Prop) : Prop :=
  mw_see_33 x1 (0 : Int32) σ Q
theorem mt_see_32 {κ : Cx} {S : Adr} {Z : State → Prop} {Q : Int32 → FS → Prop} (h : MCx κ cX6_see S 3) (hR : RetI κ S Z cX6_see Q) {x1 : Int32} {σ : FS} (hw : mw_see_32 x1 σ Q) : MG κ S Z 32 σ [some (.ref (S.2.1 0)), some (.int x1), none, none] [] := by
  unfold mw_see_32 at hw
  refine g_iconstv 32 _ ic_0 h.1 dX6_see_32 ?_
  exact g_le (mt_see_33 h hR hw) ⟨rfl, rfl, trivial⟩
def mw_see (σ : FS) (Q : Int32 → FS → Prop) : Prop :=
  (∀ σ1, σ1 = sI σ 0 1 (0 : Int32) → (((fI σ 0 1) ≤ 0 → mw_see_32 (fI σ 0 1) σ1 Q) ∧ (¬ (fI σ 0 1) ≤ 0 → ((¬ ((fI σ 0 1) - (fI σ 0 1) / (4 : Int32) * (4 : Int32)) = 0 → mw_see_32 (fI σ 0 1) σ1 Q) ∧ (((fI σ 0 1) - (fI σ 0 1) / (4 : Int32) * (4 : Int32)) = 0 → (((16 : Int32) < ((fI σ 0 1) / (4 : Int32)) → mw_see_32 (fI σ 0 1) σ1 Q) ∧ (¬ (16 : Int32) < ((fI σ 0 1) / (4 : Int32)) → mw_see_33 (fI σ 0 1) (1 : Int32) σ1 Q)))))))
theorem mt_see {κ : Cx} {S : Adr} {Z : State → Prop} {Q : Int32 → FS → Prop} (h : MCx κ cX6_see S 3) (hR : RetI κ S Z cX6_see Q) {σ : FS} (hw : mw_see σ Q) : MG κ S Z 0 σ [some (.ref (S.2.1 0)), none, none, none] [] := by
  unfold mw_see at hw
  refine g_aload_0 0 h.1 dX6_see_0 ?_
  refine mg_1 1 h dX6_see_1 ?_
  refine g_istore_1 4 h.1 rfl dX6_see_4 ?_
  refine g_aload_0 5 h.1 dX6_see_5 ?_
  refine g_iconstv 6 _ ic_0 h.1 dX6_see_6 ?_
  refine mp_1 7 h dX6_see_7 ?_
  have hw := hw _ rfl
  refine g_iload_1 10 h.1 dX6_see_10 ?_
  refine g_if_le 11 32 h.1 dX6_see_11 (by decide) (fun c => ?_) (fun c => ?_)
  · have hw := hw.1 c
    exact g_le (mt_see_32 h hR hw) ⟨rfl, rfl, trivial⟩
  · have hw := hw.2 c
    refine g_iload_1 14 h.1 dX6_see_14 ?_
    refine g_iconstv 15 _ ic_4 h.1 dX6_see_15 ?_
    refine g_irem 16 (by decide) h.1 dX6_see_16 ?_
    refine g_if_ne 17 32 h.1 dX6_see_17 (by decide) (fun c => ?_) (fun c => ?_)
    · have hw := hw.1 c
      exact g_le (mt_see_32 h hR hw) ⟨rfl, rfl, trivial⟩
    · have hw := hw.2 c
      refine g_iload_1 20 h.1 dX6_see_20 ?_
      refine g_iconstv 21 _ ic_4 h.1 dX6_see_21 ?_
      refine g_idiv 22 (by decide) h.1 dX6_see_22 ?_
      refine g_bipush 23 _ bp_16 h.1 dX6_see_23 ?_
      refine g_icmp_gt 25 32 h.1 dX6_see_25 (by decide) (fun c => ?_) (fun c => ?_)
      · have hw := hw.1 c
        exact g_le (mt_see_32 h hR hw) ⟨rfl, rfl, trivial⟩
      · have hw := hw.2 c
        refine g_iconstv 28 _ ic_1 h.1 dX6_see_28 ?_
        refine g_goto 29 33 h.1 dX6_see_29 (by decide) ?_
        exact g_le (mt_see_33 h hR hw) ⟨rfl, rfl, trivial⟩
theorem mm_see {l : Launch} {S : Adr} (hD : MD S) {σ : FS} {Q : Int32 → FS → Prop} (hw : mw_see σ Q) : mMet l S 3 yX6_see [] σ (mQi S Q) :=
  m_metI hD ⟨rfl, by decide, by show _ = some 0; decide +kernel, q2563⟩ q2561 q2562 (Nat.le_of_ble_eq_true rfl) (fun κ Z h hR => mt_see h hR hw)
def mw_seed (x1 : Int32) (σ : FS) (Q : Int32 → FS → Prop) : Prop :=
  ((0 ≤ x1 → (∀ σ1, σ1 = sL σ 0 78 (Int32.toInt64 x1) → Q (1 : Int32) σ1)) ∧ (¬ 0 ≤ x1 → (vp_in (5 : Int32) 6 ∧ (vp_in (5 : Int32) 6 ∧ ∀ σ2, σ2 = sA σ 9 (Int32.toNatClampNeg (5 : Int32)) ((fA σ 9 (Int32.toNatClampNeg (5 : Int32))) + (1 : Int32)) → Q (0 : Int32) σ2))))
theorem mt_seed {κ : Cx} {S : Adr} {Z : State → Prop} {Q : Int32 → FS → Prop} (h : MCx κ cX6_seed S 1) (hR : RetZ κ S Z cX6_seed Q) {x1 : Int32} {σ : FS} (hw : mw_seed x1 σ Q) : MG κ S Z 0 σ [some (.ref (S.2.1 0)), some (.int x1)] [] := by
  unfold mw_seed at hw
  refine g_iload_1 0 h.1 dX6_seed_0 ?_
  refine g_if_ge 1 16 h.1 dX6_seed_1 (by decide) (fun c => ?_) (fun c => ?_)
  · have hw := hw.1 c
    refine g_aload_0 16 h.1 dX6_seed_16 ?_
    refine g_iload_1 17 h.1 dX6_seed_17 ?_
    refine g_i2l 18 h.1 dX6_seed_18 ?_
    refine mp_78 19 h dX6_seed_19 ?_
    have hw := hw _ rfl
    refine g_iconstv 22 _ ic_1 h.1 dX6_seed_22 ?_
    exact hR 23 _ _ _ dX6_seed_23 rfl hw
  · have hw := hw.2 c
    refine g_aload_0 4 h.1 dX6_seed_4 ?_
    refine mg_9 5 h dX6_seed_5 ?_
    refine g_iconstv 8 _ ic_5 h.1 dX6_seed_8 ?_
    refine g_dup2 9 rfl rfl h.1 dX6_seed_9 ?_
    refine m_iald 10 rfl hw.1 h dX6_seed_10 ?_
    have hw := hw.2
    refine g_iconstv 11 _ ic_1 h.1 dX6_seed_11 ?_
    refine g_iadd 12 h.1 dX6_seed_12 ?_
    refine m_iast 13 rfl hw.1 h dX6_seed_13 ?_
    have hw := hw.2 _ rfl
    refine g_iconstv 14 _ ic_0 h.1 dX6_seed_14 ?_
    exact hR 15 _ _ _ dX6_seed_15 rfl hw
theorem mm_seed {l : Launch} {S : Adr} (hD : MD S) {x1 : Int32} {σ : FS} {Q : Int32 → FS → Prop} (hw : mw_seed x1 σ Q) : mMet l S 1 yX6_seed [.int x1] σ (mQi S Q) :=
  m_metZ hD ⟨rfl, by decide, by show _ = some 1; decide +kernel, q2628⟩ q2626 q2627 (Nat.le_of_ble_eq_true rfl) (fun κ Z h hR => mt_seed h hR hw)
def mw_status (x1 : Int32) (σ : FS) (Q : Int32 → FS → Prop) : Prop :=
  mw_isIn (Int32.toInt64 x1) (0 : Int64) (5 : Int64) σ (fun r2 σ1 => ((r2 = 0 → Q (-1 : Int32) σ1) ∧ (¬ r2 = 0 → (vp_in x1 6 ∧ Q (fA σ1 9 (Int32.toNatClampNeg x1)) σ1))))
theorem mt_status {κ : Cx} {S : Adr} {Z : State → Prop} {Q : Int32 → FS → Prop} (h : MCx κ cX6_status S 2) (hR : RetI κ S Z cX6_status Q) {x1 : Int32} {σ : FS} (hw : mw_status x1 σ Q) : MG κ S Z 0 σ [some (.ref (S.2.1 0)), some (.int x1)] [] := by
  unfold mw_status at hw
  refine g_iload_1 0 h.1 dX6_status_0 ?_
  refine g_i2l 1 h.1 dX6_status_1 ?_
  refine g_lconst 2 _ lc_0 h.1 dX6_status_2 ?_
  refine g_ldc2 3 h.1 q2335 dX6_status_3 ?_
  refine m_scallI_3 6 h (mm_isIn h.2.2.1 hw) (by decide) q2147 (Nat.le_of_ble_eq_true rfl) dX6_status_6 (fun r2 σ1 hw => ?_)
  refine g_if_eq 9 21 h.1 dX6_status_9 (by decide) (fun c => ?_) (fun c => ?_)
  · have hw := hw.1 c
    refine g_iconstv 21 _ ic_m1 h.1 dX6_status_21 ?_
    exact hR 22 _ _ _ dX6_status_22 hw
  · have hw := hw.2 c
    refine g_aload_0 12 h.1 dX6_status_12 ?_
    refine mg_9 13 h dX6_status_13 ?_
    refine g_iload_1 16 h.1 dX6_status_16 ?_
    refine m_iald 17 rfl hw.1 h dX6_status_17 ?_
    have hw := hw.2
    refine g_goto 18 22 h.1 dX6_status_18 (by decide) ?_
    exact hR 22 _ _ _ dX6_status_22 hw
theorem mm_status {l : Launch} {S : Adr} (hD : MD S) {x1 : Int32} {σ : FS} {Q : Int32 → FS → Prop} (hw : mw_status x1 σ Q) : mMet l S 2 yX6_status [.int x1] σ (mQi S Q) :=
  m_metI hD ⟨rfl, by decide, by show _ = some 1; decide +kernel, q2697⟩ q2695 q2696 (Nat.le_of_ble_eq_true rfl) (fun κ Z h hR => mt_status h hR hw)
def mw_teach_40 (σ : FS) (Q : Int32 → FS → Prop) : Prop :=
  mw_isRefused σ (fun r12 σ11 => (nb r12 ∧ Q r12 σ11))
theorem mt_teach_40 {κ : Cx} {S : Adr} {Z : State → Prop} {Q : Int32 → FS → Prop} (h : MCx κ cX6_teach S 3) (hR : RetZ κ S Z cX6_teach Q) {σ : FS} (hw : mw_teach_40 σ Q) : MG κ S Z 40 σ [some (.ref (S.2.1 0)), none, none, none] [] := by
  unfold mw_teach_40 at hw
  refine g_aload_0 40 h.1 dX6_teach_40 ?_
  refine m_callI_0 41 h (mm_isRefused h.2.2.1 hw) (by decide) q2605 (Nat.le_of_ble_eq_true rfl) dX6_teach_41 (fun r12 σ11 hw => ?_)
  exact hR 44 _ _ _ dX6_teach_44 hw.1 hw.2
def mw_teach (x1 : Int32) (x2 : Int32) (x3 : Int32) (σ : FS) (Q : Int32 → FS → Prop) : Prop :=
  mw_isPerson x1 σ (fun r2 σ1 => ((r2 = 0 → mw_teach_40 σ1 Q) ∧ (¬ r2 = 0 → mw_isTopic (Int32.toInt64 x2) σ1 (fun r4 σ3 => ((r4 = 0 → mw_teach_40 σ3 Q) ∧ (¬ r4 = 0 → mw_isIn (Int32.toInt64 x3) (0 : Int64) (1 : Int64) σ3 (fun r6 σ5 => ((r6 = 0 → mw_teach_40 σ5 Q) ∧ (¬ r6 = 0 → mw_knowsOf x1 σ5 (fun r8 σ7 => ((¬ ((r8 >>> (x2 &&& 31)) &&& (1 : Int32)) = x3 → mw_stores σ7 (fun σ9 => (vp_in ((52 : Int32) + ((3 : Int32) * x1)) 232 ∧ (vp_in ((52 : Int32) + ((3 : Int32) * x1)) 232 ∧ ∀ σ10, σ10 = sA σ9 52 (Int32.toNatClampNeg ((52 : Int32) + ((3 : Int32) * x1))) ((fA σ9 52 (Int32.toNatClampNeg ((52 : Int32) + ((3 : Int32) * x1)))) ^^^ ((1 : Int32) <<< (x2 &&& 31))) → Q (1 : Int32) σ10)))) ∧ (((r8 >>> (x2 &&& 31)) &&& (1 : Int32)) = x3 → mw_teach_40 σ7 Q))))))))))))
theorem mt_teach {κ : Cx} {S : Adr} {Z : State → Prop} {Q : Int32 → FS → Prop} (h : MCx κ cX6_teach S 3) (hR : RetZ κ S Z cX6_teach Q) {x1 : Int32} {x2 : Int32} {x3 : Int32} {σ : FS} (hw : mw_teach x1 x2 x3 σ Q) : MG κ S Z 0 σ [some (.ref (S.2.1 0)), some (.int x1), some (.int x2), some (.int x3)] [] := by
  unfold mw_teach at hw
  refine g_aload_0 0 h.1 dX6_teach_0 ?_
  refine g_iload_1 1 h.1 dX6_teach_1 ?_
  refine m_callI_1 2 h (mm_isPerson h.2.2.1 hw) (by decide) q2348 (Nat.le_of_ble_eq_true rfl) dX6_teach_2 (fun r2 σ1 hw => ?_)
  refine g_if_eq 5 40 h.1 dX6_teach_5 (by decide) (fun c => ?_) (fun c => ?_)
  · have hw := hw.1 c
    exact g_le (mt_teach_40 h hR hw) ⟨rfl, trivial⟩
  · have hw := hw.2 c
    refine g_aload_0 8 h.1 dX6_teach_8 ?_
    refine g_iload_2 9 h.1 dX6_teach_9 ?_
    refine g_i2l 10 h.1 dX6_teach_10 ?_
    refine m_callI_1 11 h (mm_isTopic h.2.2.1 hw) (by decide) q2372 (Nat.le_of_ble_eq_true rfl) dX6_teach_11 (fun r4 σ3 hw => ?_)
    refine g_if_eq 14 40 h.1 dX6_teach_14 (by decide) (fun c => ?_) (fun c => ?_)
    · have hw := hw.1 c
      exact g_le (mt_teach_40 h hR hw) ⟨rfl, trivial⟩
    · have hw := hw.2 c
      refine g_iload_3 17 h.1 dX6_teach_17 ?_
      refine g_i2l 18 h.1 dX6_teach_18 ?_
      refine g_lconst 19 _ lc_0 h.1 dX6_teach_19 ?_
      refine g_lconst 20 _ lc_1 h.1 dX6_teach_20 ?_
      refine m_scallI_3 21 h (mm_isIn h.2.2.1 hw) (by decide) q2147 (Nat.le_of_ble_eq_true rfl) dX6_teach_21 (fun r6 σ5 hw => ?_)
      refine g_if_eq 24 40 h.1 dX6_teach_24 (by decide) (fun c => ?_) (fun c => ?_)
      · have hw := hw.1 c
        exact g_le (mt_teach_40 h hR hw) ⟨rfl, trivial⟩
      · have hw := hw.2 c
        refine g_aload_0 27 h.1 dX6_teach_27 ?_
        refine g_iload_1 28 h.1 dX6_teach_28 ?_
        refine m_callI_1 29 h (mm_knowsOf h.2.2.1 hw) (by decide) q2360 (Nat.le_of_ble_eq_true rfl) dX6_teach_29 (fun r8 σ7 hw => ?_)
        refine g_iload_2 32 h.1 dX6_teach_32 ?_
        refine g_ishr 33 h.1 dX6_teach_33 ?_
        refine g_iconstv 34 _ ic_1 h.1 dX6_teach_34 ?_
        refine g_iand 35 h.1 dX6_teach_35 ?_
        refine g_iload_3 36 h.1 dX6_teach_36 ?_
        refine g_icmp_ne 37 45 h.1 dX6_teach_37 (by decide) (fun c => ?_) (fun c => ?_)
        · have hw := hw.1 c
          refine g_aload_0 45 h.1 dX6_teach_45 ?_
          refine m_callV_0 46 h (mm_stores h.2.2.1 hw) (by decide) q2597 (Nat.le_of_ble_eq_true rfl) dX6_teach_46 (fun σ9 hw => ?_)
          refine g_aload_0 49 h.1 dX6_teach_49 ?_
          refine mg_52 50 h dX6_teach_50 ?_
          refine g_bipush 53 _ bp_52 h.1 dX6_teach_53 ?_
          refine g_iconstv 55 _ ic_3 h.1 dX6_teach_55 ?_
          refine g_iload_1 56 h.1 dX6_teach_56 ?_
          refine g_imul 57 h.1 dX6_teach_57 ?_
          refine g_iadd 58 h.1 dX6_teach_58 ?_
          refine g_dup2 59 rfl rfl h.1 dX6_teach_59 ?_
          refine m_iald 60 rfl hw.1 h dX6_teach_60 ?_
          have hw := hw.2
          refine g_iconstv 61 _ ic_1 h.1 dX6_teach_61 ?_
          refine g_iload_2 62 h.1 dX6_teach_62 ?_
          refine g_ishl 63 h.1 dX6_teach_63 ?_
          refine g_ixor 64 h.1 dX6_teach_64 ?_
          refine m_iast 65 rfl hw.1 h dX6_teach_65 ?_
          have hw := hw.2 _ rfl
          refine g_iconstv 66 _ ic_1 h.1 dX6_teach_66 ?_
          exact hR 67 _ _ _ dX6_teach_67 rfl hw
        · have hw := hw.2 c
          exact g_le (mt_teach_40 h hR hw) ⟨rfl, trivial⟩
theorem mm_teach {l : Launch} {S : Adr} (hD : MD S) {x1 : Int32} {x2 : Int32} {x3 : Int32} {σ : FS} {Q : Int32 → FS → Prop} (hw : mw_teach x1 x2 x3 σ Q) : mMet l S 3 yX6_teach [.int x1, .int x2, .int x3] σ (mQi S Q) :=
  m_metZ hD ⟨rfl, by decide, by show _ = some 3; decide +kernel, q2604⟩ q2602 q2603 (Nat.le_of_ble_eq_true rfl) (fun κ Z h hR => mt_teach h hR hw)
def mw_tells_118 (X39 : Int32 → Int32 → Int32 → Int32 → Int32 → FS → Prop) (X61 : Int32 → Int32 → Int32 → Int32 → Int32 → Int32 → FS → Prop) (x2 : Int32) (x3 : Int32) (x4 : Int32) (x5 : Int32) (x6 : Int32) (x7 : Int32) (σ : FS) (Q : Int32 → FS → Prop) : Prop :=
  X61 x2 x3 x4 x5 x6 (x7 + 1) σ
theorem mt_tells_118 {κ : Cx} {S : Adr} {Z : State → Prop} {Q : Int32 → FS → Prop} (h : MCx κ cX6_tells S 9) (hR : RetI κ S Z cX6_tells Q) {X39 : Int32 → Int32 → Int32 → Int32 → Int32 → FS → Prop} {X61 : Int32 → Int32 → Int32 → Int32 → Int32 → Int32 → FS → Prop} (hX39 : ∀ (x2 : Int32) (x3 : Int32) (x4 : Int32) (x5 : Int32) (x6 : Int32) (σ : FS), X39 x2 x3 x4 x5 x6 σ → MG κ S Z 39 σ [some (.ref (S.2.1 0)), none, some (.int x2), some (.int x3), some (.int x4), some (.int x5), some (.int x6), none, none] []) (hX61 : ∀ (x2 : Int32) (x3 : Int32) (x4 : Int32) (x5 : Int32) (x6 : Int32) (x7 : Int32) (σ : FS), X61 x2 x3 x4 x5 x6 x7 σ → MG κ S Z 61 σ [some (.ref (S.2.1 0)), none, some (.int x2), some (.int x3), some (.int x4), some (.int x5), some (.int x6), some (.int x7), none] []) {x2 : Int32} {x3 : Int32} {x4 : Int32} {x5 : Int32} {x6 : Int32} {x7 : Int32} {σ : FS} (hw : mw_tells_118 X39 X61 x2 x3 x4 x5 x6 x7 σ Q) : MG κ S Z 118 σ [some (.ref (S.2.1 0)), none, some (.int x2), some (.int x3), some (.int x4), some (.int x5), some (.int x6), some (.int x7), none] [] := by
  unfold mw_tells_118 at hw
  refine g_iinc_7 118 (x7 + 1) (congrArg _ ic_1) h.1 rfl dX6_tells_118 ?_
  refine g_goto 121 61 h.1 dX6_tells_121 (by decide) ?_
  exact g_le (hX61 _ _ _ _ _ _ _ hw) ⟨rfl, rfl, rfl, rfl, rfl, rfl, rfl, trivial⟩
def mw_tells_103 (X39 : Int32 → Int32 → Int32 → Int32 → Int32 → FS → Prop) (X61 : Int32 → Int32 → Int32 → Int32 → Int32 → Int32 → FS → Prop) (x2 : Int32) (x6 : Int32) (x7 : Int32) (x8 : Int32) (σ : FS) (Q : Int32 → FS → Prop) : Prop :=
  mw_cellOrder x7 σ (fun r17 σ16 => mw_tells_118 X39 X61 x2 x6 r17 x8 x6 x7 σ16 Q)
theorem mt_tells_103 {κ : Cx} {S : Adr} {Z : State → Prop} {Q : Int32 → FS → Prop} (h : MCx κ cX6_tells S 9) (hR : RetI κ S Z cX6_tells Q) {X39 : Int32 → Int32 → Int32 → Int32 → Int32 → FS → Prop} {X61 : Int32 → Int32 → Int32 → Int32 → Int32 → Int32 → FS → Prop} (hX39 : ∀ (x2 : Int32) (x3 : Int32) (x4 : Int32) (x5 : Int32) (x6 : Int32) (σ : FS), X39 x2 x3 x4 x5 x6 σ → MG κ S Z 39 σ [some (.ref (S.2.1 0)), none, some (.int x2), some (.int x3), some (.int x4), some (.int x5), some (.int x6), none, none] []) (hX61 : ∀ (x2 : Int32) (x3 : Int32) (x4 : Int32) (x5 : Int32) (x6 : Int32) (x7 : Int32) (σ : FS), X61 x2 x3 x4 x5 x6 x7 σ → MG κ S Z 61 σ [some (.ref (S.2.1 0)), none, some (.int x2), some (.int x3), some (.int x4), some (.int x5), some (.int x6), some (.int x7), none] []) {x2 : Int32} {x6 : Int32} {x7 : Int32} {x8 : Int32} {σ : FS} (hw : mw_tells_103 X39 X61 x2 x6 x7 x8 σ Q) : MG κ S Z 103 σ [some (.ref (S.2.1 0)), none, some (.int x2), none, none, none, some (.int x6), some (.int x7), some (.int x8)] [] := by
  unfold mw_tells_103 at hw
  refine g_iload_6 103 h.1 dX6_tells_103 ?_
  refine g_istore_3 105 h.1 rfl dX6_tells_105 ?_
  refine g_aload_0 106 h.1 dX6_tells_106 ?_
  refine g_iload_7 107 h.1 dX6_tells_107 ?_
  refine m_callI_1 109 h (mm_cellOrder h.2.2.1 hw) (by decide) q2323 (Nat.le_of_ble_eq_true rfl) dX6_tells_109 (fun r17 σ16 hw => ?_)
  refine g_istore_4 112 h.1 rfl dX6_tells_112 ?_
  refine g_iload_8 114 h.1 dX6_tells_114 ?_
  refine g_istore_5 116 h.1 rfl dX6_tells_116 ?_
  exact g_le (mt_tells_118 h hR hX39 hX61 hw) ⟨rfl, rfl, rfl, rfl, rfl, rfl, rfl, trivial⟩
def mw_tells_61 (X39 : Int32 → Int32 → Int32 → Int32 → Int32 → FS → Prop) (x2 : Int32) (x3 : Int32) (x4 : Int32) (x5 : Int32) (x6 : Int32) (x7 : Int32) (σ : FS) (Q : Int32 → FS → Prop) : Prop :=
  ∀ X61 : Int32 → Int32 → Int32 → Int32 → Int32 → Int32 → FS → Prop, (∀ (x2 : Int32) (x3 : Int32) (x4 : Int32) (x5 : Int32) (x6 : Int32) (x7 : Int32) (σ : FS), mw_cellMany σ (fun r11 σ10 => ((r11 ≤ x7 → X39 x2 x3 x4 x5 (x6 + 1) σ10) ∧ (¬ r11 ≤ x7 → mw_cellOrder x7 σ10 (fun r13 σ12 => mw_mostAlike (((49 : Int32) * x6) + r13) σ12 (fun r15 σ14 => ((x3 = (-1 : Int32) → mw_tells_103 X39 X61 x2 x6 x7 r15 σ14 Q) ∧ (¬ x3 = (-1 : Int32) → ((r15 < x5 → mw_tells_103 X39 X61 x2 x6 x7 r15 σ14 Q) ∧ (¬ r15 < x5 → mw_tells_118 X39 X61 x2 x3 x4 x5 x6 x7 σ14 Q))))))))) → X61 x2 x3 x4 x5 x6 x7 σ) → X61 x2 x3 x4 x5 x6 x7 σ
theorem mt_tells_61 {κ : Cx} {S : Adr} {Z : State → Prop} {Q : Int32 → FS → Prop} (h : MCx κ cX6_tells S 9) (hR : RetI κ S Z cX6_tells Q) {X39 : Int32 → Int32 → Int32 → Int32 → Int32 → FS → Prop} (hX39 : ∀ (x2 : Int32) (x3 : Int32) (x4 : Int32) (x5 : Int32) (x6 : Int32) (σ : FS), X39 x2 x3 x4 x5 x6 σ → MG κ S Z 39 σ [some (.ref (S.2.1 0)), none, some (.int x2), some (.int x3), some (.int x4), some (.int x5), some (.int x6), none, none] []) {x2 : Int32} {x3 : Int32} {x4 : Int32} {x5 : Int32} {x6 : Int32} {x7 : Int32} {σ : FS} (hw : mw_tells_61 X39 x2 x3 x4 x5 x6 x7 σ Q) : MG κ S Z 61 σ [some (.ref (S.2.1 0)), none, some (.int x2), some (.int x3), some (.int x4), some (.int x5), some (.int x6), some (.int x7), none] [] := by
  refine hw (fun x2 x3 x4 x5 x6 x7 σ => MG κ S Z 61 σ [some (.ref (S.2.1 0)), none, some (.int x2), some (.int x3), some (.int x4), some (.int x5), some (.int x6), some (.int x7), none] []) ?_
  clear hw
  intro x2 x3 x4 x5 x6 x7 σ hw
  have hX61 : ∀ (x2 : Int32) (x3 : Int32) (x4 : Int32) (x5 : Int32) (x6 : Int32) (x7 : Int32) (σ : FS), MG κ S Z 61 σ [some (.ref (S.2.1 0)), none, some (.int x2), some (.int x3), some (.int x4), some (.int x5), some (.int x6), some (.int x7), none] [] → MG κ S Z 61 σ [some (.ref (S.2.1 0)), none, some (.int x2), some (.int x3), some (.int x4), some (.int x5), some (.int x6), some (.int x7), none] [] := fun _ _ _ _ _ _ _ hh => hh
  refine g_iload_7 61 h.1 dX6_tells_61 ?_
  refine g_aload_0 63 h.1 dX6_tells_63 ?_
  refine m_callI_0 64 h (mm_cellMany h.2.2.1 hw) (by decide) q2319 (Nat.le_of_ble_eq_true rfl) dX6_tells_64 (fun r11 σ10 hw => ?_)
  refine g_icmp_ge 67 124 h.1 dX6_tells_67 (by decide) (fun c => ?_) (fun c => ?_)
  · have hw := hw.1 c
    refine g_iinc_6 124 (x6 + 1) (congrArg _ ic_1) h.1 rfl dX6_tells_124 ?_
    refine g_goto 127 39 h.1 dX6_tells_127 (by decide) ?_
    exact g_le (hX39 _ _ _ _ _ _ hw) ⟨rfl, rfl, rfl, rfl, rfl, rfl, trivial⟩
  · have hw := hw.2 c
    refine g_aload_0 70 h.1 dX6_tells_70 ?_
    refine g_bipush 71 _ bp_49 h.1 dX6_tells_71 ?_
    refine g_iload_6 73 h.1 dX6_tells_73 ?_
    refine g_imul 75 h.1 dX6_tells_75 ?_
    refine g_aload_0 76 h.1 dX6_tells_76 ?_
    refine g_iload_7 77 h.1 dX6_tells_77 ?_
    refine m_callI_1 79 h (mm_cellOrder h.2.2.1 hw) (by decide) q2323 (Nat.le_of_ble_eq_true rfl) dX6_tells_79 (fun r13 σ12 hw => ?_)
    refine g_iadd 82 h.1 dX6_tells_82 ?_
    refine m_callI_1 83 h (mm_mostAlike h.2.2.1 hw) (by decide) q2585 (Nat.le_of_ble_eq_true rfl) dX6_tells_83 (fun r15 σ14 hw => ?_)
    refine g_istore_8 86 h.1 rfl dX6_tells_86 ?_
    refine g_iload_3 88 h.1 dX6_tells_88 ?_
    refine g_iconstv 89 _ ic_m1 h.1 dX6_tells_89 ?_
    refine g_icmp_eq 90 103 h.1 dX6_tells_90 (by decide) (fun c => ?_) (fun c => ?_)
    · have hw := hw.1 c
      exact g_le (mt_tells_103 h hR hX39 hX61 hw) ⟨rfl, rfl, rfl, rfl, rfl, trivial⟩
    · have hw := hw.2 c
      refine g_iload_8 93 h.1 dX6_tells_93 ?_
      refine g_iload_5 95 h.1 dX6_tells_95 ?_
      refine g_icmp_lt 97 103 h.1 dX6_tells_97 (by decide) (fun c => ?_) (fun c => ?_)
      · have hw := hw.1 c
        exact g_le (mt_tells_103 h hR hX39 hX61 hw) ⟨rfl, rfl, rfl, rfl, rfl, trivial⟩
      · have hw := hw.2 c
        refine g_goto 100 118 h.1 dX6_tells_100 (by decide) ?_
        exact g_le (mt_tells_118 h hR hX39 hX61 hw) ⟨rfl, rfl, rfl, rfl, rfl, rfl, rfl, trivial⟩
def mw_tells_130 (x2 : Int32) (x3 : Int32) (x4 : Int32) (x5 : Int32) (σ : FS) (Q : Int32 → FS → Prop) : Prop :=
  ((¬ x3 = (-1 : Int32) → ((¬ x2 = 0 → ((¬ x2 = (1 : Int32) → Q x5 σ) ∧ (x2 = (1 : Int32) → mw_numberOf x4 σ (fun r9 σ8 => Q r9 σ8)))) ∧ (x2 = 0 → Q x3 σ))) ∧ (x3 = (-1 : Int32) → Q (-1 : Int32) σ))
theorem mt_tells_130 {κ : Cx} {S : Adr} {Z : State → Prop} {Q : Int32 → FS → Prop} (h : MCx κ cX6_tells S 9) (hR : RetI κ S Z cX6_tells Q) {x2 : Int32} {x3 : Int32} {x4 : Int32} {x5 : Int32} {σ : FS} (hw : mw_tells_130 x2 x3 x4 x5 σ Q) : MG κ S Z 130 σ [none, none, some (.int x2), some (.int x3), some (.int x4), some (.int x5), none, none, none] [] := by
  unfold mw_tells_130 at hw
  refine g_iload_3 130 h.1 dX6_tells_130 ?_
  refine g_iconstv 131 _ ic_m1 h.1 dX6_tells_131 ?_
  refine g_icmp_ne 132 139 h.1 dX6_tells_132 (by decide) (fun c => ?_) (fun c => ?_)
  · have hw := hw.1 c
    refine g_iload_2 139 h.1 dX6_tells_139 ?_
    refine g_if_ne 140 147 h.1 dX6_tells_140 (by decide) (fun c => ?_) (fun c => ?_)
    · have hw := hw.1 c
      refine g_iload_2 147 h.1 dX6_tells_147 ?_
      refine g_iconstv 148 _ ic_1 h.1 dX6_tells_148 ?_
      refine g_icmp_ne 149 160 h.1 dX6_tells_149 (by decide) (fun c => ?_) (fun c => ?_)
      · have hw := hw.1 c
        refine g_iload_5 160 h.1 dX6_tells_160 ?_
        exact hR 162 _ _ _ dX6_tells_162 hw
      · have hw := hw.2 c
        refine g_iload_4 152 h.1 dX6_tells_152 ?_
        refine m_scallI_1 154 h (mm_numberOf h.2.2.1 hw) (by decide) q2537 (Nat.le_of_ble_eq_true rfl) dX6_tells_154 (fun r9 σ8 hw => ?_)
        refine g_goto 157 162 h.1 dX6_tells_157 (by decide) ?_
        exact hR 162 _ _ _ dX6_tells_162 hw
    · have hw := hw.2 c
      refine g_iload_3 143 h.1 dX6_tells_143 ?_
      refine g_goto 144 162 h.1 dX6_tells_144 (by decide) ?_
      exact hR 162 _ _ _ dX6_tells_162 hw
  · have hw := hw.2 c
    refine g_iconstv 135 _ ic_m1 h.1 dX6_tells_135 ?_
    refine g_goto 136 162 h.1 dX6_tells_136 (by decide) ?_
    exact hR 162 _ _ _ dX6_tells_162 hw
def mw_tells_39 (x2 : Int32) (x3 : Int32) (x4 : Int32) (x5 : Int32) (x6 : Int32) (σ : FS) (Q : Int32 → FS → Prop) : Prop :=
  ∀ X39 : Int32 → Int32 → Int32 → Int32 → Int32 → FS → Prop, (∀ (x2 : Int32) (x3 : Int32) (x4 : Int32) (x5 : Int32) (x6 : Int32) (σ : FS), (((fI σ 0 74) = 0 → mw_tells_130 x2 x3 x4 x5 σ Q) ∧ (¬ (fI σ 0 74) = 0 → mw_isAhead x6 (0 : Int32) (30 : Int32) σ (fun r7 σ6 => ((r7 = 0 → mw_tells_130 x2 x3 x4 x5 σ6 Q) ∧ (¬ r7 = 0 → mw_tells_61 X39 x2 x3 x4 x5 x6 (0 : Int32) σ6 Q))))) → X39 x2 x3 x4 x5 x6 σ) → X39 x2 x3 x4 x5 x6 σ
theorem mt_tells_39 {κ : Cx} {S : Adr} {Z : State → Prop} {Q : Int32 → FS → Prop} (h : MCx κ cX6_tells S 9) (hR : RetI κ S Z cX6_tells Q) {x2 : Int32} {x3 : Int32} {x4 : Int32} {x5 : Int32} {x6 : Int32} {σ : FS} (hw : mw_tells_39 x2 x3 x4 x5 x6 σ Q) : MG κ S Z 39 σ [some (.ref (S.2.1 0)), none, some (.int x2), some (.int x3), some (.int x4), some (.int x5), some (.int x6), none, none] [] := by
  refine hw (fun x2 x3 x4 x5 x6 σ => MG κ S Z 39 σ [some (.ref (S.2.1 0)), none, some (.int x2), some (.int x3), some (.int x4), some (.int x5), some (.int x6), none, none] []) ?_
  clear hw
  intro x2 x3 x4 x5 x6 σ hw
  have hX39 : ∀ (x2 : Int32) (x3 : Int32) (x4 : Int32) (x5 : Int32) (x6 : Int32) (σ : FS), MG κ S Z 39 σ [some (.ref (S.2.1 0)), none, some (.int x2), some (.int x3), some (.int x4), some (.int x5), some (.int x6), none, none] [] → MG κ S Z 39 σ [some (.ref (S.2.1 0)), none, some (.int x2), some (.int x3), some (.int x4), some (.int x5), some (.int x6), none, none] [] := fun _ _ _ _ _ _ hh => hh
  refine g_aload_0 39 h.1 dX6_tells_39 ?_
  refine mg_74 40 h dX6_tells_40 ?_
  refine g_if_eq 43 130 h.1 dX6_tells_43 (by decide) (fun c => ?_) (fun c => ?_)
  · have hw := hw.1 c
    exact g_le (mt_tells_130 h hR hw) ⟨rfl, rfl, rfl, rfl, trivial⟩
  · have hw := hw.2 c
    refine g_aload_0 46 h.1 dX6_tells_46 ?_
    refine g_iload_6 47 h.1 dX6_tells_47 ?_
    refine g_iconstv 49 _ ic_0 h.1 dX6_tells_49 ?_
    refine g_bipush 50 _ bp_30 h.1 dX6_tells_50 ?_
    refine m_callI_3 52 h (mm_isAhead h.2.2.1 hw) (by decide) q2416 (Nat.le_of_ble_eq_true rfl) dX6_tells_52 (fun r7 σ6 hw => ?_)
    refine g_if_eq 55 130 h.1 dX6_tells_55 (by decide) (fun c => ?_) (fun c => ?_)
    · have hw := hw.1 c
      exact g_le (mt_tells_130 h hR hw) ⟨rfl, rfl, rfl, rfl, trivial⟩
    · have hw := hw.2 c
      refine g_iconstv 58 _ ic_0 h.1 dX6_tells_58 ?_
      refine g_istore_7 59 h.1 rfl dX6_tells_59 ?_
      exact g_le (mt_tells_61 h hR hX39 hw) ⟨rfl, rfl, rfl, rfl, rfl, rfl, rfl, trivial⟩
def mw_tells (x1 : Int32) (x2 : Int32) (σ : FS) (Q : Int32 → FS → Prop) : Prop :=
  mw_isTopic (Int32.toInt64 x1) σ (fun r2 σ1 => ((r2 = 0 → Q (-1 : Int32) σ1) ∧ (¬ r2 = 0 → mw_isIn (Int32.toInt64 x2) (0 : Int64) (2 : Int64) σ1 (fun r4 σ3 => ((¬ r4 = 0 → mw_laysWho x1 σ3 (fun σ5 => mw_tells_39 x2 (-1 : Int32) (-1 : Int32) (0 : Int32) (0 : Int32) σ5 Q)) ∧ (r4 = 0 → Q (-1 : Int32) σ3))))))
theorem mt_tells {κ : Cx} {S : Adr} {Z : State → Prop} {Q : Int32 → FS → Prop} (h : MCx κ cX6_tells S 9) (hR : RetI κ S Z cX6_tells Q) {x1 : Int32} {x2 : Int32} {σ : FS} (hw : mw_tells x1 x2 σ Q) : MG κ S Z 0 σ [some (.ref (S.2.1 0)), some (.int x1), some (.int x2), none, none, none, none, none, none] [] := by
  unfold mw_tells at hw
  refine g_aload_0 0 h.1 dX6_tells_0 ?_
  refine g_iload_1 1 h.1 dX6_tells_1 ?_
  refine g_i2l 2 h.1 dX6_tells_2 ?_
  refine m_callI_1 3 h (mm_isTopic h.2.2.1 hw) (by decide) q2372 (Nat.le_of_ble_eq_true rfl) dX6_tells_3 (fun r2 σ1 hw => ?_)
  refine g_if_eq 6 21 h.1 dX6_tells_6 (by decide) (fun c => ?_) (fun c => ?_)
  · have hw := hw.1 c
    refine g_iconstv 21 _ ic_m1 h.1 dX6_tells_21 ?_
    exact hR 22 _ _ _ dX6_tells_22 hw
  · have hw := hw.2 c
    refine g_iload_2 9 h.1 dX6_tells_9 ?_
    refine g_i2l 10 h.1 dX6_tells_10 ?_
    refine g_lconst 11 _ lc_0 h.1 dX6_tells_11 ?_
    refine g_ldc2 12 h.1 q2584 dX6_tells_12 ?_
    refine m_scallI_3 15 h (mm_isIn h.2.2.1 hw) (by decide) q2147 (Nat.le_of_ble_eq_true rfl) dX6_tells_15 (fun r4 σ3 hw => ?_)
    refine g_if_ne 18 23 h.1 dX6_tells_18 (by decide) (fun c => ?_) (fun c => ?_)
    · have hw := hw.1 c
      refine g_aload_0 23 h.1 dX6_tells_23 ?_
      refine g_iload_1 24 h.1 dX6_tells_24 ?_
      refine m_callV_1 25 h (mm_laysWho h.2.2.1 hw) (by decide) q2572 (Nat.le_of_ble_eq_true rfl) dX6_tells_25 (fun σ5 hw => ?_)
      refine g_iconstv 28 _ ic_m1 h.1 dX6_tells_28 ?_
      refine g_istore_3 29 h.1 rfl dX6_tells_29 ?_
      refine g_iconstv 30 _ ic_m1 h.1 dX6_tells_30 ?_
      refine g_istore_4 31 h.1 rfl dX6_tells_31 ?_
      refine g_iconstv 33 _ ic_0 h.1 dX6_tells_33 ?_
      refine g_istore_5 34 h.1 rfl dX6_tells_34 ?_
      refine g_iconstv 36 _ ic_0 h.1 dX6_tells_36 ?_
      refine g_istore_6 37 h.1 rfl dX6_tells_37 ?_
      exact g_le (mt_tells_39 h hR hw) ⟨rfl, rfl, rfl, rfl, rfl, rfl, trivial⟩
    · have hw := hw.2 c
      refine g_iconstv 21 _ ic_m1 h.1 dX6_tells_21 ?_
      exact hR 22 _ _ _ dX6_tells_22 hw
theorem mm_tells {l : Launch} {S : Adr} (hD : MD S) {x1 : Int32} {x2 : Int32} {σ : FS} {Q : Int32 → FS → Prop} (hw : mw_tells x1 x2 σ Q) : mMet l S 9 yX6_tells [.int x1, .int x2] σ (mQi S Q) :=
  m_metI hD ⟨rfl, by decide, by show _ = some 2; decide +kernel, q2583⟩ q2581 q2582 (Nat.le_of_ble_eq_true rfl) (fun κ Z h hR => mt_tells h hR hw)
def mw_tired (x1 : Int32) (x2 : Int32) (σ : FS) (Q : Int32 → FS → Prop) : Prop :=
  mw_isPerson x1 σ (fun r2 σ1 => ((r2 = 0 → Q (-1 : Int32) σ1) ∧ (¬ r2 = 0 → mw_isAhead x2 (0 : Int32) (60 : Int32) σ1 (fun r4 σ3 => ((¬ r4 = 0 → mw_putsAside σ3 (fun σ5 => mw_daysGo x2 σ5 (fun σ6 => mw_tiredOf x1 σ6 (fun r8 σ7 => mw_takesBack σ7 (fun σ9 => Q r8 σ9))))) ∧ (r4 = 0 → Q (-1 : Int32) σ3))))))
theorem mt_tired {κ : Cx} {S : Adr} {Z : State → Prop} {Q : Int32 → FS → Prop} (h : MCx κ cX6_tired S 9) (hR : RetI κ S Z cX6_tired Q) {x1 : Int32} {x2 : Int32} {σ : FS} (hw : mw_tired x1 x2 σ Q) : MG κ S Z 0 σ [some (.ref (S.2.1 0)), some (.int x1), some (.int x2), none] [] := by
  unfold mw_tired at hw
  refine g_aload_0 0 h.1 dX6_tired_0 ?_
  refine g_iload_1 1 h.1 dX6_tired_1 ?_
  refine m_callI_1 2 h (mm_isPerson h.2.2.1 hw) (by decide) q2348 (Nat.le_of_ble_eq_true rfl) dX6_tired_2 (fun r2 σ1 hw => ?_)
  refine g_if_eq 5 19 h.1 dX6_tired_5 (by decide) (fun c => ?_) (fun c => ?_)
  · have hw := hw.1 c
    refine g_iconstv 19 _ ic_m1 h.1 dX6_tired_19 ?_
    exact hR 20 _ _ _ dX6_tired_20 hw
  · have hw := hw.2 c
    refine g_aload_0 8 h.1 dX6_tired_8 ?_
    refine g_iload_2 9 h.1 dX6_tired_9 ?_
    refine g_iconstv 10 _ ic_0 h.1 dX6_tired_10 ?_
    refine g_bipush 11 _ bp_60 h.1 dX6_tired_11 ?_
    refine m_callI_3 13 h (mm_isAhead h.2.2.1 hw) (by decide) q2416 (Nat.le_of_ble_eq_true rfl) dX6_tired_13 (fun r4 σ3 hw => ?_)
    refine g_if_ne 16 21 h.1 dX6_tired_16 (by decide) (fun c => ?_) (fun c => ?_)
    · have hw := hw.1 c
      refine g_aload_0 21 h.1 dX6_tired_21 ?_
      refine m_callV_0 22 h (mm_putsAside h.2.2.1 hw) (by decide) q2420 (Nat.le_of_ble_eq_true rfl) dX6_tired_22 (fun σ5 hw => ?_)
      refine g_aload_0 25 h.1 dX6_tired_25 ?_
      refine g_iload_2 26 h.1 dX6_tired_26 ?_
      refine m_callV_1 27 h (mm_daysGo h.2.2.1 hw) (by decide) q2424 (Nat.le_of_ble_eq_true rfl) dX6_tired_27 (fun σ6 hw => ?_)
      refine g_aload_0 30 h.1 dX6_tired_30 ?_
      refine g_iload_1 31 h.1 dX6_tired_31 ?_
      refine m_callI_1 32 h (mm_tiredOf h.2.2.1 hw) (by decide) q2356 (Nat.le_of_ble_eq_true rfl) dX6_tired_32 (fun r8 σ7 hw => ?_)
      refine g_istore_3 35 h.1 rfl dX6_tired_35 ?_
      refine g_aload_0 36 h.1 dX6_tired_36 ?_
      refine m_callV_0 37 h (mm_takesBack h.2.2.1 hw) (by decide) q2456 (Nat.le_of_ble_eq_true rfl) dX6_tired_37 (fun σ9 hw => ?_)
      refine g_iload_3 40 h.1 dX6_tired_40 ?_
      exact hR 41 _ _ _ dX6_tired_41 hw
    · have hw := hw.2 c
      refine g_iconstv 19 _ ic_m1 h.1 dX6_tired_19 ?_
      exact hR 20 _ _ _ dX6_tired_20 hw
theorem mm_tired {l : Launch} {S : Adr} (hD : MD S) {x1 : Int32} {x2 : Int32} {σ : FS} {Q : Int32 → FS → Prop} (hw : mw_tired x1 x2 σ Q) : mMet l S 9 yX6_tired [.int x1, .int x2] σ (mQi S Q) :=
  m_metI hD ⟨rfl, by decide, by show _ = some 2; decide +kernel, q2467⟩ q2465 q2466 (Nat.le_of_ble_eq_true rfl) (fun κ Z h hR => mt_tired h hR hw)
def mw_undo_21 (x1 : Int32) (σ : FS) (Q : Int32 → FS → Prop) : Prop :=
  ∀ X21 : Int32 → FS → Prop, (∀ (x1 : Int32) (σ : FS), (((232 : Int32) ≤ x1 → (∀ σ2, σ2 = sI σ 0 77 ((((fI σ 0 77) + (20 : Int32)) - (1 : Int32)) - (((fI σ 0 77) + (20 : Int32)) - (1 : Int32)) / (20 : Int32) * (20 : Int32)) → (∀ σ3, σ3 = sI σ2 0 76 ((fI σ2 0 76) - (1 : Int32)) → Q (1 : Int32) σ3))) ∧ (¬ (232 : Int32) ≤ x1 → (vp_in (((232 : Int32) * (fI σ 0 77)) + x1) 4640 ∧ (vp_in x1 232 ∧ ∀ σ4, σ4 = sA σ 52 (Int32.toNatClampNeg x1) (fA σ 75 (Int32.toNatClampNeg (((232 : Int32) * (fI σ 0 77)) + x1))) → X21 (x1 + 1) σ4)))) → X21 x1 σ) → X21 x1 σ
theorem mt_undo_21 {κ : Cx} {S : Adr} {Z : State → Prop} {Q : Int32 → FS → Prop} (h : MCx κ cX6_undo S 1) (hR : RetZ κ S Z cX6_undo Q) {x1 : Int32} {σ : FS} (hw : mw_undo_21 x1 σ Q) : MG κ S Z 21 σ [some (.ref (S.2.1 0)), some (.int x1)] [] := by
  refine hw (fun x1 σ => MG κ S Z 21 σ [some (.ref (S.2.1 0)), some (.int x1)] []) ?_
  clear hw
  intro x1 σ hw
  have hX21 : ∀ (x1 : Int32) (σ : FS), MG κ S Z 21 σ [some (.ref (S.2.1 0)), some (.int x1)] [] → MG κ S Z 21 σ [some (.ref (S.2.1 0)), some (.int x1)] [] := fun _ _ hh => hh
  refine g_iload_1 21 h.1 dX6_undo_21 ?_
  refine g_sipush 22 _ sp_232 h.1 dX6_undo_22 ?_
  refine g_icmp_ge 25 55 h.1 dX6_undo_25 (by decide) (fun c => ?_) (fun c => ?_)
  · have hw := hw.1 c
    refine g_aload_0 55 h.1 dX6_undo_55 ?_
    refine g_aload_0 56 h.1 dX6_undo_56 ?_
    refine mg_77 57 h dX6_undo_57 ?_
    refine g_bipush 60 _ bp_20 h.1 dX6_undo_60 ?_
    refine g_iadd 62 h.1 dX6_undo_62 ?_
    refine g_iconstv 63 _ ic_1 h.1 dX6_undo_63 ?_
    refine g_isub 64 h.1 dX6_undo_64 ?_
    refine g_bipush 65 _ bp_20 h.1 dX6_undo_65 ?_
    refine g_irem 67 (by decide) h.1 dX6_undo_67 ?_
    refine mp_77 68 h dX6_undo_68 ?_
    have hw := hw _ rfl
    refine g_aload_0 71 h.1 dX6_undo_71 ?_
    refine g_dup 72 rfl h.1 dX6_undo_72 ?_
    refine mg_76 73 h dX6_undo_73 ?_
    refine g_iconstv 76 _ ic_1 h.1 dX6_undo_76 ?_
    refine g_isub 77 h.1 dX6_undo_77 ?_
    refine mp_76 78 h dX6_undo_78 ?_
    have hw := hw _ rfl
    refine g_iconstv 81 _ ic_1 h.1 dX6_undo_81 ?_
    exact hR 82 _ _ _ dX6_undo_82 rfl hw
  · have hw := hw.2 c
    refine g_aload_0 28 h.1 dX6_undo_28 ?_
    refine mg_52 29 h dX6_undo_29 ?_
    refine g_iload_1 32 h.1 dX6_undo_32 ?_
    refine g_aload_0 33 h.1 dX6_undo_33 ?_
    refine mg_75 34 h dX6_undo_34 ?_
    refine g_sipush 37 _ sp_232 h.1 dX6_undo_37 ?_
    refine g_aload_0 40 h.1 dX6_undo_40 ?_
    refine mg_77 41 h dX6_undo_41 ?_
    refine g_imul 44 h.1 dX6_undo_44 ?_
    refine g_iload_1 45 h.1 dX6_undo_45 ?_
    refine g_iadd 46 h.1 dX6_undo_46 ?_
    refine m_iald 47 rfl hw.1 h dX6_undo_47 ?_
    have hw := hw.2
    refine m_iast 48 rfl hw.1 h dX6_undo_48 ?_
    have hw := hw.2 _ rfl
    refine g_iinc_1 49 (x1 + 1) (congrArg _ ic_1) h.1 rfl dX6_undo_49 ?_
    refine g_goto 52 21 h.1 dX6_undo_52 (by decide) ?_
    exact g_le (hX21 _ _ hw) ⟨rfl, rfl, trivial⟩
def mw_undo (σ : FS) (Q : Int32 → FS → Prop) : Prop :=
  ((¬ (fI σ 0 76) = 0 → mw_undo_21 (0 : Int32) σ Q) ∧ ((fI σ 0 76) = 0 → (vp_in (4 : Int32) 6 ∧ (vp_in (4 : Int32) 6 ∧ ∀ σ1, σ1 = sA σ 9 (Int32.toNatClampNeg (4 : Int32)) ((fA σ 9 (Int32.toNatClampNeg (4 : Int32))) + (1 : Int32)) → Q (0 : Int32) σ1))))
theorem mt_undo {κ : Cx} {S : Adr} {Z : State → Prop} {Q : Int32 → FS → Prop} (h : MCx κ cX6_undo S 1) (hR : RetZ κ S Z cX6_undo Q) {σ : FS} (hw : mw_undo σ Q) : MG κ S Z 0 σ [some (.ref (S.2.1 0)), none] [] := by
  unfold mw_undo at hw
  refine g_aload_0 0 h.1 dX6_undo_0 ?_
  refine mg_76 1 h dX6_undo_1 ?_
  refine g_if_ne 4 19 h.1 dX6_undo_4 (by decide) (fun c => ?_) (fun c => ?_)
  · have hw := hw.1 c
    refine g_iconstv 19 _ ic_0 h.1 dX6_undo_19 ?_
    refine g_istore_1 20 h.1 rfl dX6_undo_20 ?_
    exact g_le (mt_undo_21 h hR hw) ⟨rfl, rfl, trivial⟩
  · have hw := hw.2 c
    refine g_aload_0 7 h.1 dX6_undo_7 ?_
    refine mg_9 8 h dX6_undo_8 ?_
    refine g_iconstv 11 _ ic_4 h.1 dX6_undo_11 ?_
    refine g_dup2 12 rfl rfl h.1 dX6_undo_12 ?_
    refine m_iald 13 rfl hw.1 h dX6_undo_13 ?_
    have hw := hw.2
    refine g_iconstv 14 _ ic_1 h.1 dX6_undo_14 ?_
    refine g_iadd 15 h.1 dX6_undo_15 ?_
    refine m_iast 16 rfl hw.1 h dX6_undo_16 ?_
    have hw := hw.2 _ rfl
    refine g_iconstv 17 _ ic_0 h.1 dX6_undo_17 ?_
    exact hR 18 _ _ _ dX6_undo_18 rfl hw
theorem mm_undo {l : Launch} {S : Adr} (hD : MD S) {σ : FS} {Q : Int32 → FS → Prop} (hw : mw_undo σ Q) : mMet l S 1 yX6_undo [] σ (mQi S Q) :=
  m_metZ hD ⟨rfl, by decide, by show _ = some 0; decide +kernel, q2592⟩ q2590 q2591 (Nat.le_of_ble_eq_true rfl) (fun κ Z h hR => mt_undo h hR hw)
def mw_way (x1 : Int32) (x2 : Int32) (σ : FS) (Q : Int32 → FS → Prop) : Prop :=
  mw_cellNumbered x1 σ (fun r2 σ1 => mw_cellNumbered x2 σ1 (fun r4 σ3 => ((r2 = (-1 : Int32) → Q (-1 : Int32) σ3) ∧ (¬ r2 = (-1 : Int32) → ((¬ r4 = (-1 : Int32) → mw_wayCost r2 r4 σ3 (fun r6 σ5 => Q r6 σ5)) ∧ (r4 = (-1 : Int32) → Q (-1 : Int32) σ3))))))
theorem mt_way {κ : Cx} {S : Adr} {Z : State → Prop} {Q : Int32 → FS → Prop} (h : MCx κ cX6_way S 6) (hR : RetI κ S Z cX6_way Q) {x1 : Int32} {x2 : Int32} {σ : FS} (hw : mw_way x1 x2 σ Q) : MG κ S Z 0 σ [some (.ref (S.2.1 0)), some (.int x1), some (.int x2), none, none] [] := by
  unfold mw_way at hw
  refine g_aload_0 0 h.1 dX6_way_0 ?_
  refine g_iload_1 1 h.1 dX6_way_1 ?_
  refine m_callI_1 2 h (mm_cellNumbered h.2.2.1 hw) (by decide) q2476 (Nat.le_of_ble_eq_true rfl) dX6_way_2 (fun r2 σ1 hw => ?_)
  refine g_istore_3 5 h.1 rfl dX6_way_5 ?_
  refine g_aload_0 6 h.1 dX6_way_6 ?_
  refine g_iload_2 7 h.1 dX6_way_7 ?_
  refine m_callI_1 8 h (mm_cellNumbered h.2.2.1 hw) (by decide) q2476 (Nat.le_of_ble_eq_true rfl) dX6_way_8 (fun r4 σ3 hw => ?_)
  refine g_istore_4 11 h.1 rfl dX6_way_11 ?_
  refine g_iload_3 13 h.1 dX6_way_13 ?_
  refine g_iconstv 14 _ ic_m1 h.1 dX6_way_14 ?_
  refine g_icmp_eq 15 24 h.1 dX6_way_15 (by decide) (fun c => ?_) (fun c => ?_)
  · have hw := hw.1 c
    refine g_iconstv 24 _ ic_m1 h.1 dX6_way_24 ?_
    refine g_goto 25 35 h.1 dX6_way_25 (by decide) ?_
    exact hR 35 _ _ _ dX6_way_35 hw
  · have hw := hw.2 c
    refine g_iload_4 18 h.1 dX6_way_18 ?_
    refine g_iconstv 20 _ ic_m1 h.1 dX6_way_20 ?_
    refine g_icmp_ne 21 28 h.1 dX6_way_21 (by decide) (fun c => ?_) (fun c => ?_)
    · have hw := hw.1 c
      refine g_aload_0 28 h.1 dX6_way_28 ?_
      refine g_iload_3 29 h.1 dX6_way_29 ?_
      refine g_iload_4 30 h.1 dX6_way_30 ?_
      refine m_callI_2 32 h (mm_wayCost h.2.2.1 hw) (by decide) q2517 (Nat.le_of_ble_eq_true rfl) dX6_way_32 (fun r6 σ5 hw => ?_)
      exact hR 35 _ _ _ dX6_way_35 hw
    · have hw := hw.2 c
      refine g_iconstv 24 _ ic_m1 h.1 dX6_way_24 ?_
      refine g_goto 25 35 h.1 dX6_way_25 (by decide) ?_
      exact hR 35 _ _ _ dX6_way_35 hw
theorem mm_way {l : Launch} {S : Adr} (hD : MD S) {x1 : Int32} {x2 : Int32} {σ : FS} {Q : Int32 → FS → Prop} (hw : mw_way x1 x2 σ Q) : mMet l S 6 yX6_way [.int x1, .int x2] σ (mQi S Q) :=
  m_metI hD ⟨rfl, by decide, by show _ = some 2; decide +kernel, q2516⟩ q2514 q2515 (Nat.le_of_ble_eq_true rfl) (fun κ Z h hR => mt_way h hR hw)
def mw_who (x1 : Int32) (σ : FS) (Q : Int32 → FS → Prop) : Prop :=
  mw_isTopic (Int32.toInt64 x1) σ (fun r2 σ1 => ((¬ r2 = 0 → mw_laysWho x1 σ1 (fun σ3 => Q (fI σ3 0 74) σ3)) ∧ (r2 = 0 → Q (-1 : Int32) σ1)))
theorem mt_who {κ : Cx} {S : Adr} {Z : State → Prop} {Q : Int32 → FS → Prop} (h : MCx κ cX6_who S 9) (hR : RetI κ S Z cX6_who Q) {x1 : Int32} {σ : FS} (hw : mw_who x1 σ Q) : MG κ S Z 0 σ [some (.ref (S.2.1 0)), some (.int x1)] [] := by
  unfold mw_who at hw
  refine g_aload_0 0 h.1 dX6_who_0 ?_
  refine g_iload_1 1 h.1 dX6_who_1 ?_
  refine g_i2l 2 h.1 dX6_who_2 ?_
  refine m_callI_1 3 h (mm_isTopic h.2.2.1 hw) (by decide) q2372 (Nat.le_of_ble_eq_true rfl) dX6_who_3 (fun r2 σ1 hw => ?_)
  refine g_if_ne 6 11 h.1 dX6_who_6 (by decide) (fun c => ?_) (fun c => ?_)
  · have hw := hw.1 c
    refine g_aload_0 11 h.1 dX6_who_11 ?_
    refine g_iload_1 12 h.1 dX6_who_12 ?_
    refine m_callV_1 13 h (mm_laysWho h.2.2.1 hw) (by decide) q2572 (Nat.le_of_ble_eq_true rfl) dX6_who_13 (fun σ3 hw => ?_)
    refine g_aload_0 16 h.1 dX6_who_16 ?_
    refine mg_74 17 h dX6_who_17 ?_
    exact hR 20 _ _ _ dX6_who_20 hw
  · have hw := hw.2 c
    refine g_iconstv 9 _ ic_m1 h.1 dX6_who_9 ?_
    exact hR 10 _ _ _ dX6_who_10 hw
theorem mm_who {l : Launch} {S : Adr} (hD : MD S) {x1 : Int32} {σ : FS} {Q : Int32 → FS → Prop} (hw : mw_who x1 σ Q) : mMet l S 9 yX6_who [.int x1] σ (mQi S Q) :=
  m_metI hD ⟨rfl, by decide, by show _ = some 1; decide +kernel, q2571⟩ q2569 q2570 (Nat.le_of_ble_eq_true rfl) (fun κ Z h hR => mt_who h hR hw)
def mw_would (x1 : Int32) (x2 : Int32) (σ : FS) (Q : Int32 → FS → Prop) : Prop :=
  mw_isPerson x1 σ (fun r2 σ1 => ((r2 = 0 → Q (-1 : Int32) σ1) ∧ (¬ r2 = 0 → mw_isTopic (Int32.toInt64 x2) σ1 (fun r4 σ3 => ((r4 = 0 → Q (-1 : Int32) σ3) ∧ (¬ r4 = 0 → mw_wouldDo x1 x2 σ3 (fun r6 σ5 => Q r6 σ5)))))))
theorem mt_would {κ : Cx} {S : Adr} {Z : State → Prop} {Q : Int32 → FS → Prop} (h : MCx κ cX6_would S 5) (hR : RetI κ S Z cX6_would Q) {x1 : Int32} {x2 : Int32} {σ : FS} (hw : mw_would x1 x2 σ Q) : MG κ S Z 0 σ [some (.ref (S.2.1 0)), some (.int x1), some (.int x2)] [] := by
  unfold mw_would at hw
  refine g_aload_0 0 h.1 dX6_would_0 ?_
  refine g_iload_1 1 h.1 dX6_would_1 ?_
  refine m_callI_1 2 h (mm_isPerson h.2.2.1 hw) (by decide) q2348 (Nat.le_of_ble_eq_true rfl) dX6_would_2 (fun r2 σ1 hw => ?_)
  refine g_if_eq 5 26 h.1 dX6_would_5 (by decide) (fun c => ?_) (fun c => ?_)
  · have hw := hw.1 c
    refine g_iconstv 26 _ ic_m1 h.1 dX6_would_26 ?_
    exact hR 27 _ _ _ dX6_would_27 hw
  · have hw := hw.2 c
    refine g_aload_0 8 h.1 dX6_would_8 ?_
    refine g_iload_2 9 h.1 dX6_would_9 ?_
    refine g_i2l 10 h.1 dX6_would_10 ?_
    refine m_callI_1 11 h (mm_isTopic h.2.2.1 hw) (by decide) q2372 (Nat.le_of_ble_eq_true rfl) dX6_would_11 (fun r4 σ3 hw => ?_)
    refine g_if_eq 14 26 h.1 dX6_would_14 (by decide) (fun c => ?_) (fun c => ?_)
    · have hw := hw.1 c
      refine g_iconstv 26 _ ic_m1 h.1 dX6_would_26 ?_
      exact hR 27 _ _ _ dX6_would_27 hw
    · have hw := hw.2 c
      refine g_aload_0 17 h.1 dX6_would_17 ?_
      refine g_iload_1 18 h.1 dX6_would_18 ?_
      refine g_iload_2 19 h.1 dX6_would_19 ?_
      refine m_callI_2 20 h (mm_wouldDo h.2.2.1 hw) (by decide) q2376 (Nat.le_of_ble_eq_true rfl) dX6_would_20 (fun r6 σ5 hw => ?_)
      refine g_goto 23 27 h.1 dX6_would_23 (by decide) ?_
      exact hR 27 _ _ _ dX6_would_27 hw
theorem mm_would {l : Launch} {S : Adr} (hD : MD S) {x1 : Int32} {x2 : Int32} {σ : FS} {Q : Int32 → FS → Prop} (hw : mw_would x1 x2 σ Q) : mMet l S 5 yX6_would [.int x1, .int x2] σ (mQi S Q) :=
  m_metI hD ⟨rfl, by decide, by show _ = some 2; decide +kernel, q2371⟩ q2369 q2370 (Nat.le_of_ble_eq_true rfl) (fun κ Z h hR => mt_would h hR hw)
