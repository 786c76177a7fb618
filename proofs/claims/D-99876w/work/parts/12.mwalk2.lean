/-! THE REFERENCE, walked: for each cut point of each method its predicate and its walk (written by gen_w.py) -/
def mw_listMany (σ : FS) (Q : Int32 → FS → Prop) : Prop :=
  (vp_in (5 : Int32) 6 ∧ Q (fA σ 40 (Int32.toNatClampNeg (5 : Int32))) σ)
theorem mt_listMany {κ : Cx} {S : Adr} {Z : State → Prop} {Q : Int32 → FS → Prop} (h : MCx κ cX6_listMany S 1) (hR : RetI κ S Z cX6_listMany Q) {σ : FS} (hw : mw_listMany σ Q) : MG κ S Z 0 σ [some (.ref (S.2.1 0))] [] := by
  unfold mw_listMany at hw
  refine g_aload_0 0 h.1 dX6_listMany_0 ?_
  refine mg_40 1 h dX6_listMany_1 ?_
  refine g_iconstv 4 _ ic_5 h.1 dX6_listMany_4 ?_
  refine m_iald 5 rfl hw.1 h dX6_listMany_5 ?_
  have hw := hw.2
  exact hR 6 _ _ _ dX6_listMany_6 hw
theorem mm_listMany {l : Launch} {S : Adr} (hD : MD S) {σ : FS} {Q : Int32 → FS → Prop} (hw : mw_listMany σ Q) : mMet l S 1 yX6_listMany [] σ (mQi S Q) :=
  m_metI hD ⟨rfl, by decide, by show _ = some 0; decide +kernel, q2314⟩ q2313 qs111 (Nat.le_of_ble_eq_true rfl) (fun κ Z h hR => mt_listMany h hR hw)
def mw_dayGoes_42 (σ : FS) (Q : FS → Prop) : Prop :=
  (vp_in (0 : Int32) 232 ∧ (vp_in (0 : Int32) 232 ∧ ∀ σ5, σ5 = sA σ 52 (Int32.toNatClampNeg (0 : Int32)) ((fA σ 52 (Int32.toNatClampNeg (0 : Int32))) + (1 : Int32)) → Q σ5))
theorem mt_dayGoes_42 {κ : Cx} {S : Adr} {Z : State → Prop} {Q : FS → Prop} (h : MCx κ cX6_dayGoes S 7) (hR : RetV κ S Z cX6_dayGoes Q) {σ : FS} (hw : mw_dayGoes_42 σ Q) : MG κ S Z 42 σ [some (.ref (S.2.1 0)), none, none] [] := by
  unfold mw_dayGoes_42 at hw
  refine g_aload_0 42 h.1 dX6_dayGoes_42 ?_
  refine mg_52 43 h dX6_dayGoes_43 ?_
  refine g_iconstv 46 _ ic_0 h.1 dX6_dayGoes_46 ?_
  refine g_dup2 47 rfl rfl h.1 dX6_dayGoes_47 ?_
  refine m_iald 48 rfl hw.1 h dX6_dayGoes_48 ?_
  have hw := hw.2
  refine g_iconstv 49 _ ic_1 h.1 dX6_dayGoes_49 ?_
  refine g_iadd 50 h.1 dX6_dayGoes_50 ?_
  refine m_iast 51 rfl hw.1 h dX6_dayGoes_51 ?_
  have hw := hw.2 _ rfl
  exact hR 52 _ _ dX6_dayGoes_52 hw
def mw_dayGoes (σ : FS) (Q : FS → Prop) : Prop :=
  mw_listMany σ (fun r2 σ1 => ((r2 ≤ 0 → mw_dayGoes_42 σ1 Q) ∧ (¬ r2 ≤ 0 → (vp_in (0 : Int32) 232 ∧ (¬ r2 = 0 ∧ (vp_in ((24 : Int32) + ((2 : Int32) * ((fA σ1 52 (Int32.toNatClampNeg (0 : Int32))) - (fA σ1 52 (Int32.toNatClampNeg (0 : Int32))) / r2 * r2))) 48 ∧ (vp_in (((24 : Int32) + ((2 : Int32) * ((fA σ1 52 (Int32.toNatClampNeg (0 : Int32))) - (fA σ1 52 (Int32.toNatClampNeg (0 : Int32))) / r2 * r2))) + (1 : Int32)) 48 ∧ mw_isAsked (fA σ1 44 (Int32.toNatClampNeg ((24 : Int32) + ((2 : Int32) * ((fA σ1 52 (Int32.toNatClampNeg (0 : Int32))) - (fA σ1 52 (Int32.toNatClampNeg (0 : Int32))) / r2 * r2))))) (fA σ1 44 (Int32.toNatClampNeg (((24 : Int32) + ((2 : Int32) * ((fA σ1 52 (Int32.toNatClampNeg (0 : Int32))) - (fA σ1 52 (Int32.toNatClampNeg (0 : Int32))) / r2 * r2))) + (1 : Int32)))) σ1 (fun r4 σ3 => mw_dayGoes_42 σ3 Q))))))))
theorem mt_dayGoes {κ : Cx} {S : Adr} {Z : State → Prop} {Q : FS → Prop} (h : MCx κ cX6_dayGoes S 7) (hR : RetV κ S Z cX6_dayGoes Q) {σ : FS} (hw : mw_dayGoes σ Q) : MG κ S Z 0 σ [some (.ref (S.2.1 0)), none, none] [] := by
  unfold mw_dayGoes at hw
  refine g_aload_0 0 h.1 dX6_dayGoes_0 ?_
  refine m_callI_0 1 h (mm_listMany h.2.2.1 hw) (by decide) q2311 (Nat.le_of_ble_eq_true rfl) dX6_dayGoes_1 (fun r2 σ1 hw => ?_)
  refine g_istore_1 4 h.1 rfl dX6_dayGoes_4 ?_
  refine g_iload_1 5 h.1 dX6_dayGoes_5 ?_
  refine g_if_le 6 42 h.1 dX6_dayGoes_6 (by decide) (fun c => ?_) (fun c => ?_)
  · have hw := hw.1 c
    exact g_le (mt_dayGoes_42 h hR hw) ⟨rfl, trivial⟩
  · have hw := hw.2 c
    refine g_bipush 9 _ bp_24 h.1 dX6_dayGoes_9 ?_
    refine g_iconstv 11 _ ic_2 h.1 dX6_dayGoes_11 ?_
    refine g_aload_0 12 h.1 dX6_dayGoes_12 ?_
    refine mg_52 13 h dX6_dayGoes_13 ?_
    refine g_iconstv 16 _ ic_0 h.1 dX6_dayGoes_16 ?_
    refine m_iald 17 rfl hw.1 h dX6_dayGoes_17 ?_
    have hw := hw.2
    refine g_iload_1 18 h.1 dX6_dayGoes_18 ?_
    refine g_irem 19 hw.1 h.1 dX6_dayGoes_19 ?_
    have hw := hw.2
    refine g_imul 20 h.1 dX6_dayGoes_20 ?_
    refine g_iadd 21 h.1 dX6_dayGoes_21 ?_
    refine g_istore_2 22 h.1 rfl dX6_dayGoes_22 ?_
    refine g_aload_0 23 h.1 dX6_dayGoes_23 ?_
    refine g_aload_0 24 h.1 dX6_dayGoes_24 ?_
    refine mg_44 25 h dX6_dayGoes_25 ?_
    refine g_iload_2 28 h.1 dX6_dayGoes_28 ?_
    refine m_iald 29 rfl hw.1 h dX6_dayGoes_29 ?_
    have hw := hw.2
    refine g_aload_0 30 h.1 dX6_dayGoes_30 ?_
    refine mg_44 31 h dX6_dayGoes_31 ?_
    refine g_iload_2 34 h.1 dX6_dayGoes_34 ?_
    refine g_iconstv 35 _ ic_1 h.1 dX6_dayGoes_35 ?_
    refine g_iadd 36 h.1 dX6_dayGoes_36 ?_
    refine m_iald 37 rfl hw.1 h dX6_dayGoes_37 ?_
    have hw := hw.2
    refine m_callI_2 38 h (mm_isAsked h.2.2.1 hw) (by decide) q2432 (Nat.le_of_ble_eq_true rfl) dX6_dayGoes_38 (fun r4 σ3 hw => ?_)
    refine g_pop 41 rfl h.1 dX6_dayGoes_41 ?_
    exact g_le (mt_dayGoes_42 h hR hw) ⟨rfl, trivial⟩
theorem mm_dayGoes {l : Launch} {S : Adr} (hD : MD S) {σ : FS} {Q : FS → Prop} (hw : mw_dayGoes σ Q) : mMet l S 7 yX6_dayGoes [] σ (mQv S Q) :=
  m_metV hD ⟨rfl, by decide, by show _ = some 0; decide +kernel, q2431⟩ q2430 qs130 (Nat.le_of_ble_eq_true rfl) (fun κ Z h hR => mt_dayGoes h hR hw)
def mw_drawOf (x1 : Int32) (σ : FS) (Q : Int32 → FS → Prop) : Prop :=
  (∀ σ1, σ1 = sL σ 0 78 ((((1103515245 : Int64) * (fL σ 0 78)) + (12345 : Int64)) - (((1103515245 : Int64) * (fL σ 0 78)) + (12345 : Int64)) / (2147483648 : Int64) * (2147483648 : Int64)) → (¬ (Int32.toInt64 x1) = 0 ∧ Q (Int64.toInt32 (((fL σ1 0 78) / (64 : Int64)) - ((fL σ1 0 78) / (64 : Int64)) / (Int32.toInt64 x1) * (Int32.toInt64 x1))) σ1))
theorem mt_drawOf {κ : Cx} {S : Adr} {Z : State → Prop} {Q : Int32 → FS → Prop} (h : MCx κ cX6_drawOf S 1) (hR : RetI κ S Z cX6_drawOf Q) {x1 : Int32} {σ : FS} (hw : mw_drawOf x1 σ Q) : MG κ S Z 0 σ [some (.ref (S.2.1 0)), some (.int x1)] [] := by
  unfold mw_drawOf at hw
  refine g_aload_0 0 h.1 dX6_drawOf_0 ?_
  refine g_ldc2 1 h.1 q2637 dX6_drawOf_1 ?_
  refine g_aload_0 4 h.1 dX6_drawOf_4 ?_
  refine mg_78 5 h dX6_drawOf_5 ?_
  refine g_lmul 8 h.1 dX6_drawOf_8 ?_
  refine g_ldc2 9 h.1 q2638 dX6_drawOf_9 ?_
  refine g_ladd 12 h.1 dX6_drawOf_12 ?_
  refine g_ldc2 13 h.1 q2639 dX6_drawOf_13 ?_
  refine g_lrem 16 (by decide) h.1 dX6_drawOf_16 ?_
  refine mp_78 17 h dX6_drawOf_17 ?_
  have hw := hw _ rfl
  refine g_aload_0 20 h.1 dX6_drawOf_20 ?_
  refine mg_78 21 h dX6_drawOf_21 ?_
  refine g_ldc2 24 h.1 q2640 dX6_drawOf_24 ?_
  refine g_ldiv 27 (by decide) h.1 dX6_drawOf_27 ?_
  refine g_iload_1 28 h.1 dX6_drawOf_28 ?_
  refine g_i2l 29 h.1 dX6_drawOf_29 ?_
  refine g_lrem 30 hw.1 h.1 dX6_drawOf_30 ?_
  have hw := hw.2
  refine g_l2i 31 h.1 dX6_drawOf_31 ?_
  exact hR 32 _ _ _ dX6_drawOf_32 hw
theorem mm_drawOf {l : Launch} {S : Adr} (hD : MD S) {x1 : Int32} {σ : FS} {Q : Int32 → FS → Prop} (hw : mw_drawOf x1 σ Q) : mMet l S 1 yX6_drawOf [.int x1] σ (mQi S Q) :=
  m_metI hD ⟨rfl, by decide, by show _ = some 1; decide +kernel, q2636⟩ q2635 qs161 (Nat.le_of_ble_eq_true rfl) (fun κ Z h hR => mt_drawOf h hR hw)
def mw_isAhead (x1 : Int32) (x2 : Int32) (x3 : Int32) (σ : FS) (Q : Int32 → FS → Prop) : Prop :=
  (((fI σ 0 50) = 0 → Q (0 : Int32) σ) ∧ (¬ (fI σ 0 50) = 0 → mw_isIn (Int32.toInt64 x1) (Int32.toInt64 x2) (Int32.toInt64 x3) σ (fun r2 σ1 => ((r2 = 0 → Q (0 : Int32) σ1) ∧ (¬ r2 = 0 → (vp_in (0 : Int32) 232 ∧ (((999 : Int32) < ((fA σ1 52 (Int32.toNatClampNeg (0 : Int32))) + x1) → Q (0 : Int32) σ1) ∧ (¬ (999 : Int32) < ((fA σ1 52 (Int32.toNatClampNeg (0 : Int32))) + x1) → Q (1 : Int32) σ1))))))))
theorem mt_isAhead {κ : Cx} {S : Adr} {Z : State → Prop} {Q : Int32 → FS → Prop} (h : MCx κ cX6_isAhead S 2) (hR : RetZ κ S Z cX6_isAhead Q) {x1 : Int32} {x2 : Int32} {x3 : Int32} {σ : FS} (hw : mw_isAhead x1 x2 x3 σ Q) : MG κ S Z 0 σ [some (.ref (S.2.1 0)), some (.int x1), some (.int x2), some (.int x3)] [] := by
  unfold mw_isAhead at hw
  refine g_aload_0 0 h.1 dX6_isAhead_0 ?_
  refine mg_50 1 h dX6_isAhead_1 ?_
  refine g_if_eq 4 37 h.1 dX6_isAhead_4 (by decide) (fun c => ?_) (fun c => ?_)
  · have hw := hw.1 c
    refine g_iconstv 37 _ ic_0 h.1 dX6_isAhead_37 ?_
    exact hR 38 _ _ _ dX6_isAhead_38 rfl hw
  · have hw := hw.2 c
    refine g_iload_1 7 h.1 dX6_isAhead_7 ?_
    refine g_i2l 8 h.1 dX6_isAhead_8 ?_
    refine g_iload_2 9 h.1 dX6_isAhead_9 ?_
    refine g_i2l 10 h.1 dX6_isAhead_10 ?_
    refine g_iload_3 11 h.1 dX6_isAhead_11 ?_
    refine g_i2l 12 h.1 dX6_isAhead_12 ?_
    refine m_scallI_3 13 h (mm_isIn h.2.2.1 hw) (by decide) q2147 (Nat.le_of_ble_eq_true rfl) dX6_isAhead_13 (fun r2 σ1 hw => ?_)
    refine g_if_eq 16 37 h.1 dX6_isAhead_16 (by decide) (fun c => ?_) (fun c => ?_)
    · have hw := hw.1 c
      refine g_iconstv 37 _ ic_0 h.1 dX6_isAhead_37 ?_
      exact hR 38 _ _ _ dX6_isAhead_38 rfl hw
    · have hw := hw.2 c
      refine g_aload_0 19 h.1 dX6_isAhead_19 ?_
      refine mg_52 20 h dX6_isAhead_20 ?_
      refine g_iconstv 23 _ ic_0 h.1 dX6_isAhead_23 ?_
      refine m_iald 24 rfl hw.1 h dX6_isAhead_24 ?_
      have hw := hw.2
      refine g_iload_1 25 h.1 dX6_isAhead_25 ?_
      refine g_iadd 26 h.1 dX6_isAhead_26 ?_
      refine g_sipush 27 _ sp_999 h.1 dX6_isAhead_27 ?_
      refine g_icmp_gt 30 37 h.1 dX6_isAhead_30 (by decide) (fun c => ?_) (fun c => ?_)
      · have hw := hw.1 c
        refine g_iconstv 37 _ ic_0 h.1 dX6_isAhead_37 ?_
        exact hR 38 _ _ _ dX6_isAhead_38 rfl hw
      · have hw := hw.2 c
        refine g_iconstv 33 _ ic_1 h.1 dX6_isAhead_33 ?_
        refine g_goto 34 38 h.1 dX6_isAhead_34 (by decide) ?_
        exact hR 38 _ _ _ dX6_isAhead_38 rfl hw
theorem mm_isAhead {l : Launch} {S : Adr} (hD : MD S) {x1 : Int32} {x2 : Int32} {x3 : Int32} {σ : FS} {Q : Int32 → FS → Prop} (hw : mw_isAhead x1 x2 x3 σ Q) : mMet l S 2 yX6_isAhead [.int x1, .int x2, .int x3] σ (mQi S Q) :=
  m_metZ hD ⟨rfl, by decide, by show _ = some 3; decide +kernel, q2419⟩ q2418 qs127 (Nat.le_of_ble_eq_true rfl) (fun κ Z h hR => mt_isAhead h hR hw)
def mw_chance_90 (X25 : Int32 → Int32 → Int32 → FS → Prop) (x1 : Int32) (x2 : Int32) (x3 : Int32) (σ : FS) (Q : Int32 → FS → Prop) : Prop :=
  mw_dayGoes σ (fun σ22 => X25 x1 x2 (x3 + 1) σ22)
theorem mt_chance_90 {κ : Cx} {S : Adr} {Z : State → Prop} {Q : Int32 → FS → Prop} (h : MCx κ cX6_chance S 8) (hR : RetI κ S Z cX6_chance Q) {X25 : Int32 → Int32 → Int32 → FS → Prop} (hX25 : ∀ (x1 : Int32) (x2 : Int32) (x3 : Int32) (σ : FS), X25 x1 x2 x3 σ → MG κ S Z 25 σ [some (.ref (S.2.1 0)), some (.int x1), some (.int x2), some (.int x3), none] []) {x1 : Int32} {x2 : Int32} {x3 : Int32} {σ : FS} (hw : mw_chance_90 X25 x1 x2 x3 σ Q) : MG κ S Z 90 σ [some (.ref (S.2.1 0)), some (.int x1), some (.int x2), some (.int x3), none] [] := by
  unfold mw_chance_90 at hw
  refine g_aload_0 90 h.1 dX6_chance_90 ?_
  refine m_callV_0 91 h (mm_dayGoes h.2.2.1 hw) (by decide) q2428 (Nat.le_of_ble_eq_true rfl) dX6_chance_91 (fun σ22 hw => ?_)
  refine g_iinc_3 94 (x3 + 1) (congrArg _ ic_1) h.1 rfl dX6_chance_94 ?_
  refine g_goto 97 25 h.1 dX6_chance_97 (by decide) ?_
  exact g_le (hX25 _ _ _ _ hw) ⟨rfl, rfl, rfl, rfl, trivial⟩
def mw_chance_25 (x1 : Int32) (x2 : Int32) (x3 : Int32) (σ : FS) (Q : Int32 → FS → Prop) : Prop :=
  ∀ X25 : Int32 → Int32 → Int32 → FS → Prop, (∀ (x1 : Int32) (x2 : Int32) (x3 : Int32) (σ : FS), ((x1 ≤ x3 → Q x2 σ) ∧ (¬ x1 ≤ x3 → mw_drawOf (100 : Int32) σ (fun r7 σ6 => (vp_in (5 : Int32) 6 ∧ (((fA σ6 39 (Int32.toNatClampNeg (5 : Int32))) ≤ r7 → mw_chance_90 X25 x1 x2 x3 σ6 Q) ∧ (¬ (fA σ6 39 (Int32.toNatClampNeg (5 : Int32))) ≤ r7 → mw_personMany σ6 (fun r9 σ8 => ((r9 ≤ 0 → mw_chance_90 X25 x1 x2 x3 σ8 Q) ∧ (¬ r9 ≤ 0 → mw_topicMany σ8 (fun r11 σ10 => ((r11 ≤ 0 → mw_chance_90 X25 x1 x2 x3 σ10 Q) ∧ (¬ r11 ≤ 0 → mw_personMany σ10 (fun r13 σ12 => mw_drawOf r13 σ12 (fun r15 σ14 => mw_topicMany σ14 (fun r17 σ16 => mw_drawOf r17 σ16 (fun r19 σ18 => mw_isAsked r15 r19 σ18 (fun r21 σ20 => ((¬ r21 = (2 : Int32) → mw_chance_90 X25 x1 x2 x3 σ20 Q) ∧ (r21 = (2 : Int32) → mw_chance_90 X25 x1 (x2 + 1) x3 σ20 Q))))))))))))))))))) → X25 x1 x2 x3 σ) → X25 x1 x2 x3 σ
theorem mt_chance_25 {κ : Cx} {S : Adr} {Z : State → Prop} {Q : Int32 → FS → Prop} (h : MCx κ cX6_chance S 8) (hR : RetI κ S Z cX6_chance Q) {x1 : Int32} {x2 : Int32} {x3 : Int32} {σ : FS} (hw : mw_chance_25 x1 x2 x3 σ Q) : MG κ S Z 25 σ [some (.ref (S.2.1 0)), some (.int x1), some (.int x2), some (.int x3), none] [] := by
  refine hw (fun x1 x2 x3 σ => MG κ S Z 25 σ [some (.ref (S.2.1 0)), some (.int x1), some (.int x2), some (.int x3), none] []) ?_
  clear hw
  intro x1 x2 x3 σ hw
  have hX25 : ∀ (x1 : Int32) (x2 : Int32) (x3 : Int32) (σ : FS), MG κ S Z 25 σ [some (.ref (S.2.1 0)), some (.int x1), some (.int x2), some (.int x3), none] [] → MG κ S Z 25 σ [some (.ref (S.2.1 0)), some (.int x1), some (.int x2), some (.int x3), none] [] := fun _ _ _ _ hh => hh
  refine g_iload_3 25 h.1 dX6_chance_25 ?_
  refine g_iload_1 26 h.1 dX6_chance_26 ?_
  refine g_icmp_ge 27 100 h.1 dX6_chance_27 (by decide) (fun c => ?_) (fun c => ?_)
  · have hw := hw.1 c
    refine g_iload_2 100 h.1 dX6_chance_100 ?_
    exact hR 101 _ _ _ dX6_chance_101 hw
  · have hw := hw.2 c
    refine g_aload_0 30 h.1 dX6_chance_30 ?_
    refine g_bipush 31 _ bp_100 h.1 dX6_chance_31 ?_
    refine m_callI_1 33 h (mm_drawOf h.2.2.1 hw) (by decide) q2633 (Nat.le_of_ble_eq_true rfl) dX6_chance_33 (fun r7 σ6 hw => ?_)
    refine g_aload_0 36 h.1 dX6_chance_36 ?_
    refine mg_39 37 h dX6_chance_37 ?_
    refine g_iconstv 40 _ ic_5 h.1 dX6_chance_40 ?_
    refine m_iald 41 rfl hw.1 h dX6_chance_41 ?_
    have hw := hw.2
    refine g_icmp_ge 42 90 h.1 dX6_chance_42 (by decide) (fun c => ?_) (fun c => ?_)
    · have hw := hw.1 c
      exact g_le (mt_chance_90 h hR hX25 hw) ⟨rfl, rfl, rfl, rfl, trivial⟩
    · have hw := hw.2 c
      refine g_aload_0 45 h.1 dX6_chance_45 ?_
      refine m_callI_0 46 h (mm_personMany h.2.2.1 hw) (by decide) q2307 (Nat.le_of_ble_eq_true rfl) dX6_chance_46 (fun r9 σ8 hw => ?_)
      refine g_if_le 49 90 h.1 dX6_chance_49 (by decide) (fun c => ?_) (fun c => ?_)
      · have hw := hw.1 c
        exact g_le (mt_chance_90 h hR hX25 hw) ⟨rfl, rfl, rfl, rfl, trivial⟩
      · have hw := hw.2 c
        refine g_aload_0 52 h.1 dX6_chance_52 ?_
        refine m_callI_0 53 h (mm_topicMany h.2.2.1 hw) (by decide) q2303 (Nat.le_of_ble_eq_true rfl) dX6_chance_53 (fun r11 σ10 hw => ?_)
        refine g_if_le 56 90 h.1 dX6_chance_56 (by decide) (fun c => ?_) (fun c => ?_)
        · have hw := hw.1 c
          exact g_le (mt_chance_90 h hR hX25 hw) ⟨rfl, rfl, rfl, rfl, trivial⟩
        · have hw := hw.2 c
          refine g_aload_0 59 h.1 dX6_chance_59 ?_
          refine g_aload_0 60 h.1 dX6_chance_60 ?_
          refine m_callI_0 61 h (mm_personMany h.2.2.1 hw) (by decide) q2307 (Nat.le_of_ble_eq_true rfl) dX6_chance_61 (fun r13 σ12 hw => ?_)
          refine m_callI_1 64 h (mm_drawOf h.2.2.1 hw) (by decide) q2633 (Nat.le_of_ble_eq_true rfl) dX6_chance_64 (fun r15 σ14 hw => ?_)
          refine g_istore_4 67 h.1 rfl dX6_chance_67 ?_
          refine g_aload_0 69 h.1 dX6_chance_69 ?_
          refine g_iload_4 70 h.1 dX6_chance_70 ?_
          refine g_aload_0 72 h.1 dX6_chance_72 ?_
          refine g_aload_0 73 h.1 dX6_chance_73 ?_
          refine m_callI_0 74 h (mm_topicMany h.2.2.1 hw) (by decide) q2303 (Nat.le_of_ble_eq_true rfl) dX6_chance_74 (fun r17 σ16 hw => ?_)
          refine m_callI_1 77 h (mm_drawOf h.2.2.1 hw) (by decide) q2633 (Nat.le_of_ble_eq_true rfl) dX6_chance_77 (fun r19 σ18 hw => ?_)
          refine m_callI_2 80 h (mm_isAsked h.2.2.1 hw) (by decide) q2432 (Nat.le_of_ble_eq_true rfl) dX6_chance_80 (fun r21 σ20 hw => ?_)
          refine g_iconstv 83 _ ic_2 h.1 dX6_chance_83 ?_
          refine g_icmp_ne 84 90 h.1 dX6_chance_84 (by decide) (fun c => ?_) (fun c => ?_)
          · have hw := hw.1 c
            exact g_le (mt_chance_90 h hR hX25 hw) ⟨rfl, rfl, rfl, rfl, trivial⟩
          · have hw := hw.2 c
            refine g_iinc_2 87 (x2 + 1) (congrArg _ ic_1) h.1 rfl dX6_chance_87 ?_
            exact g_le (mt_chance_90 h hR hX25 hw) ⟨rfl, rfl, rfl, rfl, trivial⟩
def mw_chance (x1 : Int32) (σ : FS) (Q : Int32 → FS → Prop) : Prop :=
  mw_isAhead x1 (1 : Int32) (100 : Int32) σ (fun r2 σ1 => ((¬ r2 = 0 → mw_stores σ1 (fun σ3 => mw_chance_25 x1 (0 : Int32) (0 : Int32) σ3 Q)) ∧ (r2 = 0 → mw_refuses (3 : Int32) σ1 (fun r5 σ4 => Q r5 σ4))))
theorem mt_chance {κ : Cx} {S : Adr} {Z : State → Prop} {Q : Int32 → FS → Prop} (h : MCx κ cX6_chance S 8) (hR : RetI κ S Z cX6_chance Q) {x1 : Int32} {σ : FS} (hw : mw_chance x1 σ Q) : MG κ S Z 0 σ [some (.ref (S.2.1 0)), some (.int x1), none, none, none] [] := by
  unfold mw_chance at hw
  refine g_aload_0 0 h.1 dX6_chance_0 ?_
  refine g_iload_1 1 h.1 dX6_chance_1 ?_
  refine g_iconstv 2 _ ic_1 h.1 dX6_chance_2 ?_
  refine g_bipush 3 _ bp_100 h.1 dX6_chance_3 ?_
  refine m_callI_3 5 h (mm_isAhead h.2.2.1 hw) (by decide) q2416 (Nat.le_of_ble_eq_true rfl) dX6_chance_5 (fun r2 σ1 hw => ?_)
  refine g_if_ne 8 17 h.1 dX6_chance_8 (by decide) (fun c => ?_) (fun c => ?_)
  · have hw := hw.1 c
    refine g_aload_0 17 h.1 dX6_chance_17 ?_
    refine m_callV_0 18 h (mm_stores h.2.2.1 hw) (by decide) q2597 (Nat.le_of_ble_eq_true rfl) dX6_chance_18 (fun σ3 hw => ?_)
    refine g_iconstv 21 _ ic_0 h.1 dX6_chance_21 ?_
    refine g_istore_2 22 h.1 rfl dX6_chance_22 ?_
    refine g_iconstv 23 _ ic_0 h.1 dX6_chance_23 ?_
    refine g_istore_3 24 h.1 rfl dX6_chance_24 ?_
    exact g_le (mt_chance_25 h hR hw) ⟨rfl, rfl, rfl, rfl, trivial⟩
  · have hw := hw.2 c
    refine g_aload_0 11 h.1 dX6_chance_11 ?_
    refine g_iconstv 12 _ ic_3 h.1 dX6_chance_12 ?_
    refine m_callI_1 13 h (mm_refuses h.2.2.1 hw) (by decide) q2564 (Nat.le_of_ble_eq_true rfl) dX6_chance_13 (fun r5 σ4 hw => ?_)
    exact hR 16 _ _ _ dX6_chance_16 hw
theorem mm_chance {l : Launch} {S : Adr} (hD : MD S) {x1 : Int32} {σ : FS} {Q : Int32 → FS → Prop} (hw : mw_chance x1 σ Q) : mMet l S 8 yX6_chance [.int x1] σ (mQi S Q) :=
  m_metI hD ⟨rfl, by decide, by show _ = some 1; decide +kernel, q2632⟩ q2630 q2631 (Nat.le_of_ble_eq_true rfl) (fun κ Z h hR => mt_chance h hR hw)
def mw_checked_6 (x0 : Nat) (x1 : Int32) (x2 : Int32) (x3 : Int32) (σ : FS) (Q : Int32 → FS → Prop) : Prop :=
  ∀ X6 : Nat → Int32 → Int32 → Int32 → FS → Prop, (∀ (x0 : Nat) (x1 : Int32) (x2 : Int32) (x3 : Int32) (σ : FS), ((x1 ≤ x3 → Q x2 σ) ∧ (¬ x1 ≤ x3 → (mok 1 x0 ∧ vp_in x3 (mlen x0) ∧ X6 x0 x1 ((((3 : Int32) * x2) + (fA σ x0 (Int32.toNatClampNeg x3))) - (((3 : Int32) * x2) + (fA σ x0 (Int32.toNatClampNeg x3))) / (251 : Int32) * (251 : Int32)) (x3 + 1) σ))) → X6 x0 x1 x2 x3 σ) → X6 x0 x1 x2 x3 σ
theorem mt_checked_6 {κ : Cx} {S : Adr} {Z : State → Prop} {Q : Int32 → FS → Prop} (h : MCx κ cX6_checked S 1) (hR : RetI κ S Z cX6_checked Q) {x0 : Nat} {x1 : Int32} {x2 : Int32} {x3 : Int32} {σ : FS} (hw : mw_checked_6 x0 x1 x2 x3 σ Q) : MG κ S Z 6 σ [some (.ref (S.2.2.1 x0)), some (.int x1), some (.int x2), some (.int x3)] [] := by
  refine hw (fun x0 x1 x2 x3 σ => MG κ S Z 6 σ [some (.ref (S.2.2.1 x0)), some (.int x1), some (.int x2), some (.int x3)] []) ?_
  clear hw
  intro x0 x1 x2 x3 σ hw
  have hX6 : ∀ (x0 : Nat) (x1 : Int32) (x2 : Int32) (x3 : Int32) (σ : FS), MG κ S Z 6 σ [some (.ref (S.2.2.1 x0)), some (.int x1), some (.int x2), some (.int x3)] [] → MG κ S Z 6 σ [some (.ref (S.2.2.1 x0)), some (.int x1), some (.int x2), some (.int x3)] [] := fun _ _ _ _ _ hh => hh
  refine g_iload_3 6 h.1 dX6_checked_6 ?_
  refine g_iload_1 7 h.1 dX6_checked_7 ?_
  refine g_icmp_ge 8 29 h.1 dX6_checked_8 (by decide) (fun c => ?_) (fun c => ?_)
  · have hw := hw.1 c
    refine g_iload_2 29 h.1 dX6_checked_29 ?_
    exact hR 30 _ _ _ dX6_checked_30 hw
  · have hw := hw.2 c
    refine g_iconstv 11 _ ic_3 h.1 dX6_checked_11 ?_
    refine g_iload_2 12 h.1 dX6_checked_12 ?_
    refine g_imul 13 h.1 dX6_checked_13 ?_
    refine g_aload_0 14 h.1 dX6_checked_14 ?_
    refine g_iload_3 15 h.1 dX6_checked_15 ?_
    refine m_iald 16 hw.1 hw.2.1 h dX6_checked_16 ?_
    have hw := hw.2.2
    refine g_iadd 17 h.1 dX6_checked_17 ?_
    refine g_sipush 18 _ sp_251 h.1 dX6_checked_18 ?_
    refine g_irem 21 (by decide) h.1 dX6_checked_21 ?_
    refine g_istore_2 22 h.1 rfl dX6_checked_22 ?_
    refine g_iinc_3 23 (x3 + 1) (congrArg _ ic_1) h.1 rfl dX6_checked_23 ?_
    refine g_goto 26 6 h.1 dX6_checked_26 (by decide) ?_
    exact g_le (hX6 _ _ _ _ _ hw) ⟨rfl, rfl, rfl, rfl, trivial⟩
def mw_checked (x0 : Nat) (x1 : Int32) (σ : FS) (Q : Int32 → FS → Prop) : Prop :=
  mw_checked_6 x0 x1 (227 : Int32) (0 : Int32) σ Q
theorem mt_checked {κ : Cx} {S : Adr} {Z : State → Prop} {Q : Int32 → FS → Prop} (h : MCx κ cX6_checked S 1) (hR : RetI κ S Z cX6_checked Q) {x0 : Nat} {x1 : Int32} {σ : FS} (hw : mw_checked x0 x1 σ Q) : MG κ S Z 0 σ [some (.ref (S.2.2.1 x0)), some (.int x1), none, none] [] := by
  unfold mw_checked at hw
  refine g_sipush 0 _ sp_227 h.1 dX6_checked_0 ?_
  refine g_istore_2 3 h.1 rfl dX6_checked_3 ?_
  refine g_iconstv 4 _ ic_0 h.1 dX6_checked_4 ?_
  refine g_istore_3 5 h.1 rfl dX6_checked_5 ?_
  exact g_le (mt_checked_6 h hR hw) ⟨rfl, rfl, rfl, rfl, trivial⟩
theorem mm_checked {l : Launch} {S : Adr} (hD : MD S) {x0 : Nat} {x1 : Int32} {σ : FS} {Q : Int32 → FS → Prop} (hw : mw_checked x0 x1 σ Q) : mMetS l S 1 yX6_checked [.ref (S.2.2.1 x0), .int x1] σ (mQi S Q) :=
  m_smetI hD ⟨rfl, by decide, by show _ = some 2; decide +kernel, q2677⟩ q2676 (Nat.le_of_ble_eq_true rfl) (fun κ Z h hR => mt_checked h hR hw)
def mw_codesTold_100 (x1 : Int32) (x3 : Int32) (σ : FS) (Q : FS → Prop) : Prop :=
  ∀ X100 : Int32 → Int32 → FS → Prop, (∀ (x1 : Int32) (x3 : Int32) (σ : FS), (((fI σ 0 103) ≤ x3 → (vp_in x1 6 ∧ ∀ σ10, σ10 = sA σ 46 (Int32.toNatClampNeg x1) (fI σ 0 48) → Q σ10)) ∧ (¬ (fI σ 0 103) ≤ x3 → (vp_in x3 1700 ∧ (vp_in (fI σ 0 48) 3200 ∧ ∀ σ11, σ11 = sA σ 47 (Int32.toNatClampNeg (fI σ 0 48)) (fA σ 102 (Int32.toNatClampNeg x3)) → (∀ σ12, σ12 = sI σ11 0 48 ((fI σ11 0 48) + (1 : Int32)) → X100 x1 (x3 + 1) σ12))))) → X100 x1 x3 σ) → X100 x1 x3 σ
theorem mt_codesTold_100 {κ : Cx} {S : Adr} {Z : State → Prop} {Q : FS → Prop} (h : MCx κ cX6_codesTold S 10) (hR : RetV κ S Z cX6_codesTold Q) {x1 : Int32} {x3 : Int32} {σ : FS} (hw : mw_codesTold_100 x1 x3 σ Q) : MG κ S Z 100 σ [some (.ref (S.2.1 0)), some (.int x1), none, some (.int x3)] [] := by
  refine hw (fun x1 x3 σ => MG κ S Z 100 σ [some (.ref (S.2.1 0)), some (.int x1), none, some (.int x3)] []) ?_
  clear hw
  intro x1 x3 σ hw
  have hX100 : ∀ (x1 : Int32) (x3 : Int32) (σ : FS), MG κ S Z 100 σ [some (.ref (S.2.1 0)), some (.int x1), none, some (.int x3)] [] → MG κ S Z 100 σ [some (.ref (S.2.1 0)), some (.int x1), none, some (.int x3)] [] := fun _ _ _ hh => hh
  refine g_iload_3 100 h.1 dX6_codesTold_100 ?_
  refine g_aload_0 101 h.1 dX6_codesTold_101 ?_
  refine mg_103 102 h dX6_codesTold_102 ?_
  refine g_icmp_ge 105 139 h.1 dX6_codesTold_105 (by decide) (fun c => ?_) (fun c => ?_)
  · have hw := hw.1 c
    refine g_aload_0 139 h.1 dX6_codesTold_139 ?_
    refine mg_46 140 h dX6_codesTold_140 ?_
    refine g_iload_1 143 h.1 dX6_codesTold_143 ?_
    refine g_aload_0 144 h.1 dX6_codesTold_144 ?_
    refine mg_48 145 h dX6_codesTold_145 ?_
    refine m_iast 148 rfl hw.1 h dX6_codesTold_148 ?_
    have hw := hw.2 _ rfl
    exact hR 149 _ _ dX6_codesTold_149 hw
  · have hw := hw.2 c
    refine g_aload_0 108 h.1 dX6_codesTold_108 ?_
    refine mg_47 109 h dX6_codesTold_109 ?_
    refine g_aload_0 112 h.1 dX6_codesTold_112 ?_
    refine mg_48 113 h dX6_codesTold_113 ?_
    refine g_aload_0 116 h.1 dX6_codesTold_116 ?_
    refine mg_102 117 h dX6_codesTold_117 ?_
    refine g_iload_3 120 h.1 dX6_codesTold_120 ?_
    refine m_iald 121 rfl hw.1 h dX6_codesTold_121 ?_
    have hw := hw.2
    refine m_iast 122 rfl hw.1 h dX6_codesTold_122 ?_
    have hw := hw.2 _ rfl
    refine g_aload_0 123 h.1 dX6_codesTold_123 ?_
    refine g_dup 124 rfl h.1 dX6_codesTold_124 ?_
    refine mg_48 125 h dX6_codesTold_125 ?_
    refine g_iconstv 128 _ ic_1 h.1 dX6_codesTold_128 ?_
    refine g_iadd 129 h.1 dX6_codesTold_129 ?_
    refine mp_48 130 h dX6_codesTold_130 ?_
    have hw := hw _ rfl
    refine g_iinc_3 133 (x3 + 1) (congrArg _ ic_1) h.1 rfl dX6_codesTold_133 ?_
    refine g_goto 136 100 h.1 dX6_codesTold_136 (by decide) ?_
    exact g_le (hX100 _ _ _ hw) ⟨rfl, rfl, rfl, trivial⟩
def mw_codesTold_80 (x1 : Int32) (σ : FS) (Q : FS → Prop) : Prop :=
  (((fI σ 0 5) = 0 → (vp_in x1 6 ∧ ∀ σ9, σ9 = sA σ 45 (Int32.toNatClampNeg x1) (fI σ 0 48) → mw_codesTold_100 x1 (0 : Int32) σ9 Q)) ∧ (¬ (fI σ 0 5) = 0 → Q σ))
theorem mt_codesTold_80 {κ : Cx} {S : Adr} {Z : State → Prop} {Q : FS → Prop} (h : MCx κ cX6_codesTold S 10) (hR : RetV κ S Z cX6_codesTold Q) {x1 : Int32} {σ : FS} (hw : mw_codesTold_80 x1 σ Q) : MG κ S Z 80 σ [some (.ref (S.2.1 0)), some (.int x1), none, none] [] := by
  unfold mw_codesTold_80 at hw
  refine g_aload_0 80 h.1 dX6_codesTold_80 ?_
  refine mg_5 81 h dX6_codesTold_81 ?_
  refine g_if_eq 84 88 h.1 dX6_codesTold_84 (by decide) (fun c => ?_) (fun c => ?_)
  · have hw := hw.1 c
    refine g_aload_0 88 h.1 dX6_codesTold_88 ?_
    refine mg_45 89 h dX6_codesTold_89 ?_
    refine g_iload_1 92 h.1 dX6_codesTold_92 ?_
    refine g_aload_0 93 h.1 dX6_codesTold_93 ?_
    refine mg_48 94 h dX6_codesTold_94 ?_
    refine m_iast 97 rfl hw.1 h dX6_codesTold_97 ?_
    have hw := hw.2 _ rfl
    refine g_iconstv 98 _ ic_0 h.1 dX6_codesTold_98 ?_
    refine g_istore_3 99 h.1 rfl dX6_codesTold_99 ?_
    exact g_le (mt_codesTold_100 h hR hw) ⟨rfl, rfl, rfl, trivial⟩
  · have hw := hw.2 c
    exact hR 87 _ _ dX6_codesTold_87 hw
def mw_codesTold_41 (x1 : Int32) (y0 : Int32) (σ : FS) (Q : FS → Prop) : Prop :=
  (∀ σ2, σ2 = sI σ 0 51 y0 → (∀ σ3, σ3 = sI σ2 0 103 (0 : Int32) → (∀ σ4, σ4 = sI σ3 0 105 (0 : Int32) → (∀ σ5, σ5 = sI σ4 0 106 (0 : Int32) → (∀ σ6, σ6 = sI σ5 0 107 (0 : Int32) → ((¬ x1 = (2 : Int32) → mw_qSums σ6 (fun σ7 => mw_codesTold_80 x1 σ7 Q)) ∧ (x1 = (2 : Int32) → mw_qTest σ6 (fun σ8 => mw_codesTold_80 x1 σ8 Q))))))))
theorem mt_codesTold_41 {κ : Cx} {S : Adr} {Z : State → Prop} {Q : FS → Prop} (h : MCx κ cX6_codesTold S 10) (hR : RetV κ S Z cX6_codesTold Q) {x1 : Int32} {y0 : Int32} {σ : FS} (hw : mw_codesTold_41 x1 y0 σ Q) : MG κ S Z 41 σ [some (.ref (S.2.1 0)), some (.int x1), none, none] [.int y0, .ref (S.2.1 0)] := by
  unfold mw_codesTold_41 at hw
  refine mp_51 41 h dX6_codesTold_41 ?_
  have hw := hw _ rfl
  refine g_aload_0 44 h.1 dX6_codesTold_44 ?_
  refine g_iconstv 45 _ ic_0 h.1 dX6_codesTold_45 ?_
  refine mp_103 46 h dX6_codesTold_46 ?_
  have hw := hw _ rfl
  refine g_aload_0 49 h.1 dX6_codesTold_49 ?_
  refine g_iconstv 50 _ ic_0 h.1 dX6_codesTold_50 ?_
  refine mp_105 51 h dX6_codesTold_51 ?_
  have hw := hw _ rfl
  refine g_aload_0 54 h.1 dX6_codesTold_54 ?_
  refine g_iconstv 55 _ ic_0 h.1 dX6_codesTold_55 ?_
  refine mp_106 56 h dX6_codesTold_56 ?_
  have hw := hw _ rfl
  refine g_aload_0 59 h.1 dX6_codesTold_59 ?_
  refine g_iconstv 60 _ ic_0 h.1 dX6_codesTold_60 ?_
  refine mp_107 61 h dX6_codesTold_61 ?_
  have hw := hw _ rfl
  refine g_iload_1 64 h.1 dX6_codesTold_64 ?_
  refine g_iconstv 65 _ ic_2 h.1 dX6_codesTold_65 ?_
  refine g_icmp_ne 66 76 h.1 dX6_codesTold_66 (by decide) (fun c => ?_) (fun c => ?_)
  · have hw := hw.1 c
    refine g_aload_0 76 h.1 dX6_codesTold_76 ?_
    refine m_callV_0 77 h (mm_qSums h.2.2.1 hw) (by decide) q2228 (Nat.le_of_ble_eq_true rfl) dX6_codesTold_77 (fun σ7 hw => ?_)
    exact g_le (mt_codesTold_80 h hR hw) ⟨rfl, rfl, trivial⟩
  · have hw := hw.2 c
    refine g_aload_0 69 h.1 dX6_codesTold_69 ?_
    refine m_callV_0 70 h (mm_qTest h.2.2.1 hw) (by decide) q2212 (Nat.le_of_ble_eq_true rfl) dX6_codesTold_70 (fun σ8 hw => ?_)
    refine g_goto 73 80 h.1 dX6_codesTold_73 (by decide) ?_
    exact g_le (mt_codesTold_80 h hR hw) ⟨rfl, rfl, trivial⟩
def mw_codesTold_23 (x1 : Int32) (σ : FS) (Q : FS → Prop) : Prop :=
  (((fI σ 0 5) = 0 → ((¬ x1 = 0 → mw_codesTold_41 x1 (0 : Int32) σ Q) ∧ (x1 = 0 → mw_codesTold_41 x1 (1 : Int32) σ Q))) ∧ (¬ (fI σ 0 5) = 0 → Q σ))
theorem mt_codesTold_23 {κ : Cx} {S : Adr} {Z : State → Prop} {Q : FS → Prop} (h : MCx κ cX6_codesTold S 10) (hR : RetV κ S Z cX6_codesTold Q) {x1 : Int32} {σ : FS} (hw : mw_codesTold_23 x1 σ Q) : MG κ S Z 23 σ [some (.ref (S.2.1 0)), some (.int x1), none, none] [] := by
  unfold mw_codesTold_23 at hw
  refine g_aload_0 23 h.1 dX6_codesTold_23 ?_
  refine mg_5 24 h dX6_codesTold_24 ?_
  refine g_if_eq 27 31 h.1 dX6_codesTold_27 (by decide) (fun c => ?_) (fun c => ?_)
  · have hw := hw.1 c
    refine g_aload_0 31 h.1 dX6_codesTold_31 ?_
    refine g_iload_1 32 h.1 dX6_codesTold_32 ?_
    refine g_if_ne 33 40 h.1 dX6_codesTold_33 (by decide) (fun c => ?_) (fun c => ?_)
    · have hw := hw.1 c
      refine g_iconstv 40 _ ic_0 h.1 dX6_codesTold_40 ?_
      exact g_le (mt_codesTold_41 h hR hw) ⟨rfl, rfl, trivial⟩
    · have hw := hw.2 c
      refine g_iconstv 36 _ ic_1 h.1 dX6_codesTold_36 ?_
      refine g_goto 37 41 h.1 dX6_codesTold_37 (by decide) ?_
      exact g_le (mt_codesTold_41 h hR hw) ⟨rfl, rfl, trivial⟩
  · have hw := hw.2 c
    exact hR 30 _ _ dX6_codesTold_30 hw
def mw_codesTold (x1 : Int32) (x2 : Int32) (σ : FS) (Q : FS → Prop) : Prop :=
  ((¬ (fI σ 0 5) = 0 → mw_codesTold_23 x1 σ Q) ∧ ((fI σ 0 5) = 0 → (vp_in x1 6 ∧ (((fA σ 45 (Int32.toNatClampNeg x1)) = (-1 : Int32) → mw_codesTold_23 x1 σ Q) ∧ (¬ (fA σ 45 (Int32.toNatClampNeg x1)) = (-1 : Int32) → mw_fail (5 : Int32) x2 σ (fun σ1 => mw_codesTold_23 x1 σ1 Q))))))
theorem mt_codesTold {κ : Cx} {S : Adr} {Z : State → Prop} {Q : FS → Prop} (h : MCx κ cX6_codesTold S 10) (hR : RetV κ S Z cX6_codesTold Q) {x1 : Int32} {x2 : Int32} {σ : FS} (hw : mw_codesTold x1 x2 σ Q) : MG κ S Z 0 σ [some (.ref (S.2.1 0)), some (.int x1), some (.int x2), none] [] := by
  unfold mw_codesTold at hw
  refine g_aload_0 0 h.1 dX6_codesTold_0 ?_
  refine mg_5 1 h dX6_codesTold_1 ?_
  refine g_if_ne 4 23 h.1 dX6_codesTold_4 (by decide) (fun c => ?_) (fun c => ?_)
  · have hw := hw.1 c
    exact g_le (mt_codesTold_23 h hR hw) ⟨rfl, rfl, trivial⟩
  · have hw := hw.2 c
    refine g_aload_0 7 h.1 dX6_codesTold_7 ?_
    refine mg_45 8 h dX6_codesTold_8 ?_
    refine g_iload_1 11 h.1 dX6_codesTold_11 ?_
    refine m_iald 12 rfl hw.1 h dX6_codesTold_12 ?_
    have hw := hw.2
    refine g_iconstv 13 _ ic_m1 h.1 dX6_codesTold_13 ?_
    refine g_icmp_eq 14 23 h.1 dX6_codesTold_14 (by decide) (fun c => ?_) (fun c => ?_)
    · have hw := hw.1 c
      exact g_le (mt_codesTold_23 h hR hw) ⟨rfl, rfl, trivial⟩
    · have hw := hw.2 c
      refine g_aload_0 17 h.1 dX6_codesTold_17 ?_
      refine g_iconstv 18 _ ic_5 h.1 dX6_codesTold_18 ?_
      refine g_iload_2 19 h.1 dX6_codesTold_19 ?_
      refine m_callV_2 20 h (mm_fail h.2.2.1 hw) (by decide) q2136 (Nat.le_of_ble_eq_true rfl) dX6_codesTold_20 (fun σ1 hw => ?_)
      exact g_le (mt_codesTold_23 h hR hw) ⟨rfl, rfl, trivial⟩
theorem mm_codesTold {l : Launch} {S : Adr} (hD : MD S) {x1 : Int32} {x2 : Int32} {σ : FS} {Q : FS → Prop} (hw : mw_codesTold x1 x2 σ Q) : mMet l S 10 yX6_codesTold [.int x1, .int x2] σ (mQv S Q) :=
  m_metV hD ⟨rfl, by decide, by show _ = some 2; decide +kernel, q2211⟩ q2210 qs88 (Nat.le_of_ble_eq_true rfl) (fun κ Z h hR => mt_codesTold h hR hw)
def mw_daysGo_2 (x1 : Int32) (x2 : Int32) (σ : FS) (Q : FS → Prop) : Prop :=
  ∀ X2 : Int32 → Int32 → FS → Prop, (∀ (x1 : Int32) (x2 : Int32) (σ : FS), ((x1 ≤ x2 → Q σ) ∧ (¬ x1 ≤ x2 → mw_dayGoes σ (fun σ1 => X2 x1 (x2 + 1) σ1))) → X2 x1 x2 σ) → X2 x1 x2 σ
theorem mt_daysGo_2 {κ : Cx} {S : Adr} {Z : State → Prop} {Q : FS → Prop} (h : MCx κ cX6_daysGo S 8) (hR : RetV κ S Z cX6_daysGo Q) {x1 : Int32} {x2 : Int32} {σ : FS} (hw : mw_daysGo_2 x1 x2 σ Q) : MG κ S Z 2 σ [some (.ref (S.2.1 0)), some (.int x1), some (.int x2)] [] := by
  refine hw (fun x1 x2 σ => MG κ S Z 2 σ [some (.ref (S.2.1 0)), some (.int x1), some (.int x2)] []) ?_
  clear hw
  intro x1 x2 σ hw
  have hX2 : ∀ (x1 : Int32) (x2 : Int32) (σ : FS), MG κ S Z 2 σ [some (.ref (S.2.1 0)), some (.int x1), some (.int x2)] [] → MG κ S Z 2 σ [some (.ref (S.2.1 0)), some (.int x1), some (.int x2)] [] := fun _ _ _ hh => hh
  refine g_iload_2 2 h.1 dX6_daysGo_2 ?_
  refine g_iload_1 3 h.1 dX6_daysGo_3 ?_
  refine g_icmp_ge 4 17 h.1 dX6_daysGo_4 (by decide) (fun c => ?_) (fun c => ?_)
  · have hw := hw.1 c
    exact hR 17 _ _ dX6_daysGo_17 hw
  · have hw := hw.2 c
    refine g_aload_0 7 h.1 dX6_daysGo_7 ?_
    refine m_callV_0 8 h (mm_dayGoes h.2.2.1 hw) (by decide) q2428 (Nat.le_of_ble_eq_true rfl) dX6_daysGo_8 (fun σ1 hw => ?_)
    refine g_iinc_2 11 (x2 + 1) (congrArg _ ic_1) h.1 rfl dX6_daysGo_11 ?_
    refine g_goto 14 2 h.1 dX6_daysGo_14 (by decide) ?_
    exact g_le (hX2 _ _ _ hw) ⟨rfl, rfl, rfl, trivial⟩
def mw_daysGo (x1 : Int32) (σ : FS) (Q : FS → Prop) : Prop :=
  mw_daysGo_2 x1 (0 : Int32) σ Q
theorem mt_daysGo {κ : Cx} {S : Adr} {Z : State → Prop} {Q : FS → Prop} (h : MCx κ cX6_daysGo S 8) (hR : RetV κ S Z cX6_daysGo Q) {x1 : Int32} {σ : FS} (hw : mw_daysGo x1 σ Q) : MG κ S Z 0 σ [some (.ref (S.2.1 0)), some (.int x1), none] [] := by
  unfold mw_daysGo at hw
  refine g_iconstv 0 _ ic_0 h.1 dX6_daysGo_0 ?_
  refine g_istore_2 1 h.1 rfl dX6_daysGo_1 ?_
  exact g_le (mt_daysGo_2 h hR hw) ⟨rfl, rfl, rfl, trivial⟩
theorem mm_daysGo {l : Launch} {S : Adr} (hD : MD S) {x1 : Int32} {σ : FS} {Q : FS → Prop} (hw : mw_daysGo x1 σ Q) : mMet l S 8 yX6_daysGo [.int x1] σ (mQv S Q) :=
  m_metV hD ⟨rfl, by decide, by show _ = some 1; decide +kernel, q2427⟩ q2426 qs129 (Nat.le_of_ble_eq_true rfl) (fun κ Z h hR => mt_daysGo h hR hw)
def mw_days (x1 : Int32) (σ : FS) (Q : Int32 → FS → Prop) : Prop :=
  mw_isAhead x1 (1 : Int32) (100 : Int32) σ (fun r2 σ1 => ((¬ r2 = 0 → mw_stores σ1 (fun σ3 => (∀ σ4, σ4 = sI σ3 0 58 (0 : Int32) → mw_daysGo x1 σ4 (fun σ5 => Q (fI σ5 0 58) σ5)))) ∧ (r2 = 0 → mw_refuses (3 : Int32) σ1 (fun r7 σ6 => Q r7 σ6))))
theorem mt_days {κ : Cx} {S : Adr} {Z : State → Prop} {Q : Int32 → FS → Prop} (h : MCx κ cX6_days S 9) (hR : RetI κ S Z cX6_days Q) {x1 : Int32} {σ : FS} (hw : mw_days x1 σ Q) : MG κ S Z 0 σ [some (.ref (S.2.1 0)), some (.int x1)] [] := by
  unfold mw_days at hw
  refine g_aload_0 0 h.1 dX6_days_0 ?_
  refine g_iload_1 1 h.1 dX6_days_1 ?_
  refine g_iconstv 2 _ ic_1 h.1 dX6_days_2 ?_
  refine g_bipush 3 _ bp_100 h.1 dX6_days_3 ?_
  refine m_callI_3 5 h (mm_isAhead h.2.2.1 hw) (by decide) q2416 (Nat.le_of_ble_eq_true rfl) dX6_days_5 (fun r2 σ1 hw => ?_)
  refine g_if_ne 8 17 h.1 dX6_days_8 (by decide) (fun c => ?_) (fun c => ?_)
  · have hw := hw.1 c
    refine g_aload_0 17 h.1 dX6_days_17 ?_
    refine m_callV_0 18 h (mm_stores h.2.2.1 hw) (by decide) q2597 (Nat.le_of_ble_eq_true rfl) dX6_days_18 (fun σ3 hw => ?_)
    refine g_aload_0 21 h.1 dX6_days_21 ?_
    refine g_iconstv 22 _ ic_0 h.1 dX6_days_22 ?_
    refine mp_58 23 h dX6_days_23 ?_
    have hw := hw _ rfl
    refine g_aload_0 26 h.1 dX6_days_26 ?_
    refine g_iload_1 27 h.1 dX6_days_27 ?_
    refine m_callV_1 28 h (mm_daysGo h.2.2.1 hw) (by decide) q2424 (Nat.le_of_ble_eq_true rfl) dX6_days_28 (fun σ5 hw => ?_)
    refine g_aload_0 31 h.1 dX6_days_31 ?_
    refine mg_58 32 h dX6_days_32 ?_
    exact hR 35 _ _ _ dX6_days_35 hw
  · have hw := hw.2 c
    refine g_aload_0 11 h.1 dX6_days_11 ?_
    refine g_iconstv 12 _ ic_3 h.1 dX6_days_12 ?_
    refine m_callI_1 13 h (mm_refuses h.2.2.1 hw) (by decide) q2564 (Nat.le_of_ble_eq_true rfl) dX6_days_13 (fun r7 σ6 hw => ?_)
    exact hR 16 _ _ _ dX6_days_16 hw
theorem mm_days {l : Launch} {S : Adr} (hD : MD S) {x1 : Int32} {σ : FS} {Q : Int32 → FS → Prop} (hw : mw_days x1 σ Q) : mMet l S 9 yX6_days [.int x1] σ (mQi S Q) :=
  m_metI hD ⟨rfl, by decide, by show _ = some 1; decide +kernel, q2624⟩ q2622 q2623 (Nat.le_of_ble_eq_true rfl) (fun κ Z h hR => mt_days h hR hw)
def mw_doesShrug (x1 : Int32) (σ : FS) (Q : Int32 → FS → Prop) : Prop :=
  mw_topicMany σ (fun r2 σ1 => (¬ r2 = 0 ∧ mw_topicMany σ1 (fun r4 σ3 => (¬ r4 = 0 ∧ mw_isAsked (x1 / r2) (x1 - x1 / r4 * r4) σ3 (fun r6 σ5 => ((¬ r6 = (2 : Int32) → Q (0 : Int32) σ5) ∧ (r6 = (2 : Int32) → Q (1 : Int32) σ5)))))))
theorem mt_doesShrug {κ : Cx} {S : Adr} {Z : State → Prop} {Q : Int32 → FS → Prop} (h : MCx κ cX6_doesShrug S 7) (hR : RetZ κ S Z cX6_doesShrug Q) {x1 : Int32} {σ : FS} (hw : mw_doesShrug x1 σ Q) : MG κ S Z 0 σ [some (.ref (S.2.1 0)), some (.int x1)] [] := by
  unfold mw_doesShrug at hw
  refine g_aload_0 0 h.1 dX6_doesShrug_0 ?_
  refine g_iload_1 1 h.1 dX6_doesShrug_1 ?_
  refine g_aload_0 2 h.1 dX6_doesShrug_2 ?_
  refine m_callI_0 3 h (mm_topicMany h.2.2.1 hw) (by decide) q2303 (Nat.le_of_ble_eq_true rfl) dX6_doesShrug_3 (fun r2 σ1 hw => ?_)
  refine g_idiv 6 hw.1 h.1 dX6_doesShrug_6 ?_
  have hw := hw.2
  refine g_iload_1 7 h.1 dX6_doesShrug_7 ?_
  refine g_aload_0 8 h.1 dX6_doesShrug_8 ?_
  refine m_callI_0 9 h (mm_topicMany h.2.2.1 hw) (by decide) q2303 (Nat.le_of_ble_eq_true rfl) dX6_doesShrug_9 (fun r4 σ3 hw => ?_)
  refine g_irem 12 hw.1 h.1 dX6_doesShrug_12 ?_
  have hw := hw.2
  refine m_callI_2 13 h (mm_isAsked h.2.2.1 hw) (by decide) q2432 (Nat.le_of_ble_eq_true rfl) dX6_doesShrug_13 (fun r6 σ5 hw => ?_)
  refine g_iconstv 16 _ ic_2 h.1 dX6_doesShrug_16 ?_
  refine g_icmp_ne 17 24 h.1 dX6_doesShrug_17 (by decide) (fun c => ?_) (fun c => ?_)
  · have hw := hw.1 c
    refine g_iconstv 24 _ ic_0 h.1 dX6_doesShrug_24 ?_
    exact hR 25 _ _ _ dX6_doesShrug_25 rfl hw
  · have hw := hw.2 c
    refine g_iconstv 20 _ ic_1 h.1 dX6_doesShrug_20 ?_
    refine g_goto 21 25 h.1 dX6_doesShrug_21 (by decide) ?_
    exact hR 25 _ _ _ dX6_doesShrug_25 rfl hw
theorem mm_doesShrug {l : Launch} {S : Adr} (hD : MD S) {x1 : Int32} {σ : FS} {Q : Int32 → FS → Prop} (hw : mw_doesShrug x1 σ Q) : mMet l S 7 yX6_doesShrug [.int x1] σ (mQi S Q) :=
  m_metZ hD ⟨rfl, by decide, by show _ = some 1; decide +kernel, q2500⟩ q2499 qs143 (Nat.le_of_ble_eq_true rfl) (fun κ Z h hR => mt_doesShrug h hR hw)
def mw_isRefused (σ : FS) (Q : Int32 → FS → Prop) : Prop :=
  (vp_in (2 : Int32) 6 ∧ (vp_in (2 : Int32) 6 ∧ ∀ σ1, σ1 = sA σ 9 (Int32.toNatClampNeg (2 : Int32)) ((fA σ 9 (Int32.toNatClampNeg (2 : Int32))) + (1 : Int32)) → Q (0 : Int32) σ1))
theorem mt_isRefused {κ : Cx} {S : Adr} {Z : State → Prop} {Q : Int32 → FS → Prop} (h : MCx κ cX6_isRefused S 1) (hR : RetZ κ S Z cX6_isRefused Q) {σ : FS} (hw : mw_isRefused σ Q) : MG κ S Z 0 σ [some (.ref (S.2.1 0))] [] := by
  unfold mw_isRefused at hw
  refine g_aload_0 0 h.1 dX6_isRefused_0 ?_
  refine mg_9 1 h dX6_isRefused_1 ?_
  refine g_iconstv 4 _ ic_2 h.1 dX6_isRefused_4 ?_
  refine g_dup2 5 rfl rfl h.1 dX6_isRefused_5 ?_
  refine m_iald 6 rfl hw.1 h dX6_isRefused_6 ?_
  have hw := hw.2
  refine g_iconstv 7 _ ic_1 h.1 dX6_isRefused_7 ?_
  refine g_iadd 8 h.1 dX6_isRefused_8 ?_
  refine m_iast 9 rfl hw.1 h dX6_isRefused_9 ?_
  have hw := hw.2 _ rfl
  refine g_iconstv 10 _ ic_0 h.1 dX6_isRefused_10 ?_
  exact hR 11 _ _ _ dX6_isRefused_11 rfl hw
theorem mm_isRefused {l : Launch} {S : Adr} (hD : MD S) {σ : FS} {Q : Int32 → FS → Prop} (hw : mw_isRefused σ Q) : mMet l S 1 yX6_isRefused [] σ (mQi S Q) :=
  m_metZ hD ⟨rfl, by decide, by show _ = some 0; decide +kernel, q2608⟩ q2607 qs159 (Nat.le_of_ble_eq_true rfl) (fun κ Z h hR => mt_isRefused h hR hw)
def mw_ease_16 (σ : FS) (Q : Int32 → FS → Prop) : Prop :=
  mw_isRefused σ (fun r8 σ7 => (nb r8 ∧ Q r8 σ7))
theorem mt_ease_16 {κ : Cx} {S : Adr} {Z : State → Prop} {Q : Int32 → FS → Prop} (h : MCx κ cX6_ease S 3) (hR : RetZ κ S Z cX6_ease Q) {σ : FS} (hw : mw_ease_16 σ Q) : MG κ S Z 16 σ [some (.ref (S.2.1 0)), none] [] := by
  unfold mw_ease_16 at hw
  refine g_aload_0 16 h.1 dX6_ease_16 ?_
  refine m_callI_0 17 h (mm_isRefused h.2.2.1 hw) (by decide) q2605 (Nat.le_of_ble_eq_true rfl) dX6_ease_17 (fun r8 σ7 hw => ?_)
  exact hR 20 _ _ _ dX6_ease_20 hw.1 hw.2
def mw_ease (x1 : Int32) (σ : FS) (Q : Int32 → FS → Prop) : Prop :=
  mw_isPerson x1 σ (fun r2 σ1 => ((r2 = 0 → mw_ease_16 σ1 Q) ∧ (¬ r2 = 0 → mw_tiredOf x1 σ1 (fun r4 σ3 => ((¬ r4 = 0 → mw_stores σ3 (fun σ5 => (vp_in ((51 : Int32) + ((3 : Int32) * x1)) 232 ∧ ∀ σ6, σ6 = sA σ5 52 (Int32.toNatClampNeg ((51 : Int32) + ((3 : Int32) * x1))) (0 : Int32) → Q (1 : Int32) σ6))) ∧ (r4 = 0 → mw_ease_16 σ3 Q))))))
theorem mt_ease {κ : Cx} {S : Adr} {Z : State → Prop} {Q : Int32 → FS → Prop} (h : MCx κ cX6_ease S 3) (hR : RetZ κ S Z cX6_ease Q) {x1 : Int32} {σ : FS} (hw : mw_ease x1 σ Q) : MG κ S Z 0 σ [some (.ref (S.2.1 0)), some (.int x1)] [] := by
  unfold mw_ease at hw
  refine g_aload_0 0 h.1 dX6_ease_0 ?_
  refine g_iload_1 1 h.1 dX6_ease_1 ?_
  refine m_callI_1 2 h (mm_isPerson h.2.2.1 hw) (by decide) q2348 (Nat.le_of_ble_eq_true rfl) dX6_ease_2 (fun r2 σ1 hw => ?_)
  refine g_if_eq 5 16 h.1 dX6_ease_5 (by decide) (fun c => ?_) (fun c => ?_)
  · have hw := hw.1 c
    exact g_le (mt_ease_16 h hR hw) ⟨rfl, trivial⟩
  · have hw := hw.2 c
    refine g_aload_0 8 h.1 dX6_ease_8 ?_
    refine g_iload_1 9 h.1 dX6_ease_9 ?_
    refine m_callI_1 10 h (mm_tiredOf h.2.2.1 hw) (by decide) q2356 (Nat.le_of_ble_eq_true rfl) dX6_ease_10 (fun r4 σ3 hw => ?_)
    refine g_if_ne 13 21 h.1 dX6_ease_13 (by decide) (fun c => ?_) (fun c => ?_)
    · have hw := hw.1 c
      refine g_aload_0 21 h.1 dX6_ease_21 ?_
      refine m_callV_0 22 h (mm_stores h.2.2.1 hw) (by decide) q2597 (Nat.le_of_ble_eq_true rfl) dX6_ease_22 (fun σ5 hw => ?_)
      refine g_aload_0 25 h.1 dX6_ease_25 ?_
      refine mg_52 26 h dX6_ease_26 ?_
      refine g_bipush 29 _ bp_51 h.1 dX6_ease_29 ?_
      refine g_iconstv 31 _ ic_3 h.1 dX6_ease_31 ?_
      refine g_iload_1 32 h.1 dX6_ease_32 ?_
      refine g_imul 33 h.1 dX6_ease_33 ?_
      refine g_iadd 34 h.1 dX6_ease_34 ?_
      refine g_iconstv 35 _ ic_0 h.1 dX6_ease_35 ?_
      refine m_iast 36 rfl hw.1 h dX6_ease_36 ?_
      have hw := hw.2 _ rfl
      refine g_iconstv 37 _ ic_1 h.1 dX6_ease_37 ?_
      exact hR 38 _ _ _ dX6_ease_38 rfl hw
    · have hw := hw.2 c
      exact g_le (mt_ease_16 h hR hw) ⟨rfl, trivial⟩
theorem mm_ease {l : Launch} {S : Adr} (hD : MD S) {x1 : Int32} {σ : FS} {Q : Int32 → FS → Prop} (hw : mw_ease x1 σ Q) : mMet l S 3 yX6_ease [.int x1] σ (mQi S Q) :=
  m_metZ hD ⟨rfl, by decide, by show _ = some 1; decide +kernel, q2620⟩ q2618 q2619 (Nat.le_of_ble_eq_true rfl) (fun κ Z h hR => mt_ease h hR hw)
def mw_end_12 (σ : FS) (Q : Int32 → FS → Prop) : Prop :=
  (vp_in (0 : Int32) 6 ∧ (vp_in (0 : Int32) 6 ∧ ∀ σ2, σ2 = sA σ 9 (Int32.toNatClampNeg (0 : Int32)) ((fA σ 9 (Int32.toNatClampNeg (0 : Int32))) + (1 : Int32)) → Q (0 : Int32) σ2))
theorem mt_end_12 {κ : Cx} {S : Adr} {Z : State → Prop} {Q : Int32 → FS → Prop} (h : MCx κ cX6_end S 1) (hR : RetZ κ S Z cX6_end Q) {σ : FS} (hw : mw_end_12 σ Q) : MG κ S Z 12 σ [some (.ref (S.2.1 0)), none] [] := by
  unfold mw_end_12 at hw
  refine g_aload_0 12 h.1 dX6_end_12 ?_
  refine mg_9 13 h dX6_end_13 ?_
  refine g_iconstv 16 _ ic_0 h.1 dX6_end_16 ?_
  refine g_dup2 17 rfl rfl h.1 dX6_end_17 ?_
  refine m_iald 18 rfl hw.1 h dX6_end_18 ?_
  have hw := hw.2
  refine g_iconstv 19 _ ic_1 h.1 dX6_end_19 ?_
  refine g_iadd 20 h.1 dX6_end_20 ?_
  refine m_iast 21 rfl hw.1 h dX6_end_21 ?_
  have hw := hw.2 _ rfl
  refine g_iconstv 22 _ ic_0 h.1 dX6_end_22 ?_
  exact hR 23 _ _ _ dX6_end_23 rfl hw
def mw_end (x1 : Int32) (σ : FS) (Q : Int32 → FS → Prop) : Prop :=
  ((x1 < 0 → mw_end_12 σ Q) ∧ (¬ x1 < 0 → ((x1 ≤ (fI σ 0 1) → (∀ σ1, σ1 = sI σ 0 1 x1 → Q (1 : Int32) σ1)) ∧ (¬ x1 ≤ (fI σ 0 1) → mw_end_12 σ Q))))
theorem mt_end {κ : Cx} {S : Adr} {Z : State → Prop} {Q : Int32 → FS → Prop} (h : MCx κ cX6_end S 1) (hR : RetZ κ S Z cX6_end Q) {x1 : Int32} {σ : FS} (hw : mw_end x1 σ Q) : MG κ S Z 0 σ [some (.ref (S.2.1 0)), some (.int x1)] [] := by
  unfold mw_end at hw
  refine g_iload_1 0 h.1 dX6_end_0 ?_
  refine g_if_lt 1 12 h.1 dX6_end_1 (by decide) (fun c => ?_) (fun c => ?_)
  · have hw := hw.1 c
    exact g_le (mt_end_12 h hR hw) ⟨rfl, trivial⟩
  · have hw := hw.2 c
    refine g_iload_1 4 h.1 dX6_end_4 ?_
    refine g_aload_0 5 h.1 dX6_end_5 ?_
    refine mg_1 6 h dX6_end_6 ?_
    refine g_icmp_le 9 24 h.1 dX6_end_9 (by decide) (fun c => ?_) (fun c => ?_)
    · have hw := hw.1 c
      refine g_aload_0 24 h.1 dX6_end_24 ?_
      refine g_iload_1 25 h.1 dX6_end_25 ?_
      refine mp_1 26 h dX6_end_26 ?_
      have hw := hw _ rfl
      refine g_iconstv 29 _ ic_1 h.1 dX6_end_29 ?_
      exact hR 30 _ _ _ dX6_end_30 rfl hw
    · have hw := hw.2 c
      exact g_le (mt_end_12 h hR hw) ⟨rfl, trivial⟩
theorem mm_end {l : Launch} {S : Adr} (hD : MD S) {x1 : Int32} {σ : FS} {Q : Int32 → FS → Prop} (hw : mw_end x1 σ Q) : mMet l S 1 yX6_end [.int x1] σ (mQi S Q) :=
  m_metZ hD ⟨rfl, by decide, by show _ = some 1; decide +kernel, q2108⟩ q2106 q2107 (Nat.le_of_ble_eq_true rfl) (fun κ Z h hR => mt_end h hR hw)
def mw_fault (x1 : Int32) (σ : FS) (Q : Int32 → FS → Prop) : Prop :=
  ((¬ x1 = 0 → ((¬ x1 = (1 : Int32) → Q (-1 : Int32) σ) ∧ (x1 = (1 : Int32) → Q (fI σ 0 8) σ))) ∧ (x1 = 0 → Q (fI σ 0 7) σ))
theorem mt_fault {κ : Cx} {S : Adr} {Z : State → Prop} {Q : Int32 → FS → Prop} (h : MCx κ cX6_fault S 1) (hR : RetI κ S Z cX6_fault Q) {x1 : Int32} {σ : FS} (hw : mw_fault x1 σ Q) : MG κ S Z 0 σ [some (.ref (S.2.1 0)), some (.int x1)] [] := by
  unfold mw_fault at hw
  refine g_iload_1 0 h.1 dX6_fault_0 ?_
  refine g_if_ne 1 11 h.1 dX6_fault_1 (by decide) (fun c => ?_) (fun c => ?_)
  · have hw := hw.1 c
    refine g_iload_1 11 h.1 dX6_fault_11 ?_
    refine g_iconstv 12 _ ic_1 h.1 dX6_fault_12 ?_
    refine g_icmp_ne 13 23 h.1 dX6_fault_13 (by decide) (fun c => ?_) (fun c => ?_)
    · have hw := hw.1 c
      refine g_iconstv 23 _ ic_m1 h.1 dX6_fault_23 ?_
      exact hR 24 _ _ _ dX6_fault_24 hw
    · have hw := hw.2 c
      refine g_aload_0 16 h.1 dX6_fault_16 ?_
      refine mg_8 17 h dX6_fault_17 ?_
      refine g_goto 20 24 h.1 dX6_fault_20 (by decide) ?_
      exact hR 24 _ _ _ dX6_fault_24 hw
  · have hw := hw.2 c
    refine g_aload_0 4 h.1 dX6_fault_4 ?_
    refine mg_7 5 h dX6_fault_5 ?_
    refine g_goto 8 24 h.1 dX6_fault_8 (by decide) ?_
    exact hR 24 _ _ _ dX6_fault_24 hw
theorem mm_fault {l : Launch} {S : Adr} (hD : MD S) {x1 : Int32} {σ : FS} {Q : Int32 → FS → Prop} (hw : mw_fault x1 σ Q) : mMet l S 1 yX6_fault [.int x1] σ (mQi S Q) :=
  m_metI hD ⟨rfl, by decide, by show _ = some 1; decide +kernel, q2298⟩ q2296 q2297 (Nat.le_of_ble_eq_true rfl) (fun κ Z h hR => mt_fault h hR hw)
def mw_feed_81 (X28 : Int32 → Int32 → Int32 → Int32 → Int32 → Int32 → FS → Prop) (x1 : Int32) (x2 : Int32) (x3 : Int32) (x4 : Int32) (x5 : Int32) (x6 : Int32) (y0 : Int32) (σ : FS) (Q : Int32 → FS → Prop) : Prop :=
  (vp_in (fI σ 0 1) 1600 ∧ ∀ σ2, σ2 = sA σ 0 (Int32.toNatClampNeg (fI σ 0 1)) ((y0 >>> (((8 : Int32) * ((3 : Int32) - (x6 - x6 / (4 : Int32) * (4 : Int32)))) &&& 31)) &&& (255 : Int32)) → (∀ σ3, σ3 = sI σ2 0 1 ((fI σ2 0 1) + (1 : Int32)) → X28 x1 x2 x3 x4 x5 (x6 + 1) σ3))
theorem mt_feed_81 {κ : Cx} {S : Adr} {Z : State → Prop} {Q : Int32 → FS → Prop} (h : MCx κ cX6_feed S 1) (hR : RetI κ S Z cX6_feed Q) {X28 : Int32 → Int32 → Int32 → Int32 → Int32 → Int32 → FS → Prop} (hX28 : ∀ (x1 : Int32) (x2 : Int32) (x3 : Int32) (x4 : Int32) (x5 : Int32) (x6 : Int32) (σ : FS), X28 x1 x2 x3 x4 x5 x6 σ → MG κ S Z 28 σ [some (.ref (S.2.1 0)), some (.int x1), some (.int x2), some (.int x3), some (.int x4), some (.int x5), some (.int x6), none] []) {x1 : Int32} {x2 : Int32} {x3 : Int32} {x4 : Int32} {x5 : Int32} {x6 : Int32} {y0 : Int32} {σ : FS} (hw : mw_feed_81 X28 x1 x2 x3 x4 x5 x6 y0 σ Q) : MG κ S Z 81 σ [some (.ref (S.2.1 0)), some (.int x1), some (.int x2), some (.int x3), some (.int x4), some (.int x5), some (.int x6), none] [.int y0] := by
  unfold mw_feed_81 at hw
  refine g_istore_7 81 h.1 rfl dX6_feed_81 ?_
  refine g_aload_0 83 h.1 dX6_feed_83 ?_
  refine mg_0 84 h dX6_feed_84 ?_
  refine g_aload_0 87 h.1 dX6_feed_87 ?_
  refine mg_1 88 h dX6_feed_88 ?_
  refine g_iload_7 91 h.1 dX6_feed_91 ?_
  refine g_bipush 93 _ bp_8 h.1 dX6_feed_93 ?_
  refine g_iconstv 95 _ ic_3 h.1 dX6_feed_95 ?_
  refine g_iload_6 96 h.1 dX6_feed_96 ?_
  refine g_iconstv 98 _ ic_4 h.1 dX6_feed_98 ?_
  refine g_irem 99 (by decide) h.1 dX6_feed_99 ?_
  refine g_isub 100 h.1 dX6_feed_100 ?_
  refine g_imul 101 h.1 dX6_feed_101 ?_
  refine g_ishr 102 h.1 dX6_feed_102 ?_
  refine g_sipush 103 _ sp_255 h.1 dX6_feed_103 ?_
  refine g_iand 106 h.1 dX6_feed_106 ?_
  refine m_iast 107 rfl hw.1 h dX6_feed_107 ?_
  have hw := hw.2 _ rfl
  refine g_aload_0 108 h.1 dX6_feed_108 ?_
  refine g_dup 109 rfl h.1 dX6_feed_109 ?_
  refine mg_1 110 h dX6_feed_110 ?_
  refine g_iconstv 113 _ ic_1 h.1 dX6_feed_113 ?_
  refine g_iadd 114 h.1 dX6_feed_114 ?_
  refine mp_1 115 h dX6_feed_115 ?_
  have hw := hw _ rfl
  refine g_iinc_6 118 (x6 + 1) (congrArg _ ic_1) h.1 rfl dX6_feed_118 ?_
  refine g_goto 121 28 h.1 dX6_feed_121 (by decide) ?_
  exact g_le (hX28 _ _ _ _ _ _ _ hw) ⟨rfl, rfl, rfl, rfl, rfl, rfl, rfl, trivial⟩
def mw_feed_28 (x1 : Int32) (x2 : Int32) (x3 : Int32) (x4 : Int32) (x5 : Int32) (x6 : Int32) (σ : FS) (Q : Int32 → FS → Prop) : Prop :=
  ∀ X28 : Int32 → Int32 → Int32 → Int32 → Int32 → Int32 → FS → Prop, (∀ (x1 : Int32) (x2 : Int32) (x3 : Int32) (x4 : Int32) (x5 : Int32) (x6 : Int32) (σ : FS), (((20 : Int32) ≤ x6 → Q (fI σ 0 1) σ) ∧ (¬ (20 : Int32) ≤ x6 → (((4 : Int32) ≤ x6 → (((8 : Int32) ≤ x6 → (((12 : Int32) ≤ x6 → (((16 : Int32) ≤ x6 → mw_feed_81 X28 x1 x2 x3 x4 x5 x6 x5 σ Q) ∧ (¬ (16 : Int32) ≤ x6 → mw_feed_81 X28 x1 x2 x3 x4 x5 x6 x4 σ Q))) ∧ (¬ (12 : Int32) ≤ x6 → mw_feed_81 X28 x1 x2 x3 x4 x5 x6 x3 σ Q))) ∧ (¬ (8 : Int32) ≤ x6 → mw_feed_81 X28 x1 x2 x3 x4 x5 x6 x2 σ Q))) ∧ (¬ (4 : Int32) ≤ x6 → mw_feed_81 X28 x1 x2 x3 x4 x5 x6 x1 σ Q)))) → X28 x1 x2 x3 x4 x5 x6 σ) → X28 x1 x2 x3 x4 x5 x6 σ
theorem mt_feed_28 {κ : Cx} {S : Adr} {Z : State → Prop} {Q : Int32 → FS → Prop} (h : MCx κ cX6_feed S 1) (hR : RetI κ S Z cX6_feed Q) {x1 : Int32} {x2 : Int32} {x3 : Int32} {x4 : Int32} {x5 : Int32} {x6 : Int32} {σ : FS} (hw : mw_feed_28 x1 x2 x3 x4 x5 x6 σ Q) : MG κ S Z 28 σ [some (.ref (S.2.1 0)), some (.int x1), some (.int x2), some (.int x3), some (.int x4), some (.int x5), some (.int x6), none] [] := by
  refine hw (fun x1 x2 x3 x4 x5 x6 σ => MG κ S Z 28 σ [some (.ref (S.2.1 0)), some (.int x1), some (.int x2), some (.int x3), some (.int x4), some (.int x5), some (.int x6), none] []) ?_
  clear hw
  intro x1 x2 x3 x4 x5 x6 σ hw
  have hX28 : ∀ (x1 : Int32) (x2 : Int32) (x3 : Int32) (x4 : Int32) (x5 : Int32) (x6 : Int32) (σ : FS), MG κ S Z 28 σ [some (.ref (S.2.1 0)), some (.int x1), some (.int x2), some (.int x3), some (.int x4), some (.int x5), some (.int x6), none] [] → MG κ S Z 28 σ [some (.ref (S.2.1 0)), some (.int x1), some (.int x2), some (.int x3), some (.int x4), some (.int x5), some (.int x6), none] [] := fun _ _ _ _ _ _ _ hh => hh
  refine g_iload_6 28 h.1 dX6_feed_28 ?_
  refine g_bipush 30 _ bp_20 h.1 dX6_feed_30 ?_
  refine g_icmp_ge 32 124 h.1 dX6_feed_32 (by decide) (fun c => ?_) (fun c => ?_)
  · have hw := hw.1 c
    refine g_aload_0 124 h.1 dX6_feed_124 ?_
    refine mg_1 125 h dX6_feed_125 ?_
    exact hR 128 _ _ _ dX6_feed_128 hw
  · have hw := hw.2 c
    refine g_iload_6 35 h.1 dX6_feed_35 ?_
    refine g_iconstv 37 _ ic_4 h.1 dX6_feed_37 ?_
    refine g_icmp_ge 38 45 h.1 dX6_feed_38 (by decide) (fun c => ?_) (fun c => ?_)
    · have hw := hw.1 c
      refine g_iload_6 45 h.1 dX6_feed_45 ?_
      refine g_bipush 47 _ bp_8 h.1 dX6_feed_47 ?_
      refine g_icmp_ge 49 56 h.1 dX6_feed_49 (by decide) (fun c => ?_) (fun c => ?_)
      · have hw := hw.1 c
        refine g_iload_6 56 h.1 dX6_feed_56 ?_
        refine g_bipush 58 _ bp_12 h.1 dX6_feed_58 ?_
        refine g_icmp_ge 60 67 h.1 dX6_feed_60 (by decide) (fun c => ?_) (fun c => ?_)
        · have hw := hw.1 c
          refine g_iload_6 67 h.1 dX6_feed_67 ?_
          refine g_bipush 69 _ bp_16 h.1 dX6_feed_69 ?_
          refine g_icmp_ge 71 79 h.1 dX6_feed_71 (by decide) (fun c => ?_) (fun c => ?_)
          · have hw := hw.1 c
            refine g_iload_5 79 h.1 dX6_feed_79 ?_
            exact g_le (mt_feed_81 h hR hX28 hw) ⟨rfl, rfl, rfl, rfl, rfl, rfl, rfl, trivial⟩
          · have hw := hw.2 c
            refine g_iload_4 74 h.1 dX6_feed_74 ?_
            refine g_goto 76 81 h.1 dX6_feed_76 (by decide) ?_
            exact g_le (mt_feed_81 h hR hX28 hw) ⟨rfl, rfl, rfl, rfl, rfl, rfl, rfl, trivial⟩
        · have hw := hw.2 c
          refine g_iload_3 63 h.1 dX6_feed_63 ?_
          refine g_goto 64 81 h.1 dX6_feed_64 (by decide) ?_
          exact g_le (mt_feed_81 h hR hX28 hw) ⟨rfl, rfl, rfl, rfl, rfl, rfl, rfl, trivial⟩
      · have hw := hw.2 c
        refine g_iload_2 52 h.1 dX6_feed_52 ?_
        refine g_goto 53 81 h.1 dX6_feed_53 (by decide) ?_
        exact g_le (mt_feed_81 h hR hX28 hw) ⟨rfl, rfl, rfl, rfl, rfl, rfl, rfl, trivial⟩
    · have hw := hw.2 c
      refine g_iload_1 41 h.1 dX6_feed_41 ?_
      refine g_goto 42 81 h.1 dX6_feed_42 (by decide) ?_
      exact g_le (mt_feed_81 h hR hX28 hw) ⟨rfl, rfl, rfl, rfl, rfl, rfl, rfl, trivial⟩
def mw_feed (x1 : Int32) (x2 : Int32) (x3 : Int32) (x4 : Int32) (x5 : Int32) (σ : FS) (Q : Int32 → FS → Prop) : Prop :=
  ((((fI σ 0 1) + (20 : Int32)) ≤ (1600 : Int32) → mw_feed_28 x1 x2 x3 x4 x5 (0 : Int32) σ Q) ∧ (¬ ((fI σ 0 1) + (20 : Int32)) ≤ (1600 : Int32) → (vp_in (0 : Int32) 6 ∧ (vp_in (0 : Int32) 6 ∧ ∀ σ1, σ1 = sA σ 9 (Int32.toNatClampNeg (0 : Int32)) ((fA σ 9 (Int32.toNatClampNeg (0 : Int32))) + (1 : Int32)) → Q (-1 : Int32) σ1))))
theorem mt_feed {κ : Cx} {S : Adr} {Z : State → Prop} {Q : Int32 → FS → Prop} (h : MCx κ cX6_feed S 1) (hR : RetI κ S Z cX6_feed Q) {x1 : Int32} {x2 : Int32} {x3 : Int32} {x4 : Int32} {x5 : Int32} {σ : FS} (hw : mw_feed x1 x2 x3 x4 x5 σ Q) : MG κ S Z 0 σ [some (.ref (S.2.1 0)), some (.int x1), some (.int x2), some (.int x3), some (.int x4), some (.int x5), none, none] [] := by
  unfold mw_feed at hw
  refine g_aload_0 0 h.1 dX6_feed_0 ?_
  refine mg_1 1 h dX6_feed_1 ?_
  refine g_bipush 4 _ bp_20 h.1 dX6_feed_4 ?_
  refine g_iadd 6 h.1 dX6_feed_6 ?_
  refine g_sipush 7 _ sp_1600 h.1 dX6_feed_7 ?_
  refine g_icmp_le 10 25 h.1 dX6_feed_10 (by decide) (fun c => ?_) (fun c => ?_)
  · have hw := hw.1 c
    refine g_iconstv 25 _ ic_0 h.1 dX6_feed_25 ?_
    refine g_istore_6 26 h.1 rfl dX6_feed_26 ?_
    exact g_le (mt_feed_28 h hR hw) ⟨rfl, rfl, rfl, rfl, rfl, rfl, rfl, trivial⟩
  · have hw := hw.2 c
    refine g_aload_0 13 h.1 dX6_feed_13 ?_
    refine mg_9 14 h dX6_feed_14 ?_
    refine g_iconstv 17 _ ic_0 h.1 dX6_feed_17 ?_
    refine g_dup2 18 rfl rfl h.1 dX6_feed_18 ?_
    refine m_iald 19 rfl hw.1 h dX6_feed_19 ?_
    have hw := hw.2
    refine g_iconstv 20 _ ic_1 h.1 dX6_feed_20 ?_
    refine g_iadd 21 h.1 dX6_feed_21 ?_
    refine m_iast 22 rfl hw.1 h dX6_feed_22 ?_
    have hw := hw.2 _ rfl
    refine g_iconstv 23 _ ic_m1 h.1 dX6_feed_23 ?_
    exact hR 24 _ _ _ dX6_feed_24 hw
theorem mm_feed {l : Launch} {S : Adr} (hD : MD S) {x1 : Int32} {x2 : Int32} {x3 : Int32} {x4 : Int32} {x5 : Int32} {σ : FS} {Q : Int32 → FS → Prop} (hw : mw_feed x1 x2 x3 x4 x5 σ Q) : mMet l S 1 yX6_feed [.int x1, .int x2, .int x3, .int x4, .int x5] σ (mQi S Q) :=
  m_metI hD ⟨rfl, by decide, by show _ = some 5; decide +kernel, q2104⟩ q2102 q2103 (Nat.le_of_ble_eq_true rfl) (fun κ Z h hR => mt_feed h hR hw)
def mw_isTaken_2 (x1 : Int32) (x2 : Int32) (σ : FS) (Q : Int32 → FS → Prop) : Prop :=
  ∀ X2 : Int32 → Int32 → FS → Prop, (∀ (x1 : Int32) (x2 : Int32) (σ : FS), mw_personMany σ (fun r2 σ1 => ((r2 ≤ x2 → Q (0 : Int32) σ1) ∧ (¬ r2 ≤ x2 → mw_cellOf x2 σ1 (fun r4 σ3 => ((¬ r4 = x1 → X2 x1 (x2 + 1) σ3) ∧ (r4 = x1 → Q (1 : Int32) σ3)))))) → X2 x1 x2 σ) → X2 x1 x2 σ
theorem mt_isTaken_2 {κ : Cx} {S : Adr} {Z : State → Prop} {Q : Int32 → FS → Prop} (h : MCx κ cX6_isTaken S 2) (hR : RetZ κ S Z cX6_isTaken Q) {x1 : Int32} {x2 : Int32} {σ : FS} (hw : mw_isTaken_2 x1 x2 σ Q) : MG κ S Z 2 σ [some (.ref (S.2.1 0)), some (.int x1), some (.int x2)] [] := by
  refine hw (fun x1 x2 σ => MG κ S Z 2 σ [some (.ref (S.2.1 0)), some (.int x1), some (.int x2)] []) ?_
  clear hw
  intro x1 x2 σ hw
  have hX2 : ∀ (x1 : Int32) (x2 : Int32) (σ : FS), MG κ S Z 2 σ [some (.ref (S.2.1 0)), some (.int x1), some (.int x2)] [] → MG κ S Z 2 σ [some (.ref (S.2.1 0)), some (.int x1), some (.int x2)] [] := fun _ _ _ hh => hh
  refine g_iload_2 2 h.1 dX6_isTaken_2 ?_
  refine g_aload_0 3 h.1 dX6_isTaken_3 ?_
  refine m_callI_0 4 h (mm_personMany h.2.2.1 hw) (by decide) q2307 (Nat.le_of_ble_eq_true rfl) dX6_isTaken_4 (fun r2 σ1 hw => ?_)
  refine g_icmp_ge 7 27 h.1 dX6_isTaken_7 (by decide) (fun c => ?_) (fun c => ?_)
  · have hw := hw.1 c
    refine g_iconstv 27 _ ic_0 h.1 dX6_isTaken_27 ?_
    exact hR 28 _ _ _ dX6_isTaken_28 rfl hw
  · have hw := hw.2 c
    refine g_aload_0 10 h.1 dX6_isTaken_10 ?_
    refine g_iload_2 11 h.1 dX6_isTaken_11 ?_
    refine m_callI_1 12 h (mm_cellOf h.2.2.1 hw) (by decide) q2352 (Nat.le_of_ble_eq_true rfl) dX6_isTaken_12 (fun r4 σ3 hw => ?_)
    refine g_iload_1 15 h.1 dX6_isTaken_15 ?_
    refine g_icmp_ne 16 21 h.1 dX6_isTaken_16 (by decide) (fun c => ?_) (fun c => ?_)
    · have hw := hw.1 c
      refine g_iinc_2 21 (x2 + 1) (congrArg _ ic_1) h.1 rfl dX6_isTaken_21 ?_
      refine g_goto 24 2 h.1 dX6_isTaken_24 (by decide) ?_
      exact g_le (hX2 _ _ _ hw) ⟨rfl, rfl, rfl, trivial⟩
    · have hw := hw.2 c
      refine g_iconstv 19 _ ic_1 h.1 dX6_isTaken_19 ?_
      exact hR 20 _ _ _ dX6_isTaken_20 rfl hw
def mw_isTaken (x1 : Int32) (σ : FS) (Q : Int32 → FS → Prop) : Prop :=
  mw_isTaken_2 x1 (0 : Int32) σ Q
theorem mt_isTaken {κ : Cx} {S : Adr} {Z : State → Prop} {Q : Int32 → FS → Prop} (h : MCx κ cX6_isTaken S 2) (hR : RetZ κ S Z cX6_isTaken Q) {x1 : Int32} {σ : FS} (hw : mw_isTaken x1 σ Q) : MG κ S Z 0 σ [some (.ref (S.2.1 0)), some (.int x1), none] [] := by
  unfold mw_isTaken at hw
  refine g_iconstv 0 _ ic_0 h.1 dX6_isTaken_0 ?_
  refine g_istore_2 1 h.1 rfl dX6_isTaken_1 ?_
  exact g_le (mt_isTaken_2 h hR hw) ⟨rfl, rfl, rfl, trivial⟩
theorem mm_isTaken {l : Launch} {S : Adr} (hD : MD S) {x1 : Int32} {σ : FS} {Q : Int32 → FS → Prop} (hw : mw_isTaken x1 σ Q) : mMet l S 2 yX6_isTaken [.int x1] σ (mQi S Q) :=
  m_metZ hD ⟨rfl, by decide, by show _ = some 1; decide +kernel, q2616⟩ q2615 qs160 (Nat.le_of_ble_eq_true rfl) (fun κ Z h hR => mt_isTaken h hR hw)
def mw_go_31 (σ : FS) (Q : Int32 → FS → Prop) : Prop :=
  mw_isRefused σ (fun r10 σ9 => (nb r10 ∧ Q r10 σ9))
theorem mt_go_31 {κ : Cx} {S : Adr} {Z : State → Prop} {Q : Int32 → FS → Prop} (h : MCx κ cX6_go S 3) (hR : RetZ κ S Z cX6_go Q) {σ : FS} (hw : mw_go_31 σ Q) : MG κ S Z 31 σ [some (.ref (S.2.1 0)), none, none, none, none] [] := by
  unfold mw_go_31 at hw
  refine g_aload_0 31 h.1 dX6_go_31 ?_
  refine m_callI_0 32 h (mm_isRefused h.2.2.1 hw) (by decide) q2605 (Nat.le_of_ble_eq_true rfl) dX6_go_32 (fun r10 σ9 hw => ?_)
  exact hR 35 _ _ _ dX6_go_35 hw.1 hw.2
def mw_go (x1 : Int32) (x2 : Int32) (x3 : Int32) (σ : FS) (Q : Int32 → FS → Prop) : Prop :=
  mw_cellAt x2 x3 σ (fun r2 σ1 => ((r2 = (-1 : Int32) → mw_go_31 σ1 Q) ∧ (¬ r2 = (-1 : Int32) → mw_isPerson x1 σ1 (fun r4 σ3 => ((r4 = 0 → mw_go_31 σ3 Q) ∧ (¬ r4 = 0 → mw_isTaken r2 σ3 (fun r6 σ5 => ((r6 = 0 → mw_stores σ5 (fun σ7 => (vp_in ((50 : Int32) + ((3 : Int32) * x1)) 232 ∧ ∀ σ8, σ8 = sA σ7 52 (Int32.toNatClampNeg ((50 : Int32) + ((3 : Int32) * x1))) r2 → Q (1 : Int32) σ8))) ∧ (¬ r6 = 0 → mw_go_31 σ5 Q)))))))))
theorem mt_go {κ : Cx} {S : Adr} {Z : State → Prop} {Q : Int32 → FS → Prop} (h : MCx κ cX6_go S 3) (hR : RetZ κ S Z cX6_go Q) {x1 : Int32} {x2 : Int32} {x3 : Int32} {σ : FS} (hw : mw_go x1 x2 x3 σ Q) : MG κ S Z 0 σ [some (.ref (S.2.1 0)), some (.int x1), some (.int x2), some (.int x3), none] [] := by
  unfold mw_go at hw
  refine g_aload_0 0 h.1 dX6_go_0 ?_
  refine g_iload_2 1 h.1 dX6_go_1 ?_
  refine g_iload_3 2 h.1 dX6_go_2 ?_
  refine m_callI_2 3 h (mm_cellAt h.2.2.1 hw) (by decide) q2340 (Nat.le_of_ble_eq_true rfl) dX6_go_3 (fun r2 σ1 hw => ?_)
  refine g_istore_4 6 h.1 rfl dX6_go_6 ?_
  refine g_iload_4 8 h.1 dX6_go_8 ?_
  refine g_iconstv 10 _ ic_m1 h.1 dX6_go_10 ?_
  refine g_icmp_eq 11 31 h.1 dX6_go_11 (by decide) (fun c => ?_) (fun c => ?_)
  · have hw := hw.1 c
    exact g_le (mt_go_31 h hR hw) ⟨rfl, trivial⟩
  · have hw := hw.2 c
    refine g_aload_0 14 h.1 dX6_go_14 ?_
    refine g_iload_1 15 h.1 dX6_go_15 ?_
    refine m_callI_1 16 h (mm_isPerson h.2.2.1 hw) (by decide) q2348 (Nat.le_of_ble_eq_true rfl) dX6_go_16 (fun r4 σ3 hw => ?_)
    refine g_if_eq 19 31 h.1 dX6_go_19 (by decide) (fun c => ?_) (fun c => ?_)
    · have hw := hw.1 c
      exact g_le (mt_go_31 h hR hw) ⟨rfl, trivial⟩
    · have hw := hw.2 c
      refine g_aload_0 22 h.1 dX6_go_22 ?_
      refine g_iload_4 23 h.1 dX6_go_23 ?_
      refine m_callI_1 25 h (mm_isTaken h.2.2.1 hw) (by decide) q2613 (Nat.le_of_ble_eq_true rfl) dX6_go_25 (fun r6 σ5 hw => ?_)
      refine g_if_eq 28 36 h.1 dX6_go_28 (by decide) (fun c => ?_) (fun c => ?_)
      · have hw := hw.1 c
        refine g_aload_0 36 h.1 dX6_go_36 ?_
        refine m_callV_0 37 h (mm_stores h.2.2.1 hw) (by decide) q2597 (Nat.le_of_ble_eq_true rfl) dX6_go_37 (fun σ7 hw => ?_)
        refine g_aload_0 40 h.1 dX6_go_40 ?_
        refine mg_52 41 h dX6_go_41 ?_
        refine g_bipush 44 _ bp_50 h.1 dX6_go_44 ?_
        refine g_iconstv 46 _ ic_3 h.1 dX6_go_46 ?_
        refine g_iload_1 47 h.1 dX6_go_47 ?_
        refine g_imul 48 h.1 dX6_go_48 ?_
        refine g_iadd 49 h.1 dX6_go_49 ?_
        refine g_iload_4 50 h.1 dX6_go_50 ?_
        refine m_iast 52 rfl hw.1 h dX6_go_52 ?_
        have hw := hw.2 _ rfl
        refine g_iconstv 53 _ ic_1 h.1 dX6_go_53 ?_
        exact hR 54 _ _ _ dX6_go_54 rfl hw
      · have hw := hw.2 c
        exact g_le (mt_go_31 h hR hw) ⟨rfl, trivial⟩
theorem mm_go {l : Launch} {S : Adr} (hD : MD S) {x1 : Int32} {x2 : Int32} {x3 : Int32} {σ : FS} {Q : Int32 → FS → Prop} (hw : mw_go x1 x2 x3 σ Q) : mMet l S 3 yX6_go [.int x1, .int x2, .int x3] σ (mQi S Q) :=
  m_metZ hD ⟨rfl, by decide, by show _ = some 3; decide +kernel, q2612⟩ q2610 q2611 (Nat.le_of_ble_eq_true rfl) (fun κ Z h hR => mt_go h hR hw)
def mw_heightsAll_4 (x1 : Int32) (x2 : Int32) (σ : FS) (Q : Int32 → FS → Prop) : Prop :=
  ∀ X4 : Int32 → Int32 → FS → Prop, (∀ (x1 : Int32) (x2 : Int32) (σ : FS), mw_cellMany σ (fun r2 σ1 => ((r2 ≤ x2 → Q x1 σ1) ∧ (¬ r2 ≤ x2 → mw_cellOrder x2 σ1 (fun r4 σ3 => mw_heightOf r4 σ3 (fun r6 σ5 => X4 (x1 + r6) (x2 + 1) σ5))))) → X4 x1 x2 σ) → X4 x1 x2 σ
theorem mt_heightsAll_4 {κ : Cx} {S : Adr} {Z : State → Prop} {Q : Int32 → FS → Prop} (h : MCx κ cX6_heightsAll S 2) (hR : RetI κ S Z cX6_heightsAll Q) {x1 : Int32} {x2 : Int32} {σ : FS} (hw : mw_heightsAll_4 x1 x2 σ Q) : MG κ S Z 4 σ [some (.ref (S.2.1 0)), some (.int x1), some (.int x2)] [] := by
  refine hw (fun x1 x2 σ => MG κ S Z 4 σ [some (.ref (S.2.1 0)), some (.int x1), some (.int x2)] []) ?_
  clear hw
  intro x1 x2 σ hw
  have hX4 : ∀ (x1 : Int32) (x2 : Int32) (σ : FS), MG κ S Z 4 σ [some (.ref (S.2.1 0)), some (.int x1), some (.int x2)] [] → MG κ S Z 4 σ [some (.ref (S.2.1 0)), some (.int x1), some (.int x2)] [] := fun _ _ _ hh => hh
  refine g_iload_2 4 h.1 dX6_heightsAll_4 ?_
  refine g_aload_0 5 h.1 dX6_heightsAll_5 ?_
  refine m_callI_0 6 h (mm_cellMany h.2.2.1 hw) (by decide) q2319 (Nat.le_of_ble_eq_true rfl) dX6_heightsAll_6 (fun r2 σ1 hw => ?_)
  refine g_icmp_ge 9 30 h.1 dX6_heightsAll_9 (by decide) (fun c => ?_) (fun c => ?_)
  · have hw := hw.1 c
    refine g_iload_1 30 h.1 dX6_heightsAll_30 ?_
    exact hR 31 _ _ _ dX6_heightsAll_31 hw
  · have hw := hw.2 c
    refine g_iload_1 12 h.1 dX6_heightsAll_12 ?_
    refine g_aload_0 13 h.1 dX6_heightsAll_13 ?_
    refine g_aload_0 14 h.1 dX6_heightsAll_14 ?_
    refine g_iload_2 15 h.1 dX6_heightsAll_15 ?_
    refine m_callI_1 16 h (mm_cellOrder h.2.2.1 hw) (by decide) q2323 (Nat.le_of_ble_eq_true rfl) dX6_heightsAll_16 (fun r4 σ3 hw => ?_)
    refine m_callI_1 19 h (mm_heightOf h.2.2.1 hw) (by decide) q2327 (Nat.le_of_ble_eq_true rfl) dX6_heightsAll_19 (fun r6 σ5 hw => ?_)
    refine g_iadd 22 h.1 dX6_heightsAll_22 ?_
    refine g_istore_1 23 h.1 rfl dX6_heightsAll_23 ?_
    refine g_iinc_2 24 (x2 + 1) (congrArg _ ic_1) h.1 rfl dX6_heightsAll_24 ?_
    refine g_goto 27 4 h.1 dX6_heightsAll_27 (by decide) ?_
    exact g_le (hX4 _ _ _ hw) ⟨rfl, rfl, rfl, trivial⟩
def mw_heightsAll (σ : FS) (Q : Int32 → FS → Prop) : Prop :=
  mw_heightsAll_4 (0 : Int32) (0 : Int32) σ Q
theorem mt_heightsAll {κ : Cx} {S : Adr} {Z : State → Prop} {Q : Int32 → FS → Prop} (h : MCx κ cX6_heightsAll S 2) (hR : RetI κ S Z cX6_heightsAll Q) {σ : FS} (hw : mw_heightsAll σ Q) : MG κ S Z 0 σ [some (.ref (S.2.1 0)), none, none] [] := by
  unfold mw_heightsAll at hw
  refine g_iconstv 0 _ ic_0 h.1 dX6_heightsAll_0 ?_
  refine g_istore_1 1 h.1 rfl dX6_heightsAll_1 ?_
  refine g_iconstv 2 _ ic_0 h.1 dX6_heightsAll_2 ?_
  refine g_istore_2 3 h.1 rfl dX6_heightsAll_3 ?_
  exact g_le (mt_heightsAll_4 h hR hw) ⟨rfl, rfl, rfl, trivial⟩
theorem mm_heightsAll {l : Launch} {S : Adr} (hD : MD S) {σ : FS} {Q : Int32 → FS → Prop} (hw : mw_heightsAll σ Q) : mMet l S 2 yX6_heightsAll [] σ (mQi S Q) :=
  m_metI hD ⟨rfl, by decide, by show _ = some 0; decide +kernel, q2318⟩ q2317 qs112 (Nat.le_of_ble_eq_true rfl) (fun κ Z h hR => mt_heightsAll h hR hw)
def mw_has_56 (x1 : Int32) (σ : FS) (Q : Int32 → FS → Prop) : Prop :=
  (vp_in ((3 : Int32) + x1) 6 ∧ Q (fA σ 39 (Int32.toNatClampNeg ((3 : Int32) + x1))) σ)
theorem mt_has_56 {κ : Cx} {S : Adr} {Z : State → Prop} {Q : Int32 → FS → Prop} (h : MCx κ cX6_has S 3) (hR : RetI κ S Z cX6_has Q) {x1 : Int32} {σ : FS} (hw : mw_has_56 x1 σ Q) : MG κ S Z 56 σ [some (.ref (S.2.1 0)), some (.int x1)] [] := by
  unfold mw_has_56 at hw
  refine g_aload_0 56 h.1 dX6_has_56 ?_
  refine mg_39 57 h dX6_has_57 ?_
  refine g_iconstv 60 _ ic_3 h.1 dX6_has_60 ?_
  refine g_iload_1 61 h.1 dX6_has_61 ?_
  refine g_iadd 62 h.1 dX6_has_62 ?_
  refine m_iald 63 rfl hw.1 h dX6_has_63 ?_
  have hw := hw.2
  exact hR 64 _ _ _ dX6_has_64 hw
def mw_has (x1 : Int32) (σ : FS) (Q : Int32 → FS → Prop) : Prop :=
  ((x1 = 0 → mw_has_56 x1 σ Q) ∧ (¬ x1 = 0 → ((x1 = 1 → mw_has_56 x1 σ Q) ∧ (¬ x1 = 1 → ((x1 = 2 → mw_topicMany σ (fun r2 σ1 => Q r2 σ1)) ∧ (¬ x1 = 2 → ((x1 = 3 → mw_personMany σ (fun r4 σ3 => Q r4 σ3)) ∧ (¬ x1 = 3 → ((x1 = 4 → mw_listMany σ (fun r6 σ5 => Q r6 σ5)) ∧ (¬ x1 = 4 → ((x1 = 5 → (vp_in (0 : Int32) 232 ∧ Q (fA σ 52 (Int32.toNatClampNeg (0 : Int32))) σ)) ∧ (¬ x1 = 5 → ((x1 = 6 → mw_heightsAll σ (fun r8 σ7 => Q r8 σ7)) ∧ (¬ x1 = 6 → ((x1 = 7 → (vp_in (71 : Int32) 232 ∧ Q (fA σ 52 (Int32.toNatClampNeg (71 : Int32))) σ)) ∧ (¬ x1 = 7 → ((x1 = 8 → Q (fI σ 0 71) σ) ∧ (¬ x1 = 8 → ((x1 = 9 → Q (fI σ 0 76) σ) ∧ (¬ x1 = 9 → Q (-1 : Int32) σ))))))))))))))))))))
theorem mt_has {κ : Cx} {S : Adr} {Z : State → Prop} {Q : Int32 → FS → Prop} (h : MCx κ cX6_has S 3) (hR : RetI κ S Z cX6_has Q) {x1 : Int32} {σ : FS} (hw : mw_has x1 σ Q) : MG κ S Z 0 σ [some (.ref (S.2.1 0)), some (.int x1)] [] := by
  unfold mw_has at hw
  refine g_iload_1 0 h.1 dX6_has_0 ?_
  rcases Classical.em (x1 = 0) with c0 | c0
  · have hw := hw.1 c0
    refine g_tabIn 1 56 55 h.1 dX6_has_1 (by rw [c0]; decide) (by rw [c0]; decide) (by rw [c0]; decide) (by decide) ?_
    exact g_le (mt_has_56 h hR hw) ⟨rfl, rfl, trivial⟩
  · have hw := hw.2 c0
    rcases Classical.em (x1 = 1) with c1 | c1
    · have hw := hw.1 c1
      refine g_tabIn 1 56 55 h.1 dX6_has_1 (by rw [c1]; decide) (by rw [c1]; decide) (by rw [c1]; decide) (by decide) ?_
      exact g_le (mt_has_56 h hR hw) ⟨rfl, rfl, trivial⟩
    · have hw := hw.2 c1
      rcases Classical.em (x1 = 2) with c2 | c2
      · have hw := hw.1 c2
        refine g_tabIn 1 65 64 h.1 dX6_has_1 (by rw [c2]; decide) (by rw [c2]; decide) (by rw [c2]; decide) (by decide) ?_
        refine g_aload_0 65 h.1 dX6_has_65 ?_
        refine m_callI_0 66 h (mm_topicMany h.2.2.1 hw) (by decide) q2303 (Nat.le_of_ble_eq_true rfl) dX6_has_66 (fun r2 σ1 hw => ?_)
        exact hR 69 _ _ _ dX6_has_69 hw
      · have hw := hw.2 c2
        rcases Classical.em (x1 = 3) with c3 | c3
        · have hw := hw.1 c3
          refine g_tabIn 1 70 69 h.1 dX6_has_1 (by rw [c3]; decide) (by rw [c3]; decide) (by rw [c3]; decide) (by decide) ?_
          refine g_aload_0 70 h.1 dX6_has_70 ?_
          refine m_callI_0 71 h (mm_personMany h.2.2.1 hw) (by decide) q2307 (Nat.le_of_ble_eq_true rfl) dX6_has_71 (fun r4 σ3 hw => ?_)
          exact hR 74 _ _ _ dX6_has_74 hw
        · have hw := hw.2 c3
          rcases Classical.em (x1 = 4) with c4 | c4
          · have hw := hw.1 c4
            refine g_tabIn 1 75 74 h.1 dX6_has_1 (by rw [c4]; decide) (by rw [c4]; decide) (by rw [c4]; decide) (by decide) ?_
            refine g_aload_0 75 h.1 dX6_has_75 ?_
            refine m_callI_0 76 h (mm_listMany h.2.2.1 hw) (by decide) q2311 (Nat.le_of_ble_eq_true rfl) dX6_has_76 (fun r6 σ5 hw => ?_)
            exact hR 79 _ _ _ dX6_has_79 hw
          · have hw := hw.2 c4
            rcases Classical.em (x1 = 5) with c5 | c5
            · have hw := hw.1 c5
              refine g_tabIn 1 80 79 h.1 dX6_has_1 (by rw [c5]; decide) (by rw [c5]; decide) (by rw [c5]; decide) (by decide) ?_
              refine g_aload_0 80 h.1 dX6_has_80 ?_
              refine mg_52 81 h dX6_has_81 ?_
              refine g_iconstv 84 _ ic_0 h.1 dX6_has_84 ?_
              refine m_iald 85 rfl hw.1 h dX6_has_85 ?_
              have hw := hw.2
              exact hR 86 _ _ _ dX6_has_86 hw
            · have hw := hw.2 c5
              rcases Classical.em (x1 = 6) with c6 | c6
              · have hw := hw.1 c6
                refine g_tabIn 1 87 86 h.1 dX6_has_1 (by rw [c6]; decide) (by rw [c6]; decide) (by rw [c6]; decide) (by decide) ?_
                refine g_aload_0 87 h.1 dX6_has_87 ?_
                refine m_callI_0 88 h (mm_heightsAll h.2.2.1 hw) (by decide) q2315 (Nat.le_of_ble_eq_true rfl) dX6_has_88 (fun r8 σ7 hw => ?_)
                exact hR 91 _ _ _ dX6_has_91 hw
              · have hw := hw.2 c6
                rcases Classical.em (x1 = 7) with c7 | c7
                · have hw := hw.1 c7
                  refine g_tabIn 1 92 91 h.1 dX6_has_1 (by rw [c7]; decide) (by rw [c7]; decide) (by rw [c7]; decide) (by decide) ?_
                  refine g_aload_0 92 h.1 dX6_has_92 ?_
                  refine mg_52 93 h dX6_has_93 ?_
                  refine g_bipush 96 _ bp_71 h.1 dX6_has_96 ?_
                  refine m_iald 98 rfl hw.1 h dX6_has_98 ?_
                  have hw := hw.2
                  exact hR 99 _ _ _ dX6_has_99 hw
                · have hw := hw.2 c7
                  rcases Classical.em (x1 = 8) with c8 | c8
                  · have hw := hw.1 c8
                    refine g_tabIn 1 100 99 h.1 dX6_has_1 (by rw [c8]; decide) (by rw [c8]; decide) (by rw [c8]; decide) (by decide) ?_
                    refine g_aload_0 100 h.1 dX6_has_100 ?_
                    refine mg_71 101 h dX6_has_101 ?_
                    exact hR 104 _ _ _ dX6_has_104 hw
                  · have hw := hw.2 c8
                    rcases Classical.em (x1 = 9) with c9 | c9
                    · have hw := hw.1 c9
                      refine g_tabIn 1 105 104 h.1 dX6_has_1 (by rw [c9]; decide) (by rw [c9]; decide) (by rw [c9]; decide) (by decide) ?_
                      refine g_aload_0 105 h.1 dX6_has_105 ?_
                      refine mg_76 106 h dX6_has_106 ?_
                      exact hR 109 _ _ _ dX6_has_109 hw
                    · have hw := hw.2 c9
                      refine g_tabOut 1 110 h.1 dX6_has_1 (tabOut_0_9 c0 c1 c2 c3 c4 c5 c6 c7 c8 c9) (by decide) ?_
                      refine g_iconstv 110 _ ic_m1 h.1 dX6_has_110 ?_
                      exact hR 111 _ _ _ dX6_has_111 hw
theorem mm_has {l : Launch} {S : Adr} (hD : MD S) {x1 : Int32} {σ : FS} {Q : Int32 → FS → Prop} (hw : mw_has x1 σ Q) : mMet l S 3 yX6_has [.int x1] σ (mQi S Q) :=
  m_metI hD ⟨rfl, by decide, by show _ = some 1; decide +kernel, q2302⟩ q2300 q2301 (Nat.le_of_ble_eq_true rfl) (fun κ Z h hR => mt_has h hR hw)
def mw_height (x1 : Int32) (x2 : Int32) (σ : FS) (Q : Int32 → FS → Prop) : Prop :=
  mw_cellAt x1 x2 σ (fun r2 σ1 => ((¬ r2 = (-1 : Int32) → mw_heightOf r2 σ1 (fun r4 σ3 => Q r4 σ3)) ∧ (r2 = (-1 : Int32) → Q (-1 : Int32) σ1)))
theorem mt_height {κ : Cx} {S : Adr} {Z : State → Prop} {Q : Int32 → FS → Prop} (h : MCx κ cX6_height S 3) (hR : RetI κ S Z cX6_height Q) {x1 : Int32} {x2 : Int32} {σ : FS} (hw : mw_height x1 x2 σ Q) : MG κ S Z 0 σ [some (.ref (S.2.1 0)), some (.int x1), some (.int x2), none] [] := by
  unfold mw_height at hw
  refine g_aload_0 0 h.1 dX6_height_0 ?_
  refine g_iload_1 1 h.1 dX6_height_1 ?_
  refine g_iload_2 2 h.1 dX6_height_2 ?_
  refine m_callI_2 3 h (mm_cellAt h.2.2.1 hw) (by decide) q2340 (Nat.le_of_ble_eq_true rfl) dX6_height_3 (fun r2 σ1 hw => ?_)
  refine g_istore_3 6 h.1 rfl dX6_height_6 ?_
  refine g_iload_3 7 h.1 dX6_height_7 ?_
  refine g_iconstv 8 _ ic_m1 h.1 dX6_height_8 ?_
  refine g_icmp_ne 9 16 h.1 dX6_height_9 (by decide) (fun c => ?_) (fun c => ?_)
  · have hw := hw.1 c
    refine g_aload_0 16 h.1 dX6_height_16 ?_
    refine g_iload_3 17 h.1 dX6_height_17 ?_
    refine m_callI_1 18 h (mm_heightOf h.2.2.1 hw) (by decide) q2327 (Nat.le_of_ble_eq_true rfl) dX6_height_18 (fun r4 σ3 hw => ?_)
    exact hR 21 _ _ _ dX6_height_21 hw
  · have hw := hw.2 c
    refine g_iconstv 12 _ ic_m1 h.1 dX6_height_12 ?_
    refine g_goto 13 21 h.1 dX6_height_13 (by decide) ?_
    exact hR 21 _ _ _ dX6_height_21 hw
theorem mm_height {l : Launch} {S : Adr} (hD : MD S) {x1 : Int32} {x2 : Int32} {σ : FS} {Q : Int32 → FS → Prop} (hw : mw_height x1 x2 σ Q) : mMet l S 3 yX6_height [.int x1, .int x2] σ (mQi S Q) :=
  m_metI hD ⟨rfl, by decide, by show _ = some 2; decide +kernel, q2339⟩ q2337 q2338 (Nat.le_of_ble_eq_true rfl) (fun κ Z h hR => mt_height h hR hw)
def mw_highTold (σ : FS) (Q : FS → Prop) : Prop :=
  mw_cellTold σ (fun r2 σ1 => mw_number (0 : Int32) (99 : Int32) σ1 (fun r4 σ3 => ((¬ (fI σ3 0 5) = 0 → Q σ3) ∧ ((fI σ3 0 5) = 0 → (vp_in r2 49 ∧ ∀ σ5, σ5 = sA σ3 42 (Int32.toNatClampNeg r2) r4 → Q σ5)))))
theorem mt_highTold {κ : Cx} {S : Adr} {Z : State → Prop} {Q : FS → Prop} (h : MCx κ cX6_highTold S 4) (hR : RetV κ S Z cX6_highTold Q) {σ : FS} (hw : mw_highTold σ Q) : MG κ S Z 0 σ [some (.ref (S.2.1 0)), none, none] [] := by
  unfold mw_highTold at hw
  refine g_aload_0 0 h.1 dX6_highTold_0 ?_
  refine m_callI_0 1 h (mm_cellTold h.2.2.1 hw) (by decide) q2166 (Nat.le_of_ble_eq_true rfl) dX6_highTold_1 (fun r2 σ1 hw => ?_)
  refine g_istore_1 4 h.1 rfl dX6_highTold_4 ?_
  refine g_aload_0 5 h.1 dX6_highTold_5 ?_
  refine g_iconstv 6 _ ic_0 h.1 dX6_highTold_6 ?_
  refine g_bipush 7 _ bp_99 h.1 dX6_highTold_7 ?_
  refine m_callI_2 9 h (mm_number h.2.2.1 hw) (by decide) q2140 (Nat.le_of_ble_eq_true rfl) dX6_highTold_9 (fun r4 σ3 hw => ?_)
  refine g_istore_2 12 h.1 rfl dX6_highTold_12 ?_
  refine g_aload_0 13 h.1 dX6_highTold_13 ?_
  refine mg_5 14 h dX6_highTold_14 ?_
  refine g_if_ne 17 27 h.1 dX6_highTold_17 (by decide) (fun c => ?_) (fun c => ?_)
  · have hw := hw.1 c
    exact hR 27 _ _ dX6_highTold_27 hw
  · have hw := hw.2 c
    refine g_aload_0 20 h.1 dX6_highTold_20 ?_
    refine mg_42 21 h dX6_highTold_21 ?_
    refine g_iload_1 24 h.1 dX6_highTold_24 ?_
    refine g_iload_2 25 h.1 dX6_highTold_25 ?_
    refine m_iast 26 rfl hw.1 h dX6_highTold_26 ?_
    have hw := hw.2 _ rfl
    exact hR 27 _ _ dX6_highTold_27 hw
theorem mm_highTold {l : Launch} {S : Adr} (hD : MD S) {σ : FS} {Q : FS → Prop} (hw : mw_highTold σ Q) : mMet l S 4 yX6_highTold [] σ (mQv S Q) :=
  m_metV hD ⟨rfl, by decide, by show _ = some 0; decide +kernel, q2165⟩ q2164 qs77 (Nat.le_of_ble_eq_true rfl) (fun κ Z h hR => mt_highTold h hR hw)
def mw_writes (x1 : Int32) (σ : FS) (Q : FS → Prop) : Prop :=
  (vp_in (fI σ 0 113) 80 ∧ ∀ σ1, σ1 = sA σ 112 (Int32.toNatClampNeg (fI σ 0 113)) x1 → (∀ σ2, σ2 = sI σ1 0 113 ((fI σ1 0 113) + (1 : Int32)) → Q σ2))
theorem mt_writes {κ : Cx} {S : Adr} {Z : State → Prop} {Q : FS → Prop} (h : MCx κ cX6_writes S 1) (hR : RetV κ S Z cX6_writes Q) {x1 : Int32} {σ : FS} (hw : mw_writes x1 σ Q) : MG κ S Z 0 σ [some (.ref (S.2.1 0)), some (.int x1)] [] := by
  unfold mw_writes at hw
  refine g_aload_0 0 h.1 dX6_writes_0 ?_
  refine mg_112 1 h dX6_writes_1 ?_
  refine g_aload_0 4 h.1 dX6_writes_4 ?_
  refine mg_113 5 h dX6_writes_5 ?_
  refine g_iload_1 8 h.1 dX6_writes_8 ?_
  refine m_iast 9 rfl hw.1 h dX6_writes_9 ?_
  have hw := hw.2 _ rfl
  refine g_aload_0 10 h.1 dX6_writes_10 ?_
  refine g_dup 11 rfl h.1 dX6_writes_11 ?_
  refine mg_113 12 h dX6_writes_12 ?_
  refine g_iconstv 15 _ ic_1 h.1 dX6_writes_15 ?_
  refine g_iadd 16 h.1 dX6_writes_16 ?_
  refine mp_113 17 h dX6_writes_17 ?_
  have hw := hw _ rfl
  exact hR 20 _ _ dX6_writes_20 hw
theorem mm_writes {l : Launch} {S : Adr} (hD : MD S) {x1 : Int32} {σ : FS} {Q : FS → Prop} (hw : mw_writes x1 σ Q) : mMet l S 1 yX6_writes [.int x1] σ (mQv S Q) :=
  m_metV hD ⟨rfl, by decide, by show _ = some 1; decide +kernel, q2674⟩ q2673 qs167 (Nat.le_of_ble_eq_true rfl) (fun κ Z h hR => mt_writes h hR hw)
def mw_image_64 (x1 : Int32) (σ : FS) (Q : Int32 → FS → Prop) : Prop :=
  ∀ X64 : Int32 → FS → Prop, (∀ (x1 : Int32) (σ : FS), mw_personMany σ (fun r12 σ11 => ((r12 ≤ x1 → mw_checked 112 (fI σ11 0 113) σ11 (fun r14 σ13 => mw_writes r14 σ13 (fun σ15 => Q (fI σ15 0 113) σ15))) ∧ (¬ r12 ≤ x1 → mw_cellOf x1 σ11 (fun r17 σ16 => mw_writes (r17 - r17 / (7 : Int32) * (7 : Int32)) σ16 (fun σ18 => mw_cellOf x1 σ18 (fun r20 σ19 => mw_writes (r20 / (7 : Int32)) σ19 (fun σ21 => mw_tiredOf x1 σ21 (fun r23 σ22 => mw_writes r23 σ22 (fun σ24 => mw_knowsOf x1 σ24 (fun r26 σ25 => mw_writes r26 σ25 (fun σ27 => X64 (x1 + 1) σ27))))))))))) → X64 x1 σ) → X64 x1 σ
theorem mt_image_64 {κ : Cx} {S : Adr} {Z : State → Prop} {Q : Int32 → FS → Prop} (h : MCx κ cX6_image S 2) (hR : RetI κ S Z cX6_image Q) {x1 : Int32} {σ : FS} (hw : mw_image_64 x1 σ Q) : MG κ S Z 64 σ [some (.ref (S.2.1 0)), some (.int x1)] [] := by
  refine hw (fun x1 σ => MG κ S Z 64 σ [some (.ref (S.2.1 0)), some (.int x1)] []) ?_
  clear hw
  intro x1 σ hw
  have hX64 : ∀ (x1 : Int32) (σ : FS), MG κ S Z 64 σ [some (.ref (S.2.1 0)), some (.int x1)] [] → MG κ S Z 64 σ [some (.ref (S.2.1 0)), some (.int x1)] [] := fun _ _ hh => hh
  refine g_iload_1 64 h.1 dX6_image_64 ?_
  refine g_aload_0 65 h.1 dX6_image_65 ?_
  refine m_callI_0 66 h (mm_personMany h.2.2.1 hw) (by decide) q2307 (Nat.le_of_ble_eq_true rfl) dX6_image_66 (fun r12 σ11 hw => ?_)
  refine g_icmp_ge 69 120 h.1 dX6_image_69 (by decide) (fun c => ?_) (fun c => ?_)
  · have hw := hw.1 c
    refine g_aload_0 120 h.1 dX6_image_120 ?_
    refine g_aload_0 121 h.1 dX6_image_121 ?_
    refine mg_112 122 h dX6_image_122 ?_
    refine g_aload_0 125 h.1 dX6_image_125 ?_
    refine mg_113 126 h dX6_image_126 ?_
    refine m_scallI_2 129 h (mm_checked h.2.2.1 hw) (by decide) q2675 (Nat.le_of_ble_eq_true rfl) dX6_image_129 (fun r14 σ13 hw => ?_)
    refine m_callV_1 132 h (mm_writes h.2.2.1 hw) (by decide) q2671 (Nat.le_of_ble_eq_true rfl) dX6_image_132 (fun σ15 hw => ?_)
    refine g_aload_0 135 h.1 dX6_image_135 ?_
    refine mg_113 136 h dX6_image_136 ?_
    exact hR 139 _ _ _ dX6_image_139 hw
  · have hw := hw.2 c
    refine g_aload_0 72 h.1 dX6_image_72 ?_
    refine g_aload_0 73 h.1 dX6_image_73 ?_
    refine g_iload_1 74 h.1 dX6_image_74 ?_
    refine m_callI_1 75 h (mm_cellOf h.2.2.1 hw) (by decide) q2352 (Nat.le_of_ble_eq_true rfl) dX6_image_75 (fun r17 σ16 hw => ?_)
    refine g_bipush 78 _ bp_7 h.1 dX6_image_78 ?_
    refine g_irem 80 (by decide) h.1 dX6_image_80 ?_
    refine m_callV_1 81 h (mm_writes h.2.2.1 hw) (by decide) q2671 (Nat.le_of_ble_eq_true rfl) dX6_image_81 (fun σ18 hw => ?_)
    refine g_aload_0 84 h.1 dX6_image_84 ?_
    refine g_aload_0 85 h.1 dX6_image_85 ?_
    refine g_iload_1 86 h.1 dX6_image_86 ?_
    refine m_callI_1 87 h (mm_cellOf h.2.2.1 hw) (by decide) q2352 (Nat.le_of_ble_eq_true rfl) dX6_image_87 (fun r20 σ19 hw => ?_)
    refine g_bipush 90 _ bp_7 h.1 dX6_image_90 ?_
    refine g_idiv 92 (by decide) h.1 dX6_image_92 ?_
    refine m_callV_1 93 h (mm_writes h.2.2.1 hw) (by decide) q2671 (Nat.le_of_ble_eq_true rfl) dX6_image_93 (fun σ21 hw => ?_)
    refine g_aload_0 96 h.1 dX6_image_96 ?_
    refine g_aload_0 97 h.1 dX6_image_97 ?_
    refine g_iload_1 98 h.1 dX6_image_98 ?_
    refine m_callI_1 99 h (mm_tiredOf h.2.2.1 hw) (by decide) q2356 (Nat.le_of_ble_eq_true rfl) dX6_image_99 (fun r23 σ22 hw => ?_)
    refine m_callV_1 102 h (mm_writes h.2.2.1 hw) (by decide) q2671 (Nat.le_of_ble_eq_true rfl) dX6_image_102 (fun σ24 hw => ?_)
    refine g_aload_0 105 h.1 dX6_image_105 ?_
    refine g_aload_0 106 h.1 dX6_image_106 ?_
    refine g_iload_1 107 h.1 dX6_image_107 ?_
    refine m_callI_1 108 h (mm_knowsOf h.2.2.1 hw) (by decide) q2360 (Nat.le_of_ble_eq_true rfl) dX6_image_108 (fun r26 σ25 hw => ?_)
    refine m_callV_1 111 h (mm_writes h.2.2.1 hw) (by decide) q2671 (Nat.le_of_ble_eq_true rfl) dX6_image_111 (fun σ27 hw => ?_)
    refine g_iinc_1 114 (x1 + 1) (congrArg _ ic_1) h.1 rfl dX6_image_114 ?_
    refine g_goto 117 64 h.1 dX6_image_117 (by decide) ?_
    exact g_le (hX64 _ _ hw) ⟨rfl, rfl, trivial⟩
def mw_image_35 (x1 : Int32) (σ : FS) (Q : Int32 → FS → Prop) : Prop :=
  ∀ X35 : Int32 → FS → Prop, (∀ (x1 : Int32) (σ : FS), mw_cellMany σ (fun r5 σ4 => ((r5 ≤ x1 → mw_image_64 (0 : Int32) σ4 Q) ∧ (¬ r5 ≤ x1 → mw_cellOrder x1 σ4 (fun r7 σ6 => mw_heightOf r7 σ6 (fun r9 σ8 => mw_writes r9 σ8 (fun σ10 => X35 (x1 + 1) σ10)))))) → X35 x1 σ) → X35 x1 σ
theorem mt_image_35 {κ : Cx} {S : Adr} {Z : State → Prop} {Q : Int32 → FS → Prop} (h : MCx κ cX6_image S 2) (hR : RetI κ S Z cX6_image Q) {x1 : Int32} {σ : FS} (hw : mw_image_35 x1 σ Q) : MG κ S Z 35 σ [some (.ref (S.2.1 0)), some (.int x1)] [] := by
  refine hw (fun x1 σ => MG κ S Z 35 σ [some (.ref (S.2.1 0)), some (.int x1)] []) ?_
  clear hw
  intro x1 σ hw
  have hX35 : ∀ (x1 : Int32) (σ : FS), MG κ S Z 35 σ [some (.ref (S.2.1 0)), some (.int x1)] [] → MG κ S Z 35 σ [some (.ref (S.2.1 0)), some (.int x1)] [] := fun _ _ hh => hh
  refine g_iload_1 35 h.1 dX6_image_35 ?_
  refine g_aload_0 36 h.1 dX6_image_36 ?_
  refine m_callI_0 37 h (mm_cellMany h.2.2.1 hw) (by decide) q2319 (Nat.le_of_ble_eq_true rfl) dX6_image_37 (fun r5 σ4 hw => ?_)
  refine g_icmp_ge 40 62 h.1 dX6_image_40 (by decide) (fun c => ?_) (fun c => ?_)
  · have hw := hw.1 c
    refine g_iconstv 62 _ ic_0 h.1 dX6_image_62 ?_
    refine g_istore_1 63 h.1 rfl dX6_image_63 ?_
    exact g_le (mt_image_64 h hR hw) ⟨rfl, rfl, trivial⟩
  · have hw := hw.2 c
    refine g_aload_0 43 h.1 dX6_image_43 ?_
    refine g_aload_0 44 h.1 dX6_image_44 ?_
    refine g_aload_0 45 h.1 dX6_image_45 ?_
    refine g_iload_1 46 h.1 dX6_image_46 ?_
    refine m_callI_1 47 h (mm_cellOrder h.2.2.1 hw) (by decide) q2323 (Nat.le_of_ble_eq_true rfl) dX6_image_47 (fun r7 σ6 hw => ?_)
    refine m_callI_1 50 h (mm_heightOf h.2.2.1 hw) (by decide) q2327 (Nat.le_of_ble_eq_true rfl) dX6_image_50 (fun r9 σ8 hw => ?_)
    refine m_callV_1 53 h (mm_writes h.2.2.1 hw) (by decide) q2671 (Nat.le_of_ble_eq_true rfl) dX6_image_53 (fun σ10 hw => ?_)
    refine g_iinc_1 56 (x1 + 1) (congrArg _ ic_1) h.1 rfl dX6_image_56 ?_
    refine g_goto 59 35 h.1 dX6_image_59 (by decide) ?_
    exact g_le (hX35 _ _ hw) ⟨rfl, rfl, trivial⟩
def mw_image (σ : FS) (Q : Int32 → FS → Prop) : Prop :=
  (∀ σ1, σ1 = sI σ 0 113 (0 : Int32) → (vp_in (0 : Int32) 232 ∧ mw_writes ((fA σ1 52 (Int32.toNatClampNeg (0 : Int32))) / (256 : Int32)) σ1 (fun σ2 => (vp_in (0 : Int32) 232 ∧ mw_writes ((fA σ2 52 (Int32.toNatClampNeg (0 : Int32))) - (fA σ2 52 (Int32.toNatClampNeg (0 : Int32))) / (256 : Int32) * (256 : Int32)) σ2 (fun σ3 => mw_image_35 (0 : Int32) σ3 Q)))))
theorem mt_image {κ : Cx} {S : Adr} {Z : State → Prop} {Q : Int32 → FS → Prop} (h : MCx κ cX6_image S 2) (hR : RetI κ S Z cX6_image Q) {σ : FS} (hw : mw_image σ Q) : MG κ S Z 0 σ [some (.ref (S.2.1 0)), none] [] := by
  unfold mw_image at hw
  refine g_aload_0 0 h.1 dX6_image_0 ?_
  refine g_iconstv 1 _ ic_0 h.1 dX6_image_1 ?_
  refine mp_113 2 h dX6_image_2 ?_
  have hw := hw _ rfl
  refine g_aload_0 5 h.1 dX6_image_5 ?_
  refine g_aload_0 6 h.1 dX6_image_6 ?_
  refine mg_52 7 h dX6_image_7 ?_
  refine g_iconstv 10 _ ic_0 h.1 dX6_image_10 ?_
  refine m_iald 11 rfl hw.1 h dX6_image_11 ?_
  have hw := hw.2
  refine g_sipush 12 _ sp_256 h.1 dX6_image_12 ?_
  refine g_idiv 15 (by decide) h.1 dX6_image_15 ?_
  refine m_callV_1 16 h (mm_writes h.2.2.1 hw) (by decide) q2671 (Nat.le_of_ble_eq_true rfl) dX6_image_16 (fun σ2 hw => ?_)
  refine g_aload_0 19 h.1 dX6_image_19 ?_
  refine g_aload_0 20 h.1 dX6_image_20 ?_
  refine mg_52 21 h dX6_image_21 ?_
  refine g_iconstv 24 _ ic_0 h.1 dX6_image_24 ?_
  refine m_iald 25 rfl hw.1 h dX6_image_25 ?_
  have hw := hw.2
  refine g_sipush 26 _ sp_256 h.1 dX6_image_26 ?_
  refine g_irem 29 (by decide) h.1 dX6_image_29 ?_
  refine m_callV_1 30 h (mm_writes h.2.2.1 hw) (by decide) q2671 (Nat.le_of_ble_eq_true rfl) dX6_image_30 (fun σ3 hw => ?_)
  refine g_iconstv 33 _ ic_0 h.1 dX6_image_33 ?_
  refine g_istore_1 34 h.1 rfl dX6_image_34 ?_
  exact g_le (mt_image_35 h hR hw) ⟨rfl, rfl, trivial⟩
theorem mm_image {l : Launch} {S : Adr} (hD : MD S) {σ : FS} {Q : Int32 → FS → Prop} (hw : mw_image σ Q) : mMet l S 2 yX6_image [] σ (mQi S Q) :=
  m_metI hD ⟨rfl, by decide, by show _ = some 0; decide +kernel, q2670⟩ q2668 q2669 (Nat.le_of_ble_eq_true rfl) (fun κ Z h hR => mt_image h hR hw)
def mw_isAsSeen_63 (X2 : Int32 → Int32 → FS → Prop) (x1 : Int32) (x2 : Int32) (σ : FS) (Q : Int32 → FS → Prop) : Prop :=
  X2 x1 (x2 + 1) σ
theorem mt_isAsSeen_63 {κ : Cx} {S : Adr} {Z : State → Prop} {Q : Int32 → FS → Prop} (h : MCx κ cX6_isAsSeen S 2) (hR : RetZ κ S Z cX6_isAsSeen Q) {X2 : Int32 → Int32 → FS → Prop} (hX2 : ∀ (x1 : Int32) (x2 : Int32) (σ : FS), X2 x1 x2 σ → MG κ S Z 2 σ [some (.ref (S.2.1 0)), some (.int x1), some (.int x2)] []) {x1 : Int32} {x2 : Int32} {σ : FS} (hw : mw_isAsSeen_63 X2 x1 x2 σ Q) : MG κ S Z 63 σ [some (.ref (S.2.1 0)), some (.int x1), some (.int x2)] [] := by
  unfold mw_isAsSeen_63 at hw
  refine g_iinc_2 63 (x2 + 1) (congrArg _ ic_1) h.1 rfl dX6_isAsSeen_63 ?_
  refine g_goto 66 2 h.1 dX6_isAsSeen_66 (by decide) ?_
  exact g_le (hX2 _ _ _ hw) ⟨rfl, rfl, rfl, trivial⟩
def mw_isAsSeen_2 (x1 : Int32) (x2 : Int32) (σ : FS) (Q : Int32 → FS → Prop) : Prop :=
  ∀ X2 : Int32 → Int32 → FS → Prop, (∀ (x1 : Int32) (x2 : Int32) (σ : FS), (((fI σ 0 71) ≤ x2 → Q (1 : Int32) σ) ∧ (¬ (fI σ 0 71) ≤ x2 → (vp_in ((3 : Int32) * x2) 48 ∧ ((¬ (fA σ 72 (Int32.toNatClampNeg ((3 : Int32) * x2))) = x1 → mw_isAsSeen_63 X2 x1 x2 σ Q) ∧ ((fA σ 72 (Int32.toNatClampNeg ((3 : Int32) * x2))) = x1 → (vp_in (0 : Int32) 232 ∧ (((999 : Int32) < (fA σ 52 (Int32.toNatClampNeg (0 : Int32))) → Q (0 : Int32) σ) ∧ (¬ (999 : Int32) < (fA σ 52 (Int32.toNatClampNeg (0 : Int32))) → (vp_in (((3 : Int32) * x2) + (1 : Int32)) 48 ∧ mw_heightOf (fA σ 72 (Int32.toNatClampNeg (((3 : Int32) * x2) + (1 : Int32)))) σ (fun r2 σ1 => (vp_in (((3 : Int32) * x2) + (2 : Int32)) 48 ∧ ((r2 = (fA σ1 72 (Int32.toNatClampNeg (((3 : Int32) * x2) + (2 : Int32)))) → mw_isAsSeen_63 X2 x1 x2 σ1 Q) ∧ (¬ r2 = (fA σ1 72 (Int32.toNatClampNeg (((3 : Int32) * x2) + (2 : Int32)))) → Q (0 : Int32) σ1))))))))))))) → X2 x1 x2 σ) → X2 x1 x2 σ
theorem mt_isAsSeen_2 {κ : Cx} {S : Adr} {Z : State → Prop} {Q : Int32 → FS → Prop} (h : MCx κ cX6_isAsSeen S 2) (hR : RetZ κ S Z cX6_isAsSeen Q) {x1 : Int32} {x2 : Int32} {σ : FS} (hw : mw_isAsSeen_2 x1 x2 σ Q) : MG κ S Z 2 σ [some (.ref (S.2.1 0)), some (.int x1), some (.int x2)] [] := by
  refine hw (fun x1 x2 σ => MG κ S Z 2 σ [some (.ref (S.2.1 0)), some (.int x1), some (.int x2)] []) ?_
  clear hw
  intro x1 x2 σ hw
  have hX2 : ∀ (x1 : Int32) (x2 : Int32) (σ : FS), MG κ S Z 2 σ [some (.ref (S.2.1 0)), some (.int x1), some (.int x2)] [] → MG κ S Z 2 σ [some (.ref (S.2.1 0)), some (.int x1), some (.int x2)] [] := fun _ _ _ hh => hh
  refine g_iload_2 2 h.1 dX6_isAsSeen_2 ?_
  refine g_aload_0 3 h.1 dX6_isAsSeen_3 ?_
  refine mg_71 4 h dX6_isAsSeen_4 ?_
  refine g_icmp_ge 7 69 h.1 dX6_isAsSeen_7 (by decide) (fun c => ?_) (fun c => ?_)
  · have hw := hw.1 c
    refine g_iconstv 69 _ ic_1 h.1 dX6_isAsSeen_69 ?_
    exact hR 70 _ _ _ dX6_isAsSeen_70 rfl hw
  · have hw := hw.2 c
    refine g_aload_0 10 h.1 dX6_isAsSeen_10 ?_
    refine mg_72 11 h dX6_isAsSeen_11 ?_
    refine g_iconstv 14 _ ic_3 h.1 dX6_isAsSeen_14 ?_
    refine g_iload_2 15 h.1 dX6_isAsSeen_15 ?_
    refine g_imul 16 h.1 dX6_isAsSeen_16 ?_
    refine m_iald 17 rfl hw.1 h dX6_isAsSeen_17 ?_
    have hw := hw.2
    refine g_iload_1 18 h.1 dX6_isAsSeen_18 ?_
    refine g_icmp_ne 19 63 h.1 dX6_isAsSeen_19 (by decide) (fun c => ?_) (fun c => ?_)
    · have hw := hw.1 c
      exact g_le (mt_isAsSeen_63 h hR hX2 hw) ⟨rfl, rfl, rfl, trivial⟩
    · have hw := hw.2 c
      refine g_aload_0 22 h.1 dX6_isAsSeen_22 ?_
      refine mg_52 23 h dX6_isAsSeen_23 ?_
      refine g_iconstv 26 _ ic_0 h.1 dX6_isAsSeen_26 ?_
      refine m_iald 27 rfl hw.1 h dX6_isAsSeen_27 ?_
      have hw := hw.2
      refine g_sipush 28 _ sp_999 h.1 dX6_isAsSeen_28 ?_
      refine g_icmp_gt 31 61 h.1 dX6_isAsSeen_31 (by decide) (fun c => ?_) (fun c => ?_)
      · have hw := hw.1 c
        refine g_iconstv 61 _ ic_0 h.1 dX6_isAsSeen_61 ?_
        exact hR 62 _ _ _ dX6_isAsSeen_62 rfl hw
      · have hw := hw.2 c
        refine g_aload_0 34 h.1 dX6_isAsSeen_34 ?_
        refine g_aload_0 35 h.1 dX6_isAsSeen_35 ?_
        refine mg_72 36 h dX6_isAsSeen_36 ?_
        refine g_iconstv 39 _ ic_3 h.1 dX6_isAsSeen_39 ?_
        refine g_iload_2 40 h.1 dX6_isAsSeen_40 ?_
        refine g_imul 41 h.1 dX6_isAsSeen_41 ?_
        refine g_iconstv 42 _ ic_1 h.1 dX6_isAsSeen_42 ?_
        refine g_iadd 43 h.1 dX6_isAsSeen_43 ?_
        refine m_iald 44 rfl hw.1 h dX6_isAsSeen_44 ?_
        have hw := hw.2
        refine m_callI_1 45 h (mm_heightOf h.2.2.1 hw) (by decide) q2327 (Nat.le_of_ble_eq_true rfl) dX6_isAsSeen_45 (fun r2 σ1 hw => ?_)
        refine g_aload_0 48 h.1 dX6_isAsSeen_48 ?_
        refine mg_72 49 h dX6_isAsSeen_49 ?_
        refine g_iconstv 52 _ ic_3 h.1 dX6_isAsSeen_52 ?_
        refine g_iload_2 53 h.1 dX6_isAsSeen_53 ?_
        refine g_imul 54 h.1 dX6_isAsSeen_54 ?_
        refine g_iconstv 55 _ ic_2 h.1 dX6_isAsSeen_55 ?_
        refine g_iadd 56 h.1 dX6_isAsSeen_56 ?_
        refine m_iald 57 rfl hw.1 h dX6_isAsSeen_57 ?_
        have hw := hw.2
        refine g_icmp_eq 58 63 h.1 dX6_isAsSeen_58 (by decide) (fun c => ?_) (fun c => ?_)
        · have hw := hw.1 c
          exact g_le (mt_isAsSeen_63 h hR hX2 hw) ⟨rfl, rfl, rfl, trivial⟩
        · have hw := hw.2 c
          refine g_iconstv 61 _ ic_0 h.1 dX6_isAsSeen_61 ?_
          exact hR 62 _ _ _ dX6_isAsSeen_62 rfl hw
def mw_isAsSeen (x1 : Int32) (σ : FS) (Q : Int32 → FS → Prop) : Prop :=
  mw_isAsSeen_2 x1 (0 : Int32) σ Q
theorem mt_isAsSeen {κ : Cx} {S : Adr} {Z : State → Prop} {Q : Int32 → FS → Prop} (h : MCx κ cX6_isAsSeen S 2) (hR : RetZ κ S Z cX6_isAsSeen Q) {x1 : Int32} {σ : FS} (hw : mw_isAsSeen x1 σ Q) : MG κ S Z 0 σ [some (.ref (S.2.1 0)), some (.int x1), none] [] := by
  unfold mw_isAsSeen at hw
  refine g_iconstv 0 _ ic_0 h.1 dX6_isAsSeen_0 ?_
  refine g_istore_2 1 h.1 rfl dX6_isAsSeen_1 ?_
  exact g_le (mt_isAsSeen_2 h hR hw) ⟨rfl, rfl, rfl, trivial⟩
theorem mm_isAsSeen {l : Launch} {S : Adr} (hD : MD S) {x1 : Int32} {σ : FS} {Q : Int32 → FS → Prop} (hw : mw_isAsSeen x1 σ Q) : mMet l S 2 yX6_isAsSeen [.int x1] σ (mQi S Q) :=
  m_metZ hD ⟨rfl, by decide, by show _ = some 1; decide +kernel, q2579⟩ q2578 qs156 (Nat.le_of_ble_eq_true rfl) (fun κ Z h hR => mt_isAsSeen h hR hw)
def mw_isCheaper_110 (X4 : Int32 → Int32 → Int32 → FS → Prop) (x1 : Int32) (x2 : Int32) (x3 : Int32) (σ : FS) (Q : Int32 → FS → Prop) : Prop :=
  X4 x1 x2 (x3 + 1) σ
theorem mt_isCheaper_110 {κ : Cx} {S : Adr} {Z : State → Prop} {Q : Int32 → FS → Prop} (h : MCx κ cX6_isCheaper S 4) (hR : RetZ κ S Z cX6_isCheaper Q) {X4 : Int32 → Int32 → Int32 → FS → Prop} (hX4 : ∀ (x1 : Int32) (x2 : Int32) (x3 : Int32) (σ : FS), X4 x1 x2 x3 σ → MG κ S Z 4 σ [some (.ref (S.2.1 0)), some (.int x1), some (.int x2), some (.int x3), none, none, none] []) {x1 : Int32} {x2 : Int32} {x3 : Int32} {σ : FS} (hw : mw_isCheaper_110 X4 x1 x2 x3 σ Q) : MG κ S Z 110 σ [some (.ref (S.2.1 0)), some (.int x1), some (.int x2), some (.int x3), none, none, none] [] := by
  unfold mw_isCheaper_110 at hw
  refine g_iinc_3 110 (x3 + 1) (congrArg _ ic_1) h.1 rfl dX6_isCheaper_110 ?_
  refine g_goto 113 4 h.1 dX6_isCheaper_113 (by decide) ?_
  exact g_le (hX4 _ _ _ _ hw) ⟨rfl, rfl, rfl, rfl, trivial⟩
def mw_isCheaper_100 (X4 : Int32 → Int32 → Int32 → FS → Prop) (x1 : Int32) (x3 : Int32) (x6 : Int32) (σ : FS) (Q : Int32 → FS → Prop) : Prop :=
  (vp_in x1 49 ∧ ∀ σ7, σ7 = sA σ 69 (Int32.toNatClampNeg x1) x6 → mw_isCheaper_110 X4 x1 (1 : Int32) x3 σ7 Q)
theorem mt_isCheaper_100 {κ : Cx} {S : Adr} {Z : State → Prop} {Q : Int32 → FS → Prop} (h : MCx κ cX6_isCheaper S 4) (hR : RetZ κ S Z cX6_isCheaper Q) {X4 : Int32 → Int32 → Int32 → FS → Prop} (hX4 : ∀ (x1 : Int32) (x2 : Int32) (x3 : Int32) (σ : FS), X4 x1 x2 x3 σ → MG κ S Z 4 σ [some (.ref (S.2.1 0)), some (.int x1), some (.int x2), some (.int x3), none, none, none] []) {x1 : Int32} {x3 : Int32} {x6 : Int32} {σ : FS} (hw : mw_isCheaper_100 X4 x1 x3 x6 σ Q) : MG κ S Z 100 σ [some (.ref (S.2.1 0)), some (.int x1), none, some (.int x3), none, none, some (.int x6)] [] := by
  unfold mw_isCheaper_100 at hw
  refine g_aload_0 100 h.1 dX6_isCheaper_100 ?_
  refine mg_69 101 h dX6_isCheaper_101 ?_
  refine g_iload_1 104 h.1 dX6_isCheaper_104 ?_
  refine g_iload_6 105 h.1 dX6_isCheaper_105 ?_
  refine m_iast 107 rfl hw.1 h dX6_isCheaper_107 ?_
  have hw := hw.2 _ rfl
  refine g_iconstv 108 _ ic_1 h.1 dX6_isCheaper_108 ?_
  refine g_istore_2 109 h.1 rfl dX6_isCheaper_109 ?_
  exact g_le (mt_isCheaper_110 h hR hX4 hw) ⟨rfl, rfl, rfl, rfl, trivial⟩
def mw_isCheaper_73 (X4 : Int32 → Int32 → Int32 → FS → Prop) (x1 : Int32) (x2 : Int32) (x3 : Int32) (y0 : Int32) (y1 : Int32) (σ : FS) (Q : Int32 → FS → Prop) : Prop :=
  (vp_in x1 49 ∧ (((fA σ 69 (Int32.toNatClampNeg x1)) = (-1 : Int32) → mw_isCheaper_100 X4 x1 x3 (y1 + y0) σ Q) ∧ (¬ (fA σ 69 (Int32.toNatClampNeg x1)) = (-1 : Int32) → (vp_in x1 49 ∧ (((y1 + y0) < (fA σ 69 (Int32.toNatClampNeg x1)) → mw_isCheaper_100 X4 x1 x3 (y1 + y0) σ Q) ∧ (¬ (y1 + y0) < (fA σ 69 (Int32.toNatClampNeg x1)) → mw_isCheaper_110 X4 x1 x2 x3 σ Q))))))
theorem mt_isCheaper_73 {κ : Cx} {S : Adr} {Z : State → Prop} {Q : Int32 → FS → Prop} (h : MCx κ cX6_isCheaper S 4) (hR : RetZ κ S Z cX6_isCheaper Q) {X4 : Int32 → Int32 → Int32 → FS → Prop} (hX4 : ∀ (x1 : Int32) (x2 : Int32) (x3 : Int32) (σ : FS), X4 x1 x2 x3 σ → MG κ S Z 4 σ [some (.ref (S.2.1 0)), some (.int x1), some (.int x2), some (.int x3), none, none, none] []) {x1 : Int32} {x2 : Int32} {x3 : Int32} {y0 : Int32} {y1 : Int32} {σ : FS} (hw : mw_isCheaper_73 X4 x1 x2 x3 y0 y1 σ Q) : MG κ S Z 73 σ [some (.ref (S.2.1 0)), some (.int x1), some (.int x2), some (.int x3), none, none, none] [.int y0, .int y1] := by
  unfold mw_isCheaper_73 at hw
  refine g_iadd 73 h.1 dX6_isCheaper_73 ?_
  refine g_istore_6 74 h.1 rfl dX6_isCheaper_74 ?_
  refine g_aload_0 76 h.1 dX6_isCheaper_76 ?_
  refine mg_69 77 h dX6_isCheaper_77 ?_
  refine g_iload_1 80 h.1 dX6_isCheaper_80 ?_
  refine m_iald 81 rfl hw.1 h dX6_isCheaper_81 ?_
  have hw := hw.2
  refine g_iconstv 82 _ ic_m1 h.1 dX6_isCheaper_82 ?_
  refine g_icmp_eq 83 100 h.1 dX6_isCheaper_83 (by decide) (fun c => ?_) (fun c => ?_)
  · have hw := hw.1 c
    exact g_le (mt_isCheaper_100 h hR hX4 hw) ⟨rfl, rfl, rfl, rfl, trivial⟩
  · have hw := hw.2 c
    refine g_iload_6 86 h.1 dX6_isCheaper_86 ?_
    refine g_aload_0 88 h.1 dX6_isCheaper_88 ?_
    refine mg_69 89 h dX6_isCheaper_89 ?_
    refine g_iload_1 92 h.1 dX6_isCheaper_92 ?_
    refine m_iald 93 rfl hw.1 h dX6_isCheaper_93 ?_
    have hw := hw.2
    refine g_icmp_lt 94 100 h.1 dX6_isCheaper_94 (by decide) (fun c => ?_) (fun c => ?_)
    · have hw := hw.1 c
      exact g_le (mt_isCheaper_100 h hR hX4 hw) ⟨rfl, rfl, rfl, rfl, trivial⟩
    · have hw := hw.2 c
      refine g_goto 97 110 h.1 dX6_isCheaper_97 (by decide) ?_
      exact g_le (mt_isCheaper_110 h hR hX4 hw) ⟨rfl, rfl, rfl, rfl, trivial⟩
def mw_isCheaper_4 (x1 : Int32) (x2 : Int32) (x3 : Int32) (σ : FS) (Q : Int32 → FS → Prop) : Prop :=
  ∀ X4 : Int32 → Int32 → Int32 → FS → Prop, (∀ (x1 : Int32) (x2 : Int32) (x3 : Int32) (σ : FS), (((4 : Int32) ≤ x3 → (nb x2 ∧ Q x2 σ)) ∧ (¬ (4 : Int32) ≤ x3 → mw_beside x1 x3 σ (fun r2 σ1 => ((r2 = (-1 : Int32) → mw_isCheaper_110 X4 x1 x2 x3 σ1 Q) ∧ (¬ r2 = (-1 : Int32) → (vp_in r2 49 ∧ ((¬ (fA σ1 69 (Int32.toNatClampNeg r2)) = (-1 : Int32) → mw_heightOf x1 σ1 (fun r4 σ3 => mw_heightOf r2 σ3 (fun r6 σ5 => (vp_in r2 49 ∧ ((0 ≤ (r4 - r6) → mw_isCheaper_73 X4 x1 x2 x3 (r4 - r6) ((fA σ5 69 (Int32.toNatClampNeg r2)) + (1 : Int32)) σ5 Q) ∧ (¬ 0 ≤ (r4 - r6) → mw_isCheaper_73 X4 x1 x2 x3 (-(r4 - r6)) ((fA σ5 69 (Int32.toNatClampNeg r2)) + (1 : Int32)) σ5 Q)))))) ∧ ((fA σ1 69 (Int32.toNatClampNeg r2)) = (-1 : Int32) → mw_isCheaper_110 X4 x1 x2 x3 σ1 Q)))))))) → X4 x1 x2 x3 σ) → X4 x1 x2 x3 σ
theorem mt_isCheaper_4 {κ : Cx} {S : Adr} {Z : State → Prop} {Q : Int32 → FS → Prop} (h : MCx κ cX6_isCheaper S 4) (hR : RetZ κ S Z cX6_isCheaper Q) {x1 : Int32} {x2 : Int32} {x3 : Int32} {σ : FS} (hw : mw_isCheaper_4 x1 x2 x3 σ Q) : MG κ S Z 4 σ [some (.ref (S.2.1 0)), some (.int x1), some (.int x2), some (.int x3), none, none, none] [] := by
  refine hw (fun x1 x2 x3 σ => MG κ S Z 4 σ [some (.ref (S.2.1 0)), some (.int x1), some (.int x2), some (.int x3), none, none, none] []) ?_
  clear hw
  intro x1 x2 x3 σ hw
  have hX4 : ∀ (x1 : Int32) (x2 : Int32) (x3 : Int32) (σ : FS), MG κ S Z 4 σ [some (.ref (S.2.1 0)), some (.int x1), some (.int x2), some (.int x3), none, none, none] [] → MG κ S Z 4 σ [some (.ref (S.2.1 0)), some (.int x1), some (.int x2), some (.int x3), none, none, none] [] := fun _ _ _ _ hh => hh
  refine g_iload_3 4 h.1 dX6_isCheaper_4 ?_
  refine g_iconstv 5 _ ic_4 h.1 dX6_isCheaper_5 ?_
  refine g_icmp_ge 6 116 h.1 dX6_isCheaper_6 (by decide) (fun c => ?_) (fun c => ?_)
  · have hw := hw.1 c
    refine g_iload_2 116 h.1 dX6_isCheaper_116 ?_
    exact hR 117 _ _ _ dX6_isCheaper_117 hw.1 hw.2
  · have hw := hw.2 c
    refine g_aload_0 9 h.1 dX6_isCheaper_9 ?_
    refine g_iload_1 10 h.1 dX6_isCheaper_10 ?_
    refine g_iload_3 11 h.1 dX6_isCheaper_11 ?_
    refine m_callI_2 12 h (mm_beside h.2.2.1 hw) (by decide) q2525 (Nat.le_of_ble_eq_true rfl) dX6_isCheaper_12 (fun r2 σ1 hw => ?_)
    refine g_istore_4 15 h.1 rfl dX6_isCheaper_15 ?_
    refine g_iload_4 17 h.1 dX6_isCheaper_17 ?_
    refine g_iconstv 19 _ ic_m1 h.1 dX6_isCheaper_19 ?_
    refine g_icmp_eq 20 110 h.1 dX6_isCheaper_20 (by decide) (fun c => ?_) (fun c => ?_)
    · have hw := hw.1 c
      exact g_le (mt_isCheaper_110 h hR hX4 hw) ⟨rfl, rfl, rfl, rfl, trivial⟩
    · have hw := hw.2 c
      refine g_aload_0 23 h.1 dX6_isCheaper_23 ?_
      refine mg_69 24 h dX6_isCheaper_24 ?_
      refine g_iload_4 27 h.1 dX6_isCheaper_27 ?_
      refine m_iald 29 rfl hw.1 h dX6_isCheaper_29 ?_
      have hw := hw.2
      refine g_iconstv 30 _ ic_m1 h.1 dX6_isCheaper_30 ?_
      refine g_icmp_ne 31 37 h.1 dX6_isCheaper_31 (by decide) (fun c => ?_) (fun c => ?_)
      · have hw := hw.1 c
        refine g_aload_0 37 h.1 dX6_isCheaper_37 ?_
        refine g_iload_1 38 h.1 dX6_isCheaper_38 ?_
        refine m_callI_1 39 h (mm_heightOf h.2.2.1 hw) (by decide) q2327 (Nat.le_of_ble_eq_true rfl) dX6_isCheaper_39 (fun r4 σ3 hw => ?_)
        refine g_aload_0 42 h.1 dX6_isCheaper_42 ?_
        refine g_iload_4 43 h.1 dX6_isCheaper_43 ?_
        refine m_callI_1 45 h (mm_heightOf h.2.2.1 hw) (by decide) q2327 (Nat.le_of_ble_eq_true rfl) dX6_isCheaper_45 (fun r6 σ5 hw => ?_)
        refine g_isub 48 h.1 dX6_isCheaper_48 ?_
        refine g_istore_5 49 h.1 rfl dX6_isCheaper_49 ?_
        refine g_aload_0 51 h.1 dX6_isCheaper_51 ?_
        refine mg_69 52 h dX6_isCheaper_52 ?_
        refine g_iload_4 55 h.1 dX6_isCheaper_55 ?_
        refine m_iald 57 rfl hw.1 h dX6_isCheaper_57 ?_
        have hw := hw.2
        refine g_iconstv 58 _ ic_1 h.1 dX6_isCheaper_58 ?_
        refine g_iadd 59 h.1 dX6_isCheaper_59 ?_
        refine g_iload_5 60 h.1 dX6_isCheaper_60 ?_
        refine g_if_ge 62 71 h.1 dX6_isCheaper_62 (by decide) (fun c => ?_) (fun c => ?_)
        · have hw := hw.1 c
          refine g_iload_5 71 h.1 dX6_isCheaper_71 ?_
          exact g_le (mt_isCheaper_73 h hR hX4 hw) ⟨rfl, rfl, rfl, rfl, trivial⟩
        · have hw := hw.2 c
          refine g_iload_5 65 h.1 dX6_isCheaper_65 ?_
          refine g_ineg 67 h.1 dX6_isCheaper_67 ?_
          refine g_goto 68 73 h.1 dX6_isCheaper_68 (by decide) ?_
          exact g_le (mt_isCheaper_73 h hR hX4 hw) ⟨rfl, rfl, rfl, rfl, trivial⟩
      · have hw := hw.2 c
        refine g_goto 34 110 h.1 dX6_isCheaper_34 (by decide) ?_
        exact g_le (mt_isCheaper_110 h hR hX4 hw) ⟨rfl, rfl, rfl, rfl, trivial⟩
def mw_isCheaper (x1 : Int32) (σ : FS) (Q : Int32 → FS → Prop) : Prop :=
  mw_isCheaper_4 x1 (0 : Int32) (0 : Int32) σ Q
theorem mt_isCheaper {κ : Cx} {S : Adr} {Z : State → Prop} {Q : Int32 → FS → Prop} (h : MCx κ cX6_isCheaper S 4) (hR : RetZ κ S Z cX6_isCheaper Q) {x1 : Int32} {σ : FS} (hw : mw_isCheaper x1 σ Q) : MG κ S Z 0 σ [some (.ref (S.2.1 0)), some (.int x1), none, none, none, none, none] [] := by
  unfold mw_isCheaper at hw
  refine g_iconstv 0 _ ic_0 h.1 dX6_isCheaper_0 ?_
  refine g_istore_2 1 h.1 rfl dX6_isCheaper_1 ?_
  refine g_iconstv 2 _ ic_0 h.1 dX6_isCheaper_2 ?_
  refine g_istore_3 3 h.1 rfl dX6_isCheaper_3 ?_
  exact g_le (mt_isCheaper_4 h hR hw) ⟨rfl, rfl, rfl, rfl, trivial⟩
theorem mm_isCheaper {l : Launch} {S : Adr} (hD : MD S) {x1 : Int32} {σ : FS} {Q : Int32 → FS → Prop} (hw : mw_isCheaper x1 σ Q) : mMet l S 4 yX6_isCheaper [.int x1] σ (mQi S Q) :=
  m_metZ hD ⟨rfl, by decide, by show _ = some 1; decide +kernel, q2524⟩ q2523 qs148 (Nat.le_of_ble_eq_true rfl) (fun κ Z h hR => mt_isCheaper h hR hw)
def mw_isFull_23 (σ : FS) (Q : Int32 → FS → Prop) : Prop :=
  (((fI σ 0 5) = 0 → Q (0 : Int32) σ) ∧ (¬ (fI σ 0 5) = 0 → Q (1 : Int32) σ))
theorem mt_isFull_23 {κ : Cx} {S : Adr} {Z : State → Prop} {Q : Int32 → FS → Prop} (h : MCx κ cX6_isFull S 2) (hR : RetZ κ S Z cX6_isFull Q) {σ : FS} (hw : mw_isFull_23 σ Q) : MG κ S Z 23 σ [some (.ref (S.2.1 0)), none, none, none] [] := by
  unfold mw_isFull_23 at hw
  refine g_aload_0 23 h.1 dX6_isFull_23 ?_
  refine mg_5 24 h dX6_isFull_24 ?_
  refine g_if_eq 27 34 h.1 dX6_isFull_27 (by decide) (fun c => ?_) (fun c => ?_)
  · have hw := hw.1 c
    refine g_iconstv 34 _ ic_0 h.1 dX6_isFull_34 ?_
    exact hR 35 _ _ _ dX6_isFull_35 rfl hw
  · have hw := hw.2 c
    refine g_iconstv 30 _ ic_1 h.1 dX6_isFull_30 ?_
    refine g_goto 31 35 h.1 dX6_isFull_31 (by decide) ?_
    exact hR 35 _ _ _ dX6_isFull_35 rfl hw
def mw_isFull (x1 : Int32) (x2 : Int32) (x3 : Int32) (σ : FS) (Q : Int32 → FS → Prop) : Prop :=
  ((¬ (fI σ 0 5) = 0 → mw_isFull_23 σ Q) ∧ ((fI σ 0 5) = 0 → (vp_in x1 6 ∧ ((¬ (fA σ 40 (Int32.toNatClampNeg x1)) = x2 → mw_isFull_23 σ Q) ∧ ((fA σ 40 (Int32.toNatClampNeg x1)) = x2 → mw_fail (5 : Int32) x3 σ (fun σ1 => mw_isFull_23 σ1 Q))))))
theorem mt_isFull {κ : Cx} {S : Adr} {Z : State → Prop} {Q : Int32 → FS → Prop} (h : MCx κ cX6_isFull S 2) (hR : RetZ κ S Z cX6_isFull Q) {x1 : Int32} {x2 : Int32} {x3 : Int32} {σ : FS} (hw : mw_isFull x1 x2 x3 σ Q) : MG κ S Z 0 σ [some (.ref (S.2.1 0)), some (.int x1), some (.int x2), some (.int x3)] [] := by
  unfold mw_isFull at hw
  refine g_aload_0 0 h.1 dX6_isFull_0 ?_
  refine mg_5 1 h dX6_isFull_1 ?_
  refine g_if_ne 4 23 h.1 dX6_isFull_4 (by decide) (fun c => ?_) (fun c => ?_)
  · have hw := hw.1 c
    exact g_le (mt_isFull_23 h hR hw) ⟨rfl, trivial⟩
  · have hw := hw.2 c
    refine g_aload_0 7 h.1 dX6_isFull_7 ?_
    refine mg_40 8 h dX6_isFull_8 ?_
    refine g_iload_1 11 h.1 dX6_isFull_11 ?_
    refine m_iald 12 rfl hw.1 h dX6_isFull_12 ?_
    have hw := hw.2
    refine g_iload_2 13 h.1 dX6_isFull_13 ?_
    refine g_icmp_ne 14 23 h.1 dX6_isFull_14 (by decide) (fun c => ?_) (fun c => ?_)
    · have hw := hw.1 c
      exact g_le (mt_isFull_23 h hR hw) ⟨rfl, trivial⟩
    · have hw := hw.2 c
      refine g_aload_0 17 h.1 dX6_isFull_17 ?_
      refine g_iconstv 18 _ ic_5 h.1 dX6_isFull_18 ?_
      refine g_iload_3 19 h.1 dX6_isFull_19 ?_
      refine m_callV_2 20 h (mm_fail h.2.2.1 hw) (by decide) q2136 (Nat.le_of_ble_eq_true rfl) dX6_isFull_20 (fun σ1 hw => ?_)
      exact g_le (mt_isFull_23 h hR hw) ⟨rfl, trivial⟩
theorem mm_isFull {l : Launch} {S : Adr} (hD : MD S) {x1 : Int32} {x2 : Int32} {x3 : Int32} {σ : FS} {Q : Int32 → FS → Prop} (hw : mw_isFull x1 x2 x3 σ Q) : mMet l S 2 yX6_isFull [.int x1, .int x2, .int x3] σ (mQi S Q) :=
  m_metZ hD ⟨rfl, by decide, by show _ = some 3; decide +kernel, q2177⟩ q2176 qs80 (Nat.le_of_ble_eq_true rfl) (fun κ Z h hR => mt_isFull h hR hw)
def mw_isPersonTold_97 (X56 : Int32 → Int32 → FS → Prop) (x2 : Int32) (x3 : Int32) (σ : FS) (Q : Int32 → FS → Prop) : Prop :=
  X56 x2 (x3 + 4) σ
theorem mt_isPersonTold_97 {κ : Cx} {S : Adr} {Z : State → Prop} {Q : Int32 → FS → Prop} (h : MCx κ cX6_isPersonTold S 3) (hR : RetZ κ S Z cX6_isPersonTold Q) {X56 : Int32 → Int32 → FS → Prop} (hX56 : ∀ (x2 : Int32) (x3 : Int32) (σ : FS), X56 x2 x3 σ → MG κ S Z 56 σ [some (.ref (S.2.1 0)), none, some (.int x2), some (.int x3)] []) {x2 : Int32} {x3 : Int32} {σ : FS} (hw : mw_isPersonTold_97 X56 x2 x3 σ Q) : MG κ S Z 97 σ [some (.ref (S.2.1 0)), none, some (.int x2), some (.int x3)] [] := by
  unfold mw_isPersonTold_97 at hw
  refine g_iinc_3 97 (x3 + 4) (congrArg _ ic_4) h.1 rfl dX6_isPersonTold_97 ?_
  refine g_goto 100 56 h.1 dX6_isPersonTold_100 (by decide) ?_
  exact g_le (hX56 _ _ _ hw) ⟨rfl, rfl, rfl, trivial⟩
def mw_isPersonTold_56 (x2 : Int32) (x3 : Int32) (σ : FS) (Q : Int32 → FS → Prop) : Prop :=
  ∀ X56 : Int32 → Int32 → FS → Prop, (∀ (x2 : Int32) (x3 : Int32) (σ : FS), ((x2 ≤ x3 → Q (1 : Int32) σ) ∧ (¬ x2 ≤ x3 → (vp_in x3 1600 ∧ (vp_in x2 1600 ∧ ((¬ (fA σ 0 (Int32.toNatClampNeg x3)) = (fA σ 0 (Int32.toNatClampNeg x2)) → mw_isPersonTold_97 X56 x2 x3 σ Q) ∧ ((fA σ 0 (Int32.toNatClampNeg x3)) = (fA σ 0 (Int32.toNatClampNeg x2)) → (vp_in (x3 + (1 : Int32)) 1600 ∧ (vp_in (x2 + (1 : Int32)) 1600 ∧ ((¬ (fA σ 0 (Int32.toNatClampNeg (x3 + (1 : Int32)))) = (fA σ 0 (Int32.toNatClampNeg (x2 + (1 : Int32)))) → mw_isPersonTold_97 X56 x2 x3 σ Q) ∧ ((fA σ 0 (Int32.toNatClampNeg (x3 + (1 : Int32)))) = (fA σ 0 (Int32.toNatClampNeg (x2 + (1 : Int32)))) → Q (0 : Int32) σ)))))))))) → X56 x2 x3 σ) → X56 x2 x3 σ
theorem mt_isPersonTold_56 {κ : Cx} {S : Adr} {Z : State → Prop} {Q : Int32 → FS → Prop} (h : MCx κ cX6_isPersonTold S 3) (hR : RetZ κ S Z cX6_isPersonTold Q) {x2 : Int32} {x3 : Int32} {σ : FS} (hw : mw_isPersonTold_56 x2 x3 σ Q) : MG κ S Z 56 σ [some (.ref (S.2.1 0)), none, some (.int x2), some (.int x3)] [] := by
  refine hw (fun x2 x3 σ => MG κ S Z 56 σ [some (.ref (S.2.1 0)), none, some (.int x2), some (.int x3)] []) ?_
  clear hw
  intro x2 x3 σ hw
  have hX56 : ∀ (x2 : Int32) (x3 : Int32) (σ : FS), MG κ S Z 56 σ [some (.ref (S.2.1 0)), none, some (.int x2), some (.int x3)] [] → MG κ S Z 56 σ [some (.ref (S.2.1 0)), none, some (.int x2), some (.int x3)] [] := fun _ _ _ hh => hh
  refine g_iload_3 56 h.1 dX6_isPersonTold_56 ?_
  refine g_iload_2 57 h.1 dX6_isPersonTold_57 ?_
  refine g_icmp_ge 58 103 h.1 dX6_isPersonTold_58 (by decide) (fun c => ?_) (fun c => ?_)
  · have hw := hw.1 c
    refine g_iconstv 103 _ ic_1 h.1 dX6_isPersonTold_103 ?_
    exact hR 104 _ _ _ dX6_isPersonTold_104 rfl hw
  · have hw := hw.2 c
    refine g_aload_0 61 h.1 dX6_isPersonTold_61 ?_
    refine mg_0 62 h dX6_isPersonTold_62 ?_
    refine g_iload_3 65 h.1 dX6_isPersonTold_65 ?_
    refine m_iald 66 rfl hw.1 h dX6_isPersonTold_66 ?_
    have hw := hw.2
    refine g_aload_0 67 h.1 dX6_isPersonTold_67 ?_
    refine mg_0 68 h dX6_isPersonTold_68 ?_
    refine g_iload_2 71 h.1 dX6_isPersonTold_71 ?_
    refine m_iald 72 rfl hw.1 h dX6_isPersonTold_72 ?_
    have hw := hw.2
    refine g_icmp_ne 73 97 h.1 dX6_isPersonTold_73 (by decide) (fun c => ?_) (fun c => ?_)
    · have hw := hw.1 c
      exact g_le (mt_isPersonTold_97 h hR hX56 hw) ⟨rfl, rfl, rfl, trivial⟩
    · have hw := hw.2 c
      refine g_aload_0 76 h.1 dX6_isPersonTold_76 ?_
      refine mg_0 77 h dX6_isPersonTold_77 ?_
      refine g_iload_3 80 h.1 dX6_isPersonTold_80 ?_
      refine g_iconstv 81 _ ic_1 h.1 dX6_isPersonTold_81 ?_
      refine g_iadd 82 h.1 dX6_isPersonTold_82 ?_
      refine m_iald 83 rfl hw.1 h dX6_isPersonTold_83 ?_
      have hw := hw.2
      refine g_aload_0 84 h.1 dX6_isPersonTold_84 ?_
      refine mg_0 85 h dX6_isPersonTold_85 ?_
      refine g_iload_2 88 h.1 dX6_isPersonTold_88 ?_
      refine g_iconstv 89 _ ic_1 h.1 dX6_isPersonTold_89 ?_
      refine g_iadd 90 h.1 dX6_isPersonTold_90 ?_
      refine m_iald 91 rfl hw.1 h dX6_isPersonTold_91 ?_
      have hw := hw.2
      refine g_icmp_ne 92 97 h.1 dX6_isPersonTold_92 (by decide) (fun c => ?_) (fun c => ?_)
      · have hw := hw.1 c
        exact g_le (mt_isPersonTold_97 h hR hX56 hw) ⟨rfl, rfl, rfl, trivial⟩
      · have hw := hw.2 c
        refine g_iconstv 95 _ ic_0 h.1 dX6_isPersonTold_95 ?_
        exact hR 96 _ _ _ dX6_isPersonTold_96 rfl hw
def mw_isPersonTold (x1 : Int32) (x2 : Int32) (σ : FS) (Q : Int32 → FS → Prop) : Prop :=
  (vp_in x2 1600 ∧ (vp_in (x2 + (1 : Int32)) 1600 ∧ mw_cellAt (fA σ 0 (Int32.toNatClampNeg x2)) (fA σ 0 (Int32.toNatClampNeg (x2 + (1 : Int32)))) σ (fun r2 σ1 => ((r2 = (-1 : Int32) → Q (0 : Int32) σ1) ∧ (¬ r2 = (-1 : Int32) → (vp_in (x2 + (2 : Int32)) 1600 ∧ (((9 : Int32) < (fA σ1 0 (Int32.toNatClampNeg (x2 + (2 : Int32)))) → Q (0 : Int32) σ1) ∧ (¬ (9 : Int32) < (fA σ1 0 (Int32.toNatClampNeg (x2 + (2 : Int32)))) → (vp_in (x2 + (3 : Int32)) 1600 ∧ mw_topicMany σ1 (fun r4 σ3 => (((fA σ1 0 (Int32.toNatClampNeg (x2 + (3 : Int32)))) < ((1 : Int32) <<< (r4 &&& 31)) → mw_isPersonTold_56 x2 x1 σ3 Q) ∧ (¬ (fA σ1 0 (Int32.toNatClampNeg (x2 + (3 : Int32)))) < ((1 : Int32) <<< (r4 &&& 31)) → Q (0 : Int32) σ3))))))))))))
theorem mt_isPersonTold {κ : Cx} {S : Adr} {Z : State → Prop} {Q : Int32 → FS → Prop} (h : MCx κ cX6_isPersonTold S 3) (hR : RetZ κ S Z cX6_isPersonTold Q) {x1 : Int32} {x2 : Int32} {σ : FS} (hw : mw_isPersonTold x1 x2 σ Q) : MG κ S Z 0 σ [some (.ref (S.2.1 0)), some (.int x1), some (.int x2), none] [] := by
  unfold mw_isPersonTold at hw
  refine g_aload_0 0 h.1 dX6_isPersonTold_0 ?_
  refine g_aload_0 1 h.1 dX6_isPersonTold_1 ?_
  refine mg_0 2 h dX6_isPersonTold_2 ?_
  refine g_iload_2 5 h.1 dX6_isPersonTold_5 ?_
  refine m_iald 6 rfl hw.1 h dX6_isPersonTold_6 ?_
  have hw := hw.2
  refine g_aload_0 7 h.1 dX6_isPersonTold_7 ?_
  refine mg_0 8 h dX6_isPersonTold_8 ?_
  refine g_iload_2 11 h.1 dX6_isPersonTold_11 ?_
  refine g_iconstv 12 _ ic_1 h.1 dX6_isPersonTold_12 ?_
  refine g_iadd 13 h.1 dX6_isPersonTold_13 ?_
  refine m_iald 14 rfl hw.1 h dX6_isPersonTold_14 ?_
  have hw := hw.2
  refine m_callI_2 15 h (mm_cellAt h.2.2.1 hw) (by decide) q2340 (Nat.le_of_ble_eq_true rfl) dX6_isPersonTold_15 (fun r2 σ1 hw => ?_)
  refine g_iconstv 18 _ ic_m1 h.1 dX6_isPersonTold_18 ?_
  refine g_icmp_eq 19 52 h.1 dX6_isPersonTold_19 (by decide) (fun c => ?_) (fun c => ?_)
  · have hw := hw.1 c
    refine g_iconstv 52 _ ic_0 h.1 dX6_isPersonTold_52 ?_
    exact hR 53 _ _ _ dX6_isPersonTold_53 rfl hw
  · have hw := hw.2 c
    refine g_aload_0 22 h.1 dX6_isPersonTold_22 ?_
    refine mg_0 23 h dX6_isPersonTold_23 ?_
    refine g_iload_2 26 h.1 dX6_isPersonTold_26 ?_
    refine g_iconstv 27 _ ic_2 h.1 dX6_isPersonTold_27 ?_
    refine g_iadd 28 h.1 dX6_isPersonTold_28 ?_
    refine m_iald 29 rfl hw.1 h dX6_isPersonTold_29 ?_
    have hw := hw.2
    refine g_bipush 30 _ bp_9 h.1 dX6_isPersonTold_30 ?_
    refine g_icmp_gt 32 52 h.1 dX6_isPersonTold_32 (by decide) (fun c => ?_) (fun c => ?_)
    · have hw := hw.1 c
      refine g_iconstv 52 _ ic_0 h.1 dX6_isPersonTold_52 ?_
      exact hR 53 _ _ _ dX6_isPersonTold_53 rfl hw
    · have hw := hw.2 c
      refine g_aload_0 35 h.1 dX6_isPersonTold_35 ?_
      refine mg_0 36 h dX6_isPersonTold_36 ?_
      refine g_iload_2 39 h.1 dX6_isPersonTold_39 ?_
      refine g_iconstv 40 _ ic_3 h.1 dX6_isPersonTold_40 ?_
      refine g_iadd 41 h.1 dX6_isPersonTold_41 ?_
      refine m_iald 42 rfl hw.1 h dX6_isPersonTold_42 ?_
      have hw := hw.2
      refine g_iconstv 43 _ ic_1 h.1 dX6_isPersonTold_43 ?_
      refine g_aload_0 44 h.1 dX6_isPersonTold_44 ?_
      refine m_callI_0 45 h (mm_topicMany h.2.2.1 hw) (by decide) q2303 (Nat.le_of_ble_eq_true rfl) dX6_isPersonTold_45 (fun r4 σ3 hw => ?_)
      refine g_ishl 48 h.1 dX6_isPersonTold_48 ?_
      refine g_icmp_lt 49 54 h.1 dX6_isPersonTold_49 (by decide) (fun c => ?_) (fun c => ?_)
      · have hw := hw.1 c
        refine g_iload_1 54 h.1 dX6_isPersonTold_54 ?_
        refine g_istore_3 55 h.1 rfl dX6_isPersonTold_55 ?_
        exact g_le (mt_isPersonTold_56 h hR hw) ⟨rfl, rfl, rfl, trivial⟩
      · have hw := hw.2 c
        refine g_iconstv 52 _ ic_0 h.1 dX6_isPersonTold_52 ?_
        exact hR 53 _ _ _ dX6_isPersonTold_53 rfl hw
theorem mm_isPersonTold {l : Launch} {S : Adr} (hD : MD S) {x1 : Int32} {x2 : Int32} {σ : FS} {Q : Int32 → FS → Prop} (hw : mw_isPersonTold x1 x2 σ Q) : mMet l S 3 yX6_isPersonTold [.int x1, .int x2] σ (mQi S Q) :=
  m_metZ hD ⟨rfl, by decide, by show _ = some 2; decide +kernel, q2693⟩ q2692 qs169 (Nat.le_of_ble_eq_true rfl) (fun κ Z h hR => mt_isPersonTold h hR hw)
def mw_isImage_102 (x1 : Int32) (x2 : Int32) (x3 : Int32) (σ : FS) (Q : Int32 → FS → Prop) : Prop :=
  ∀ X102 : Int32 → Int32 → Int32 → FS → Prop, (∀ (x1 : Int32) (x2 : Int32) (x3 : Int32) (σ : FS), (((x1 - (1 : Int32)) ≤ x3 → Q (1 : Int32) σ) ∧ (¬ (x1 - (1 : Int32)) ≤ x3 → mw_isPersonTold x2 x3 σ (fun r8 σ7 => ((¬ r8 = 0 → X102 x1 x2 (x3 + 4) σ7) ∧ (r8 = 0 → Q (0 : Int32) σ7))))) → X102 x1 x2 x3 σ) → X102 x1 x2 x3 σ
theorem mt_isImage_102 {κ : Cx} {S : Adr} {Z : State → Prop} {Q : Int32 → FS → Prop} (h : MCx κ cX6_isImage S 4) (hR : RetZ κ S Z cX6_isImage Q) {x1 : Int32} {x2 : Int32} {x3 : Int32} {σ : FS} (hw : mw_isImage_102 x1 x2 x3 σ Q) : MG κ S Z 102 σ [some (.ref (S.2.1 0)), some (.int x1), some (.int x2), some (.int x3)] [] := by
  refine hw (fun x1 x2 x3 σ => MG κ S Z 102 σ [some (.ref (S.2.1 0)), some (.int x1), some (.int x2), some (.int x3)] []) ?_
  clear hw
  intro x1 x2 x3 σ hw
  have hX102 : ∀ (x1 : Int32) (x2 : Int32) (x3 : Int32) (σ : FS), MG κ S Z 102 σ [some (.ref (S.2.1 0)), some (.int x1), some (.int x2), some (.int x3)] [] → MG κ S Z 102 σ [some (.ref (S.2.1 0)), some (.int x1), some (.int x2), some (.int x3)] [] := fun _ _ _ _ hh => hh
  refine g_iload_3 102 h.1 dX6_isImage_102 ?_
  refine g_iload_1 103 h.1 dX6_isImage_103 ?_
  refine g_iconstv 104 _ ic_1 h.1 dX6_isImage_104 ?_
  refine g_isub 105 h.1 dX6_isImage_105 ?_
  refine g_icmp_ge 106 126 h.1 dX6_isImage_106 (by decide) (fun c => ?_) (fun c => ?_)
  · have hw := hw.1 c
    refine g_iconstv 126 _ ic_1 h.1 dX6_isImage_126 ?_
    exact hR 127 _ _ _ dX6_isImage_127 rfl hw
  · have hw := hw.2 c
    refine g_aload_0 109 h.1 dX6_isImage_109 ?_
    refine g_iload_2 110 h.1 dX6_isImage_110 ?_
    refine g_iload_3 111 h.1 dX6_isImage_111 ?_
    refine m_callI_2 112 h (mm_isPersonTold h.2.2.1 hw) (by decide) q2690 (Nat.le_of_ble_eq_true rfl) dX6_isImage_112 (fun r8 σ7 hw => ?_)
    refine g_if_ne 115 120 h.1 dX6_isImage_115 (by decide) (fun c => ?_) (fun c => ?_)
    · have hw := hw.1 c
      refine g_iinc_3 120 (x3 + 4) (congrArg _ ic_4) h.1 rfl dX6_isImage_120 ?_
      refine g_goto 123 102 h.1 dX6_isImage_123 (by decide) ?_
      exact g_le (hX102 _ _ _ _ hw) ⟨rfl, rfl, rfl, rfl, trivial⟩
    · have hw := hw.2 c
      refine g_iconstv 118 _ ic_0 h.1 dX6_isImage_118 ?_
      exact hR 119 _ _ _ dX6_isImage_119 rfl hw
def mw_isImage_76 (x1 : Int32) (x2 : Int32) (x3 : Int32) (σ : FS) (Q : Int32 → FS → Prop) : Prop :=
  ∀ X76 : Int32 → Int32 → Int32 → FS → Prop, (∀ (x1 : Int32) (x2 : Int32) (x3 : Int32) (σ : FS), ((x2 ≤ x3 → mw_isImage_102 x1 x2 x2 σ Q) ∧ (¬ x2 ≤ x3 → (vp_in x3 1600 ∧ (((fA σ 0 (Int32.toNatClampNeg x3)) ≤ (99 : Int32) → X76 x1 x2 (x3 + 1) σ) ∧ (¬ (fA σ 0 (Int32.toNatClampNeg x3)) ≤ (99 : Int32) → Q (0 : Int32) σ))))) → X76 x1 x2 x3 σ) → X76 x1 x2 x3 σ
theorem mt_isImage_76 {κ : Cx} {S : Adr} {Z : State → Prop} {Q : Int32 → FS → Prop} (h : MCx κ cX6_isImage S 4) (hR : RetZ κ S Z cX6_isImage Q) {x1 : Int32} {x2 : Int32} {x3 : Int32} {σ : FS} (hw : mw_isImage_76 x1 x2 x3 σ Q) : MG κ S Z 76 σ [some (.ref (S.2.1 0)), some (.int x1), some (.int x2), some (.int x3)] [] := by
  refine hw (fun x1 x2 x3 σ => MG κ S Z 76 σ [some (.ref (S.2.1 0)), some (.int x1), some (.int x2), some (.int x3)] []) ?_
  clear hw
  intro x1 x2 x3 σ hw
  have hX76 : ∀ (x1 : Int32) (x2 : Int32) (x3 : Int32) (σ : FS), MG κ S Z 76 σ [some (.ref (S.2.1 0)), some (.int x1), some (.int x2), some (.int x3)] [] → MG κ S Z 76 σ [some (.ref (S.2.1 0)), some (.int x1), some (.int x2), some (.int x3)] [] := fun _ _ _ _ hh => hh
  refine g_iload_3 76 h.1 dX6_isImage_76 ?_
  refine g_iload_2 77 h.1 dX6_isImage_77 ?_
  refine g_icmp_ge 78 100 h.1 dX6_isImage_78 (by decide) (fun c => ?_) (fun c => ?_)
  · have hw := hw.1 c
    refine g_iload_2 100 h.1 dX6_isImage_100 ?_
    refine g_istore_3 101 h.1 rfl dX6_isImage_101 ?_
    exact g_le (mt_isImage_102 h hR hw) ⟨rfl, rfl, rfl, rfl, trivial⟩
  · have hw := hw.2 c
    refine g_aload_0 81 h.1 dX6_isImage_81 ?_
    refine mg_0 82 h dX6_isImage_82 ?_
    refine g_iload_3 85 h.1 dX6_isImage_85 ?_
    refine m_iald 86 rfl hw.1 h dX6_isImage_86 ?_
    have hw := hw.2
    refine g_bipush 87 _ bp_99 h.1 dX6_isImage_87 ?_
    refine g_icmp_le 89 94 h.1 dX6_isImage_89 (by decide) (fun c => ?_) (fun c => ?_)
    · have hw := hw.1 c
      refine g_iinc_3 94 (x3 + 1) (congrArg _ ic_1) h.1 rfl dX6_isImage_94 ?_
      refine g_goto 97 76 h.1 dX6_isImage_97 (by decide) ?_
      exact g_le (hX76 _ _ _ _ hw) ⟨rfl, rfl, rfl, rfl, trivial⟩
    · have hw := hw.2 c
      refine g_iconstv 92 _ ic_0 h.1 dX6_isImage_92 ?_
      exact hR 93 _ _ _ dX6_isImage_93 rfl hw
def mw_isImage (x1 : Int32) (σ : FS) (Q : Int32 → FS → Prop) : Prop :=
  mw_cellMany σ (fun r2 σ1 => (((fI σ1 0 50) = 0 → Q (0 : Int32) σ1) ∧ (¬ (fI σ1 0 50) = 0 → mw_personMany σ1 (fun r4 σ3 => ((¬ x1 = ((((2 : Int32) + r2) + ((4 : Int32) * r4)) + (1 : Int32)) → Q (0 : Int32) σ3) ∧ (x1 = ((((2 : Int32) + r2) + ((4 : Int32) * r4)) + (1 : Int32)) → (vp_in (x1 - (1 : Int32)) 1600 ∧ mw_checked 0 (x1 - (1 : Int32)) σ3 (fun r6 σ5 => ((¬ (fA σ3 0 (Int32.toNatClampNeg (x1 - (1 : Int32)))) = r6 → Q (0 : Int32) σ5) ∧ ((fA σ3 0 (Int32.toNatClampNeg (x1 - (1 : Int32)))) = r6 → (vp_in (0 : Int32) 1600 ∧ (vp_in (1 : Int32) 1600 ∧ (((((256 : Int32) * (fA σ5 0 (Int32.toNatClampNeg (0 : Int32)))) + (fA σ5 0 (Int32.toNatClampNeg (1 : Int32)))) ≤ (999 : Int32) → mw_isImage_76 x1 ((2 : Int32) + r2) (2 : Int32) σ5 Q) ∧ (¬ (((256 : Int32) * (fA σ5 0 (Int32.toNatClampNeg (0 : Int32)))) + (fA σ5 0 (Int32.toNatClampNeg (1 : Int32)))) ≤ (999 : Int32) → Q (0 : Int32) σ5))))))))))))))
theorem mt_isImage {κ : Cx} {S : Adr} {Z : State → Prop} {Q : Int32 → FS → Prop} (h : MCx κ cX6_isImage S 4) (hR : RetZ κ S Z cX6_isImage Q) {x1 : Int32} {σ : FS} (hw : mw_isImage x1 σ Q) : MG κ S Z 0 σ [some (.ref (S.2.1 0)), some (.int x1), none, none] [] := by
  unfold mw_isImage at hw
  refine g_iconstv 0 _ ic_2 h.1 dX6_isImage_0 ?_
  refine g_aload_0 1 h.1 dX6_isImage_1 ?_
  refine m_callI_0 2 h (mm_cellMany h.2.2.1 hw) (by decide) q2319 (Nat.le_of_ble_eq_true rfl) dX6_isImage_2 (fun r2 σ1 hw => ?_)
  refine g_iadd 5 h.1 dX6_isImage_5 ?_
  refine g_istore_2 6 h.1 rfl dX6_isImage_6 ?_
  refine g_aload_0 7 h.1 dX6_isImage_7 ?_
  refine mg_50 8 h dX6_isImage_8 ?_
  refine g_if_eq 11 72 h.1 dX6_isImage_11 (by decide) (fun c => ?_) (fun c => ?_)
  · have hw := hw.1 c
    refine g_iconstv 72 _ ic_0 h.1 dX6_isImage_72 ?_
    exact hR 73 _ _ _ dX6_isImage_73 rfl hw
  · have hw := hw.2 c
    refine g_iload_1 14 h.1 dX6_isImage_14 ?_
    refine g_iload_2 15 h.1 dX6_isImage_15 ?_
    refine g_iconstv 16 _ ic_4 h.1 dX6_isImage_16 ?_
    refine g_aload_0 17 h.1 dX6_isImage_17 ?_
    refine m_callI_0 18 h (mm_personMany h.2.2.1 hw) (by decide) q2307 (Nat.le_of_ble_eq_true rfl) dX6_isImage_18 (fun r4 σ3 hw => ?_)
    refine g_imul 21 h.1 dX6_isImage_21 ?_
    refine g_iadd 22 h.1 dX6_isImage_22 ?_
    refine g_iconstv 23 _ ic_1 h.1 dX6_isImage_23 ?_
    refine g_iadd 24 h.1 dX6_isImage_24 ?_
    refine g_icmp_ne 25 72 h.1 dX6_isImage_25 (by decide) (fun c => ?_) (fun c => ?_)
    · have hw := hw.1 c
      refine g_iconstv 72 _ ic_0 h.1 dX6_isImage_72 ?_
      exact hR 73 _ _ _ dX6_isImage_73 rfl hw
    · have hw := hw.2 c
      refine g_aload_0 28 h.1 dX6_isImage_28 ?_
      refine mg_0 29 h dX6_isImage_29 ?_
      refine g_iload_1 32 h.1 dX6_isImage_32 ?_
      refine g_iconstv 33 _ ic_1 h.1 dX6_isImage_33 ?_
      refine g_isub 34 h.1 dX6_isImage_34 ?_
      refine m_iald 35 rfl hw.1 h dX6_isImage_35 ?_
      have hw := hw.2
      refine g_aload_0 36 h.1 dX6_isImage_36 ?_
      refine mg_0 37 h dX6_isImage_37 ?_
      refine g_iload_1 40 h.1 dX6_isImage_40 ?_
      refine g_iconstv 41 _ ic_1 h.1 dX6_isImage_41 ?_
      refine g_isub 42 h.1 dX6_isImage_42 ?_
      refine m_scallI_2 43 h (mm_checked h.2.2.1 hw) (by decide) q2675 (Nat.le_of_ble_eq_true rfl) dX6_isImage_43 (fun r6 σ5 hw => ?_)
      refine g_icmp_ne 46 72 h.1 dX6_isImage_46 (by decide) (fun c => ?_) (fun c => ?_)
      · have hw := hw.1 c
        refine g_iconstv 72 _ ic_0 h.1 dX6_isImage_72 ?_
        exact hR 73 _ _ _ dX6_isImage_73 rfl hw
      · have hw := hw.2 c
        refine g_sipush 49 _ sp_256 h.1 dX6_isImage_49 ?_
        refine g_aload_0 52 h.1 dX6_isImage_52 ?_
        refine mg_0 53 h dX6_isImage_53 ?_
        refine g_iconstv 56 _ ic_0 h.1 dX6_isImage_56 ?_
        refine m_iald 57 rfl hw.1 h dX6_isImage_57 ?_
        have hw := hw.2
        refine g_imul 58 h.1 dX6_isImage_58 ?_
        refine g_aload_0 59 h.1 dX6_isImage_59 ?_
        refine mg_0 60 h dX6_isImage_60 ?_
        refine g_iconstv 63 _ ic_1 h.1 dX6_isImage_63 ?_
        refine m_iald 64 rfl hw.1 h dX6_isImage_64 ?_
        have hw := hw.2
        refine g_iadd 65 h.1 dX6_isImage_65 ?_
        refine g_sipush 66 _ sp_999 h.1 dX6_isImage_66 ?_
        refine g_icmp_le 69 74 h.1 dX6_isImage_69 (by decide) (fun c => ?_) (fun c => ?_)
        · have hw := hw.1 c
          refine g_iconstv 74 _ ic_2 h.1 dX6_isImage_74 ?_
          refine g_istore_3 75 h.1 rfl dX6_isImage_75 ?_
          exact g_le (mt_isImage_76 h hR hw) ⟨rfl, rfl, rfl, rfl, trivial⟩
        · have hw := hw.2 c
          refine g_iconstv 72 _ ic_0 h.1 dX6_isImage_72 ?_
          exact hR 73 _ _ _ dX6_isImage_73 rfl hw
theorem mm_isImage {l : Launch} {S : Adr} (hD : MD S) {x1 : Int32} {σ : FS} {Q : Int32 → FS → Prop} (hw : mw_isImage x1 σ Q) : mMet l S 4 yX6_isImage [.int x1] σ (mQi S Q) :=
  m_metZ hD ⟨rfl, by decide, by show _ = some 1; decide +kernel, q2689⟩ q2688 qs168 (Nat.le_of_ble_eq_true rfl) (fun κ Z h hR => mt_isImage h hR hw)
def mw_isSo (σ : FS) (Q : Int32 → FS → Prop) : Prop :=
  mw_heightOf (fI σ 0 65) σ (fun r2 σ1 => ((r2 < (fI σ1 0 66) → Q (0 : Int32) σ1) ∧ (¬ r2 < (fI σ1 0 66) → mw_heightOf (fI σ1 0 67) σ1 (fun r4 σ3 => ((¬ r4 = (fI σ3 0 68) → Q (0 : Int32) σ3) ∧ (r4 = (fI σ3 0 68) → Q (1 : Int32) σ3))))))
theorem mt_isSo {κ : Cx} {S : Adr} {Z : State → Prop} {Q : Int32 → FS → Prop} (h : MCx κ cX6_isSo S 2) (hR : RetZ κ S Z cX6_isSo Q) {σ : FS} (hw : mw_isSo σ Q) : MG κ S Z 0 σ [some (.ref (S.2.1 0))] [] := by
  unfold mw_isSo at hw
  refine g_aload_0 0 h.1 dX6_isSo_0 ?_
  refine g_aload_0 1 h.1 dX6_isSo_1 ?_
  refine mg_65 2 h dX6_isSo_2 ?_
  refine m_callI_1 5 h (mm_heightOf h.2.2.1 hw) (by decide) q2327 (Nat.le_of_ble_eq_true rfl) dX6_isSo_5 (fun r2 σ1 hw => ?_)
  refine g_aload_0 8 h.1 dX6_isSo_8 ?_
  refine mg_66 9 h dX6_isSo_9 ?_
  refine g_icmp_lt 12 34 h.1 dX6_isSo_12 (by decide) (fun c => ?_) (fun c => ?_)
  · have hw := hw.1 c
    refine g_iconstv 34 _ ic_0 h.1 dX6_isSo_34 ?_
    exact hR 35 _ _ _ dX6_isSo_35 rfl hw
  · have hw := hw.2 c
    refine g_aload_0 15 h.1 dX6_isSo_15 ?_
    refine g_aload_0 16 h.1 dX6_isSo_16 ?_
    refine mg_67 17 h dX6_isSo_17 ?_
    refine m_callI_1 20 h (mm_heightOf h.2.2.1 hw) (by decide) q2327 (Nat.le_of_ble_eq_true rfl) dX6_isSo_20 (fun r4 σ3 hw => ?_)
    refine g_aload_0 23 h.1 dX6_isSo_23 ?_
    refine mg_68 24 h dX6_isSo_24 ?_
    refine g_icmp_ne 27 34 h.1 dX6_isSo_27 (by decide) (fun c => ?_) (fun c => ?_)
    · have hw := hw.1 c
      refine g_iconstv 34 _ ic_0 h.1 dX6_isSo_34 ?_
      exact hR 35 _ _ _ dX6_isSo_35 rfl hw
    · have hw := hw.2 c
      refine g_iconstv 30 _ ic_1 h.1 dX6_isSo_30 ?_
      refine g_goto 31 35 h.1 dX6_isSo_31 (by decide) ?_
      exact hR 35 _ _ _ dX6_isSo_35 rfl hw
theorem mm_isSo {l : Launch} {S : Adr} (hD : MD S) {σ : FS} {Q : Int32 → FS → Prop} (hw : mw_isSo σ Q) : mMet l S 2 yX6_isSo [] σ (mQi S Q) :=
  m_metZ hD ⟨rfl, by decide, by show _ = some 0; decide +kernel, q2488⟩ q2487 qs140 (Nat.le_of_ble_eq_true rfl) (fun κ Z h hR => mt_isSo h hR hw)
def mw_isOne_37 (X2 : Int32 → FS → Prop) (x1 : Int32) (y0 : Int32) (σ : FS) (Q : Int32 → FS → Prop) : Prop :=
  mw_triesAnew σ (fun σ8 => ((y0 = 0 → X2 (x1 + 1) σ8) ∧ (¬ y0 = 0 → Q (1 : Int32) σ8)))
theorem mt_isOne_37 {κ : Cx} {S : Adr} {Z : State → Prop} {Q : Int32 → FS → Prop} (h : MCx κ cX6_isOne S 8) (hR : RetZ κ S Z cX6_isOne Q) {X2 : Int32 → FS → Prop} (hX2 : ∀ (x1 : Int32) (σ : FS), X2 x1 σ → MG κ S Z 2 σ [some (.ref (S.2.1 0)), some (.int x1), none] []) {x1 : Int32} {y0 : Int32} {σ : FS} (hw : mw_isOne_37 X2 x1 y0 σ Q) : MG κ S Z 37 σ [some (.ref (S.2.1 0)), some (.int x1), none] [.int y0] := by
  unfold mw_isOne_37 at hw
  refine g_istore_2 37 h.1 rfl dX6_isOne_37 ?_
  refine g_aload_0 38 h.1 dX6_isOne_38 ?_
  refine m_callV_0 39 h (mm_triesAnew h.2.2.1 hw) (by decide) q2460 (Nat.le_of_ble_eq_true rfl) dX6_isOne_39 (fun σ8 hw => ?_)
  refine g_iload_2 42 h.1 dX6_isOne_42 ?_
  refine g_if_eq 43 48 h.1 dX6_isOne_43 (by decide) (fun c => ?_) (fun c => ?_)
  · have hw := hw.1 c
    refine g_iinc_1 48 (x1 + 1) (congrArg _ ic_1) h.1 rfl dX6_isOne_48 ?_
    refine g_goto 51 2 h.1 dX6_isOne_51 (by decide) ?_
    exact g_le (hX2 _ _ hw) ⟨rfl, rfl, trivial⟩
  · have hw := hw.2 c
    refine g_iconstv 46 _ ic_1 h.1 dX6_isOne_46 ?_
    exact hR 47 _ _ _ dX6_isOne_47 rfl hw
def mw_isOne_36 (X2 : Int32 → FS → Prop) (x1 : Int32) (σ : FS) (Q : Int32 → FS → Prop) : Prop :=
  mw_isOne_37 X2 x1 (0 : Int32) σ Q
theorem mt_isOne_36 {κ : Cx} {S : Adr} {Z : State → Prop} {Q : Int32 → FS → Prop} (h : MCx κ cX6_isOne S 8) (hR : RetZ κ S Z cX6_isOne Q) {X2 : Int32 → FS → Prop} (hX2 : ∀ (x1 : Int32) (σ : FS), X2 x1 σ → MG κ S Z 2 σ [some (.ref (S.2.1 0)), some (.int x1), none] []) {x1 : Int32} {σ : FS} (hw : mw_isOne_36 X2 x1 σ Q) : MG κ S Z 36 σ [some (.ref (S.2.1 0)), some (.int x1), none] [] := by
  unfold mw_isOne_36 at hw
  refine g_iconstv 36 _ ic_0 h.1 dX6_isOne_36 ?_
  exact g_le (mt_isOne_37 h hR hX2 hw) ⟨rfl, rfl, trivial⟩
def mw_isOne_2 (x1 : Int32) (σ : FS) (Q : Int32 → FS → Prop) : Prop :=
  ∀ X2 : Int32 → FS → Prop, (∀ (x1 : Int32) (σ : FS), mw_askingMany σ (fun r2 σ1 => ((r2 ≤ x1 → Q (0 : Int32) σ1) ∧ (¬ r2 ≤ x1 → (vp_in (0 : Int32) 3 ∧ ∀ σ3, σ3 = sA σ1 62 (Int32.toNatClampNeg (0 : Int32)) x1 → mw_doesShrug x1 σ3 (fun r5 σ4 => ((r5 = 0 → mw_isOne_36 X2 x1 σ4 Q) ∧ (¬ r5 = 0 → mw_isSo σ4 (fun r7 σ6 => ((r7 = 0 → mw_isOne_36 X2 x1 σ6 Q) ∧ (¬ r7 = 0 → mw_isOne_37 X2 x1 (1 : Int32) σ6 Q)))))))))) → X2 x1 σ) → X2 x1 σ
theorem mt_isOne_2 {κ : Cx} {S : Adr} {Z : State → Prop} {Q : Int32 → FS → Prop} (h : MCx κ cX6_isOne S 8) (hR : RetZ κ S Z cX6_isOne Q) {x1 : Int32} {σ : FS} (hw : mw_isOne_2 x1 σ Q) : MG κ S Z 2 σ [some (.ref (S.2.1 0)), some (.int x1), none] [] := by
  refine hw (fun x1 σ => MG κ S Z 2 σ [some (.ref (S.2.1 0)), some (.int x1), none] []) ?_
  clear hw
  intro x1 σ hw
  have hX2 : ∀ (x1 : Int32) (σ : FS), MG κ S Z 2 σ [some (.ref (S.2.1 0)), some (.int x1), none] [] → MG κ S Z 2 σ [some (.ref (S.2.1 0)), some (.int x1), none] [] := fun _ _ hh => hh
  refine g_iload_1 2 h.1 dX6_isOne_2 ?_
  refine g_aload_0 3 h.1 dX6_isOne_3 ?_
  refine m_callI_0 4 h (mm_askingMany h.2.2.1 hw) (by decide) q2493 (Nat.le_of_ble_eq_true rfl) dX6_isOne_4 (fun r2 σ1 hw => ?_)
  refine g_icmp_ge 7 54 h.1 dX6_isOne_7 (by decide) (fun c => ?_) (fun c => ?_)
  · have hw := hw.1 c
    refine g_iconstv 54 _ ic_0 h.1 dX6_isOne_54 ?_
    exact hR 55 _ _ _ dX6_isOne_55 rfl hw
  · have hw := hw.2 c
    refine g_aload_0 10 h.1 dX6_isOne_10 ?_
    refine mg_62 11 h dX6_isOne_11 ?_
    refine g_iconstv 14 _ ic_0 h.1 dX6_isOne_14 ?_
    refine g_iload_1 15 h.1 dX6_isOne_15 ?_
    refine m_iast 16 rfl hw.1 h dX6_isOne_16 ?_
    have hw := hw.2 _ rfl
    refine g_aload_0 17 h.1 dX6_isOne_17 ?_
    refine g_iload_1 18 h.1 dX6_isOne_18 ?_
    refine m_callI_1 19 h (mm_doesShrug h.2.2.1 hw) (by decide) q2497 (Nat.le_of_ble_eq_true rfl) dX6_isOne_19 (fun r5 σ4 hw => ?_)
    refine g_if_eq 22 36 h.1 dX6_isOne_22 (by decide) (fun c => ?_) (fun c => ?_)
    · have hw := hw.1 c
      exact g_le (mt_isOne_36 h hR hX2 hw) ⟨rfl, rfl, trivial⟩
    · have hw := hw.2 c
      refine g_aload_0 25 h.1 dX6_isOne_25 ?_
      refine m_callI_0 26 h (mm_isSo h.2.2.1 hw) (by decide) q2485 (Nat.le_of_ble_eq_true rfl) dX6_isOne_26 (fun r7 σ6 hw => ?_)
      refine g_if_eq 29 36 h.1 dX6_isOne_29 (by decide) (fun c => ?_) (fun c => ?_)
      · have hw := hw.1 c
        exact g_le (mt_isOne_36 h hR hX2 hw) ⟨rfl, rfl, trivial⟩
      · have hw := hw.2 c
        refine g_iconstv 32 _ ic_1 h.1 dX6_isOne_32 ?_
        refine g_goto 33 37 h.1 dX6_isOne_33 (by decide) ?_
        exact g_le (mt_isOne_37 h hR hX2 hw) ⟨rfl, rfl, trivial⟩
def mw_isOne (σ : FS) (Q : Int32 → FS → Prop) : Prop :=
  mw_isOne_2 (0 : Int32) σ Q
theorem mt_isOne {κ : Cx} {S : Adr} {Z : State → Prop} {Q : Int32 → FS → Prop} (h : MCx κ cX6_isOne S 8) (hR : RetZ κ S Z cX6_isOne Q) {σ : FS} (hw : mw_isOne σ Q) : MG κ S Z 0 σ [some (.ref (S.2.1 0)), none, none] [] := by
  unfold mw_isOne at hw
  refine g_iconstv 0 _ ic_0 h.1 dX6_isOne_0 ?_
  refine g_istore_1 1 h.1 rfl dX6_isOne_1 ?_
  exact g_le (mt_isOne_2 h hR hw) ⟨rfl, rfl, trivial⟩
theorem mm_isOne {l : Launch} {S : Adr} (hD : MD S) {σ : FS} {Q : Int32 → FS → Prop} (hw : mw_isOne σ Q) : mMet l S 8 yX6_isOne [] σ (mQi S Q) :=
  m_metZ hD ⟨rfl, by decide, by show _ = some 0; decide +kernel, q2492⟩ q2491 qs141 (Nat.le_of_ble_eq_true rfl) (fun κ Z h hR => mt_isOne h hR hw)
def mw_isOwnHere_342 (y0 : Int32) (σ : FS) (Q : Int32 → FS → Prop) : Prop :=
  (nb y0 ∧ Q y0 σ)
theorem mt_isOwnHere_342 {κ : Cx} {S : Adr} {Z : State → Prop} {Q : Int32 → FS → Prop} (h : MCx κ cX6_isOwnHere S 3) (hR : RetZ κ S Z cX6_isOwnHere Q) {y0 : Int32} {σ : FS} (hw : mw_isOwnHere_342 y0 σ Q) : MG κ S Z 342 σ [none, none] [.int y0] := by
  unfold mw_isOwnHere_342 at hw
  refine g_istore_1 342 h.1 rfl dX6_isOwnHere_342 ?_
  refine g_iload_1 343 h.1 dX6_isOwnHere_343 ?_
  exact hR 344 _ _ _ dX6_isOwnHere_344 hw.1 hw.2
def mw_isOwnHere_337 (σ : FS) (Q : Int32 → FS → Prop) : Prop :=
  mw_isOwnHere_342 (1 : Int32) σ Q
theorem mt_isOwnHere_337 {κ : Cx} {S : Adr} {Z : State → Prop} {Q : Int32 → FS → Prop} (h : MCx κ cX6_isOwnHere S 3) (hR : RetZ κ S Z cX6_isOwnHere Q) {σ : FS} (hw : mw_isOwnHere_337 σ Q) : MG κ S Z 337 σ [none, none] [] := by
  unfold mw_isOwnHere_337 at hw
  refine g_iconstv 337 _ ic_1 h.1 dX6_isOwnHere_337 ?_
  refine g_goto 338 342 h.1 dX6_isOwnHere_338 (by decide) ?_
  exact g_le (mt_isOwnHere_342 h hR hw) trivial
def mw_isOwnHere_299 (y0 : Int32) (σ : FS) (Q : Int32 → FS → Prop) : Prop :=
  ((¬ y0 = 0 → mw_isOwnHere_337 σ Q) ∧ (y0 = 0 → mw_isHere 35 σ (fun r50 σ49 => ((¬ r50 = 0 → mw_isOwnHere_337 σ49 Q) ∧ (r50 = 0 → mw_isHere 36 σ49 (fun r52 σ51 => ((¬ r52 = 0 → mw_isOwnHere_337 σ51 Q) ∧ (r52 = 0 → mw_isHere 37 σ51 (fun r54 σ53 => ((r54 = 0 → mw_isOwnHere_342 (0 : Int32) σ53 Q) ∧ (¬ r54 = 0 → mw_isOwnHere_337 σ53 Q)))))))))))
theorem mt_isOwnHere_299 {κ : Cx} {S : Adr} {Z : State → Prop} {Q : Int32 → FS → Prop} (h : MCx κ cX6_isOwnHere S 3) (hR : RetZ κ S Z cX6_isOwnHere Q) {y0 : Int32} {σ : FS} (hw : mw_isOwnHere_299 y0 σ Q) : MG κ S Z 299 σ [some (.ref (S.2.1 0)), none] [.int y0] := by
  unfold mw_isOwnHere_299 at hw
  refine g_istore_1 299 h.1 rfl dX6_isOwnHere_299 ?_
  refine g_iload_1 300 h.1 dX6_isOwnHere_300 ?_
  refine g_if_ne 301 337 h.1 dX6_isOwnHere_301 (by decide) (fun c => ?_) (fun c => ?_)
  · have hw := hw.1 c
    exact g_le (mt_isOwnHere_337 h hR hw) trivial
  · have hw := hw.2 c
    refine g_aload_0 304 h.1 dX6_isOwnHere_304 ?_
    refine g_aload_0 305 h.1 dX6_isOwnHere_305 ?_
    refine mg_35 306 h dX6_isOwnHere_306 ?_
    refine m_callI_1 309 h (mm_isHere h.2.2.1 hw) (by decide) q2125 (Nat.le_of_ble_eq_true rfl) dX6_isOwnHere_309 (fun r50 σ49 hw => ?_)
    refine g_if_ne 312 337 h.1 dX6_isOwnHere_312 (by decide) (fun c => ?_) (fun c => ?_)
    · have hw := hw.1 c
      exact g_le (mt_isOwnHere_337 h hR hw) trivial
    · have hw := hw.2 c
      refine g_aload_0 315 h.1 dX6_isOwnHere_315 ?_
      refine g_aload_0 316 h.1 dX6_isOwnHere_316 ?_
      refine mg_36 317 h dX6_isOwnHere_317 ?_
      refine m_callI_1 320 h (mm_isHere h.2.2.1 hw) (by decide) q2125 (Nat.le_of_ble_eq_true rfl) dX6_isOwnHere_320 (fun r52 σ51 hw => ?_)
      refine g_if_ne 323 337 h.1 dX6_isOwnHere_323 (by decide) (fun c => ?_) (fun c => ?_)
      · have hw := hw.1 c
        exact g_le (mt_isOwnHere_337 h hR hw) trivial
      · have hw := hw.2 c
        refine g_aload_0 326 h.1 dX6_isOwnHere_326 ?_
        refine g_aload_0 327 h.1 dX6_isOwnHere_327 ?_
        refine mg_37 328 h dX6_isOwnHere_328 ?_
        refine m_callI_1 331 h (mm_isHere h.2.2.1 hw) (by decide) q2125 (Nat.le_of_ble_eq_true rfl) dX6_isOwnHere_331 (fun r54 σ53 hw => ?_)
        refine g_if_eq 334 341 h.1 dX6_isOwnHere_334 (by decide) (fun c => ?_) (fun c => ?_)
        · have hw := hw.1 c
          refine g_iconstv 341 _ ic_0 h.1 dX6_isOwnHere_341 ?_
          exact g_le (mt_isOwnHere_342 h hR hw) trivial
        · have hw := hw.2 c
          exact g_le (mt_isOwnHere_337 h hR hw) trivial
def mw_isOwnHere_294 (σ : FS) (Q : Int32 → FS → Prop) : Prop :=
  mw_isOwnHere_299 (1 : Int32) σ Q
theorem mt_isOwnHere_294 {κ : Cx} {S : Adr} {Z : State → Prop} {Q : Int32 → FS → Prop} (h : MCx κ cX6_isOwnHere S 3) (hR : RetZ κ S Z cX6_isOwnHere Q) {σ : FS} (hw : mw_isOwnHere_294 σ Q) : MG κ S Z 294 σ [some (.ref (S.2.1 0)), none] [] := by
  unfold mw_isOwnHere_294 at hw
  refine g_iconstv 294 _ ic_1 h.1 dX6_isOwnHere_294 ?_
  refine g_goto 295 299 h.1 dX6_isOwnHere_295 (by decide) ?_
  exact g_le (mt_isOwnHere_299 h hR hw) ⟨rfl, trivial⟩
def mw_isOwnHere_223 (y0 : Int32) (σ : FS) (Q : Int32 → FS → Prop) : Prop :=
  ((¬ y0 = 0 → mw_isOwnHere_294 σ Q) ∧ (y0 = 0 → mw_isHere 29 σ (fun r38 σ37 => ((¬ r38 = 0 → mw_isOwnHere_294 σ37 Q) ∧ (r38 = 0 → mw_isHere 30 σ37 (fun r40 σ39 => ((¬ r40 = 0 → mw_isOwnHere_294 σ39 Q) ∧ (r40 = 0 → mw_isHere 31 σ39 (fun r42 σ41 => ((¬ r42 = 0 → mw_isOwnHere_294 σ41 Q) ∧ (r42 = 0 → mw_isHere 32 σ41 (fun r44 σ43 => ((¬ r44 = 0 → mw_isOwnHere_294 σ43 Q) ∧ (r44 = 0 → mw_isHere 33 σ43 (fun r46 σ45 => ((¬ r46 = 0 → mw_isOwnHere_294 σ45 Q) ∧ (r46 = 0 → mw_isHere 34 σ45 (fun r48 σ47 => ((r48 = 0 → mw_isOwnHere_299 (0 : Int32) σ47 Q) ∧ (¬ r48 = 0 → mw_isOwnHere_294 σ47 Q))))))))))))))))))))
theorem mt_isOwnHere_223 {κ : Cx} {S : Adr} {Z : State → Prop} {Q : Int32 → FS → Prop} (h : MCx κ cX6_isOwnHere S 3) (hR : RetZ κ S Z cX6_isOwnHere Q) {y0 : Int32} {σ : FS} (hw : mw_isOwnHere_223 y0 σ Q) : MG κ S Z 223 σ [some (.ref (S.2.1 0)), none] [.int y0] := by
  unfold mw_isOwnHere_223 at hw
  refine g_istore_1 223 h.1 rfl dX6_isOwnHere_223 ?_
  refine g_iload_1 224 h.1 dX6_isOwnHere_224 ?_
  refine g_if_ne 225 294 h.1 dX6_isOwnHere_225 (by decide) (fun c => ?_) (fun c => ?_)
  · have hw := hw.1 c
    exact g_le (mt_isOwnHere_294 h hR hw) ⟨rfl, trivial⟩
  · have hw := hw.2 c
    refine g_aload_0 228 h.1 dX6_isOwnHere_228 ?_
    refine g_aload_0 229 h.1 dX6_isOwnHere_229 ?_
    refine mg_29 230 h dX6_isOwnHere_230 ?_
    refine m_callI_1 233 h (mm_isHere h.2.2.1 hw) (by decide) q2125 (Nat.le_of_ble_eq_true rfl) dX6_isOwnHere_233 (fun r38 σ37 hw => ?_)
    refine g_if_ne 236 294 h.1 dX6_isOwnHere_236 (by decide) (fun c => ?_) (fun c => ?_)
    · have hw := hw.1 c
      exact g_le (mt_isOwnHere_294 h hR hw) ⟨rfl, trivial⟩
    · have hw := hw.2 c
      refine g_aload_0 239 h.1 dX6_isOwnHere_239 ?_
      refine g_aload_0 240 h.1 dX6_isOwnHere_240 ?_
      refine mg_30 241 h dX6_isOwnHere_241 ?_
      refine m_callI_1 244 h (mm_isHere h.2.2.1 hw) (by decide) q2125 (Nat.le_of_ble_eq_true rfl) dX6_isOwnHere_244 (fun r40 σ39 hw => ?_)
      refine g_if_ne 247 294 h.1 dX6_isOwnHere_247 (by decide) (fun c => ?_) (fun c => ?_)
      · have hw := hw.1 c
        exact g_le (mt_isOwnHere_294 h hR hw) ⟨rfl, trivial⟩
      · have hw := hw.2 c
        refine g_aload_0 250 h.1 dX6_isOwnHere_250 ?_
        refine g_aload_0 251 h.1 dX6_isOwnHere_251 ?_
        refine mg_31 252 h dX6_isOwnHere_252 ?_
        refine m_callI_1 255 h (mm_isHere h.2.2.1 hw) (by decide) q2125 (Nat.le_of_ble_eq_true rfl) dX6_isOwnHere_255 (fun r42 σ41 hw => ?_)
        refine g_if_ne 258 294 h.1 dX6_isOwnHere_258 (by decide) (fun c => ?_) (fun c => ?_)
        · have hw := hw.1 c
          exact g_le (mt_isOwnHere_294 h hR hw) ⟨rfl, trivial⟩
        · have hw := hw.2 c
          refine g_aload_0 261 h.1 dX6_isOwnHere_261 ?_
          refine g_aload_0 262 h.1 dX6_isOwnHere_262 ?_
          refine mg_32 263 h dX6_isOwnHere_263 ?_
          refine m_callI_1 266 h (mm_isHere h.2.2.1 hw) (by decide) q2125 (Nat.le_of_ble_eq_true rfl) dX6_isOwnHere_266 (fun r44 σ43 hw => ?_)
          refine g_if_ne 269 294 h.1 dX6_isOwnHere_269 (by decide) (fun c => ?_) (fun c => ?_)
          · have hw := hw.1 c
            exact g_le (mt_isOwnHere_294 h hR hw) ⟨rfl, trivial⟩
          · have hw := hw.2 c
            refine g_aload_0 272 h.1 dX6_isOwnHere_272 ?_
            refine g_aload_0 273 h.1 dX6_isOwnHere_273 ?_
            refine mg_33 274 h dX6_isOwnHere_274 ?_
            refine m_callI_1 277 h (mm_isHere h.2.2.1 hw) (by decide) q2125 (Nat.le_of_ble_eq_true rfl) dX6_isOwnHere_277 (fun r46 σ45 hw => ?_)
            refine g_if_ne 280 294 h.1 dX6_isOwnHere_280 (by decide) (fun c => ?_) (fun c => ?_)
            · have hw := hw.1 c
              exact g_le (mt_isOwnHere_294 h hR hw) ⟨rfl, trivial⟩
            · have hw := hw.2 c
              refine g_aload_0 283 h.1 dX6_isOwnHere_283 ?_
              refine g_aload_0 284 h.1 dX6_isOwnHere_284 ?_
              refine mg_34 285 h dX6_isOwnHere_285 ?_
              refine m_callI_1 288 h (mm_isHere h.2.2.1 hw) (by decide) q2125 (Nat.le_of_ble_eq_true rfl) dX6_isOwnHere_288 (fun r48 σ47 hw => ?_)
              refine g_if_eq 291 298 h.1 dX6_isOwnHere_291 (by decide) (fun c => ?_) (fun c => ?_)
              · have hw := hw.1 c
                refine g_iconstv 298 _ ic_0 h.1 dX6_isOwnHere_298 ?_
                exact g_le (mt_isOwnHere_299 h hR hw) ⟨rfl, trivial⟩
              · have hw := hw.2 c
                exact g_le (mt_isOwnHere_294 h hR hw) ⟨rfl, trivial⟩
def mw_isOwnHere_218 (σ : FS) (Q : Int32 → FS → Prop) : Prop :=
  mw_isOwnHere_223 (1 : Int32) σ Q
theorem mt_isOwnHere_218 {κ : Cx} {S : Adr} {Z : State → Prop} {Q : Int32 → FS → Prop} (h : MCx κ cX6_isOwnHere S 3) (hR : RetZ κ S Z cX6_isOwnHere Q) {σ : FS} (hw : mw_isOwnHere_218 σ Q) : MG κ S Z 218 σ [some (.ref (S.2.1 0)), none] [] := by
  unfold mw_isOwnHere_218 at hw
  refine g_iconstv 218 _ ic_1 h.1 dX6_isOwnHere_218 ?_
  refine g_goto 219 223 h.1 dX6_isOwnHere_219 (by decide) ?_
  exact g_le (mt_isOwnHere_223 h hR hw) ⟨rfl, trivial⟩
def mw_isOwnHere_147 (y0 : Int32) (σ : FS) (Q : Int32 → FS → Prop) : Prop :=
  ((¬ y0 = 0 → mw_isOwnHere_218 σ Q) ∧ (y0 = 0 → mw_isHere 23 σ (fun r26 σ25 => ((¬ r26 = 0 → mw_isOwnHere_218 σ25 Q) ∧ (r26 = 0 → mw_isHere 24 σ25 (fun r28 σ27 => ((¬ r28 = 0 → mw_isOwnHere_218 σ27 Q) ∧ (r28 = 0 → mw_isHere 25 σ27 (fun r30 σ29 => ((¬ r30 = 0 → mw_isOwnHere_218 σ29 Q) ∧ (r30 = 0 → mw_isHere 26 σ29 (fun r32 σ31 => ((¬ r32 = 0 → mw_isOwnHere_218 σ31 Q) ∧ (r32 = 0 → mw_isHere 27 σ31 (fun r34 σ33 => ((¬ r34 = 0 → mw_isOwnHere_218 σ33 Q) ∧ (r34 = 0 → mw_isHere 28 σ33 (fun r36 σ35 => ((r36 = 0 → mw_isOwnHere_223 (0 : Int32) σ35 Q) ∧ (¬ r36 = 0 → mw_isOwnHere_218 σ35 Q))))))))))))))))))))
theorem mt_isOwnHere_147 {κ : Cx} {S : Adr} {Z : State → Prop} {Q : Int32 → FS → Prop} (h : MCx κ cX6_isOwnHere S 3) (hR : RetZ κ S Z cX6_isOwnHere Q) {y0 : Int32} {σ : FS} (hw : mw_isOwnHere_147 y0 σ Q) : MG κ S Z 147 σ [some (.ref (S.2.1 0)), none] [.int y0] := by
  unfold mw_isOwnHere_147 at hw
  refine g_istore_1 147 h.1 rfl dX6_isOwnHere_147 ?_
  refine g_iload_1 148 h.1 dX6_isOwnHere_148 ?_
  refine g_if_ne 149 218 h.1 dX6_isOwnHere_149 (by decide) (fun c => ?_) (fun c => ?_)
  · have hw := hw.1 c
    exact g_le (mt_isOwnHere_218 h hR hw) ⟨rfl, trivial⟩
  · have hw := hw.2 c
    refine g_aload_0 152 h.1 dX6_isOwnHere_152 ?_
    refine g_aload_0 153 h.1 dX6_isOwnHere_153 ?_
    refine mg_23 154 h dX6_isOwnHere_154 ?_
    refine m_callI_1 157 h (mm_isHere h.2.2.1 hw) (by decide) q2125 (Nat.le_of_ble_eq_true rfl) dX6_isOwnHere_157 (fun r26 σ25 hw => ?_)
    refine g_if_ne 160 218 h.1 dX6_isOwnHere_160 (by decide) (fun c => ?_) (fun c => ?_)
    · have hw := hw.1 c
      exact g_le (mt_isOwnHere_218 h hR hw) ⟨rfl, trivial⟩
    · have hw := hw.2 c
      refine g_aload_0 163 h.1 dX6_isOwnHere_163 ?_
      refine g_aload_0 164 h.1 dX6_isOwnHere_164 ?_
      refine mg_24 165 h dX6_isOwnHere_165 ?_
      refine m_callI_1 168 h (mm_isHere h.2.2.1 hw) (by decide) q2125 (Nat.le_of_ble_eq_true rfl) dX6_isOwnHere_168 (fun r28 σ27 hw => ?_)
      refine g_if_ne 171 218 h.1 dX6_isOwnHere_171 (by decide) (fun c => ?_) (fun c => ?_)
      · have hw := hw.1 c
        exact g_le (mt_isOwnHere_218 h hR hw) ⟨rfl, trivial⟩
      · have hw := hw.2 c
        refine g_aload_0 174 h.1 dX6_isOwnHere_174 ?_
        refine g_aload_0 175 h.1 dX6_isOwnHere_175 ?_
        refine mg_25 176 h dX6_isOwnHere_176 ?_
        refine m_callI_1 179 h (mm_isHere h.2.2.1 hw) (by decide) q2125 (Nat.le_of_ble_eq_true rfl) dX6_isOwnHere_179 (fun r30 σ29 hw => ?_)
        refine g_if_ne 182 218 h.1 dX6_isOwnHere_182 (by decide) (fun c => ?_) (fun c => ?_)
        · have hw := hw.1 c
          exact g_le (mt_isOwnHere_218 h hR hw) ⟨rfl, trivial⟩
        · have hw := hw.2 c
          refine g_aload_0 185 h.1 dX6_isOwnHere_185 ?_
          refine g_aload_0 186 h.1 dX6_isOwnHere_186 ?_
          refine mg_26 187 h dX6_isOwnHere_187 ?_
          refine m_callI_1 190 h (mm_isHere h.2.2.1 hw) (by decide) q2125 (Nat.le_of_ble_eq_true rfl) dX6_isOwnHere_190 (fun r32 σ31 hw => ?_)
          refine g_if_ne 193 218 h.1 dX6_isOwnHere_193 (by decide) (fun c => ?_) (fun c => ?_)
          · have hw := hw.1 c
            exact g_le (mt_isOwnHere_218 h hR hw) ⟨rfl, trivial⟩
          · have hw := hw.2 c
            refine g_aload_0 196 h.1 dX6_isOwnHere_196 ?_
            refine g_aload_0 197 h.1 dX6_isOwnHere_197 ?_
            refine mg_27 198 h dX6_isOwnHere_198 ?_
            refine m_callI_1 201 h (mm_isHere h.2.2.1 hw) (by decide) q2125 (Nat.le_of_ble_eq_true rfl) dX6_isOwnHere_201 (fun r34 σ33 hw => ?_)
            refine g_if_ne 204 218 h.1 dX6_isOwnHere_204 (by decide) (fun c => ?_) (fun c => ?_)
            · have hw := hw.1 c
              exact g_le (mt_isOwnHere_218 h hR hw) ⟨rfl, trivial⟩
            · have hw := hw.2 c
              refine g_aload_0 207 h.1 dX6_isOwnHere_207 ?_
              refine g_aload_0 208 h.1 dX6_isOwnHere_208 ?_
              refine mg_28 209 h dX6_isOwnHere_209 ?_
              refine m_callI_1 212 h (mm_isHere h.2.2.1 hw) (by decide) q2125 (Nat.le_of_ble_eq_true rfl) dX6_isOwnHere_212 (fun r36 σ35 hw => ?_)
              refine g_if_eq 215 222 h.1 dX6_isOwnHere_215 (by decide) (fun c => ?_) (fun c => ?_)
              · have hw := hw.1 c
                refine g_iconstv 222 _ ic_0 h.1 dX6_isOwnHere_222 ?_
                exact g_le (mt_isOwnHere_223 h hR hw) ⟨rfl, trivial⟩
              · have hw := hw.2 c
                exact g_le (mt_isOwnHere_218 h hR hw) ⟨rfl, trivial⟩
def mw_isOwnHere_142 (σ : FS) (Q : Int32 → FS → Prop) : Prop :=
  mw_isOwnHere_147 (1 : Int32) σ Q
theorem mt_isOwnHere_142 {κ : Cx} {S : Adr} {Z : State → Prop} {Q : Int32 → FS → Prop} (h : MCx κ cX6_isOwnHere S 3) (hR : RetZ κ S Z cX6_isOwnHere Q) {σ : FS} (hw : mw_isOwnHere_142 σ Q) : MG κ S Z 142 σ [some (.ref (S.2.1 0)), none] [] := by
  unfold mw_isOwnHere_142 at hw
  refine g_iconstv 142 _ ic_1 h.1 dX6_isOwnHere_142 ?_
  refine g_goto 143 147 h.1 dX6_isOwnHere_143 (by decide) ?_
  exact g_le (mt_isOwnHere_147 h hR hw) ⟨rfl, trivial⟩
def mw_isOwnHere_71 (y0 : Int32) (σ : FS) (Q : Int32 → FS → Prop) : Prop :=
  ((¬ y0 = 0 → mw_isOwnHere_142 σ Q) ∧ (y0 = 0 → mw_isHere 17 σ (fun r14 σ13 => ((¬ r14 = 0 → mw_isOwnHere_142 σ13 Q) ∧ (r14 = 0 → mw_isHere 18 σ13 (fun r16 σ15 => ((¬ r16 = 0 → mw_isOwnHere_142 σ15 Q) ∧ (r16 = 0 → mw_isHere 19 σ15 (fun r18 σ17 => ((¬ r18 = 0 → mw_isOwnHere_142 σ17 Q) ∧ (r18 = 0 → mw_isHere 20 σ17 (fun r20 σ19 => ((¬ r20 = 0 → mw_isOwnHere_142 σ19 Q) ∧ (r20 = 0 → mw_isHere 21 σ19 (fun r22 σ21 => ((¬ r22 = 0 → mw_isOwnHere_142 σ21 Q) ∧ (r22 = 0 → mw_isHere 22 σ21 (fun r24 σ23 => ((r24 = 0 → mw_isOwnHere_147 (0 : Int32) σ23 Q) ∧ (¬ r24 = 0 → mw_isOwnHere_142 σ23 Q))))))))))))))))))))
theorem mt_isOwnHere_71 {κ : Cx} {S : Adr} {Z : State → Prop} {Q : Int32 → FS → Prop} (h : MCx κ cX6_isOwnHere S 3) (hR : RetZ κ S Z cX6_isOwnHere Q) {y0 : Int32} {σ : FS} (hw : mw_isOwnHere_71 y0 σ Q) : MG κ S Z 71 σ [some (.ref (S.2.1 0)), none] [.int y0] := by
  unfold mw_isOwnHere_71 at hw
  refine g_istore_1 71 h.1 rfl dX6_isOwnHere_71 ?_
  refine g_iload_1 72 h.1 dX6_isOwnHere_72 ?_
  refine g_if_ne 73 142 h.1 dX6_isOwnHere_73 (by decide) (fun c => ?_) (fun c => ?_)
  · have hw := hw.1 c
    exact g_le (mt_isOwnHere_142 h hR hw) ⟨rfl, trivial⟩
  · have hw := hw.2 c
    refine g_aload_0 76 h.1 dX6_isOwnHere_76 ?_
    refine g_aload_0 77 h.1 dX6_isOwnHere_77 ?_
    refine mg_17 78 h dX6_isOwnHere_78 ?_
    refine m_callI_1 81 h (mm_isHere h.2.2.1 hw) (by decide) q2125 (Nat.le_of_ble_eq_true rfl) dX6_isOwnHere_81 (fun r14 σ13 hw => ?_)
    refine g_if_ne 84 142 h.1 dX6_isOwnHere_84 (by decide) (fun c => ?_) (fun c => ?_)
    · have hw := hw.1 c
      exact g_le (mt_isOwnHere_142 h hR hw) ⟨rfl, trivial⟩
    · have hw := hw.2 c
      refine g_aload_0 87 h.1 dX6_isOwnHere_87 ?_
      refine g_aload_0 88 h.1 dX6_isOwnHere_88 ?_
      refine mg_18 89 h dX6_isOwnHere_89 ?_
      refine m_callI_1 92 h (mm_isHere h.2.2.1 hw) (by decide) q2125 (Nat.le_of_ble_eq_true rfl) dX6_isOwnHere_92 (fun r16 σ15 hw => ?_)
      refine g_if_ne 95 142 h.1 dX6_isOwnHere_95 (by decide) (fun c => ?_) (fun c => ?_)
      · have hw := hw.1 c
        exact g_le (mt_isOwnHere_142 h hR hw) ⟨rfl, trivial⟩
      · have hw := hw.2 c
        refine g_aload_0 98 h.1 dX6_isOwnHere_98 ?_
        refine g_aload_0 99 h.1 dX6_isOwnHere_99 ?_
        refine mg_19 100 h dX6_isOwnHere_100 ?_
        refine m_callI_1 103 h (mm_isHere h.2.2.1 hw) (by decide) q2125 (Nat.le_of_ble_eq_true rfl) dX6_isOwnHere_103 (fun r18 σ17 hw => ?_)
        refine g_if_ne 106 142 h.1 dX6_isOwnHere_106 (by decide) (fun c => ?_) (fun c => ?_)
        · have hw := hw.1 c
          exact g_le (mt_isOwnHere_142 h hR hw) ⟨rfl, trivial⟩
        · have hw := hw.2 c
          refine g_aload_0 109 h.1 dX6_isOwnHere_109 ?_
          refine g_aload_0 110 h.1 dX6_isOwnHere_110 ?_
          refine mg_20 111 h dX6_isOwnHere_111 ?_
          refine m_callI_1 114 h (mm_isHere h.2.2.1 hw) (by decide) q2125 (Nat.le_of_ble_eq_true rfl) dX6_isOwnHere_114 (fun r20 σ19 hw => ?_)
          refine g_if_ne 117 142 h.1 dX6_isOwnHere_117 (by decide) (fun c => ?_) (fun c => ?_)
          · have hw := hw.1 c
            exact g_le (mt_isOwnHere_142 h hR hw) ⟨rfl, trivial⟩
          · have hw := hw.2 c
            refine g_aload_0 120 h.1 dX6_isOwnHere_120 ?_
            refine g_aload_0 121 h.1 dX6_isOwnHere_121 ?_
            refine mg_21 122 h dX6_isOwnHere_122 ?_
            refine m_callI_1 125 h (mm_isHere h.2.2.1 hw) (by decide) q2125 (Nat.le_of_ble_eq_true rfl) dX6_isOwnHere_125 (fun r22 σ21 hw => ?_)
            refine g_if_ne 128 142 h.1 dX6_isOwnHere_128 (by decide) (fun c => ?_) (fun c => ?_)
            · have hw := hw.1 c
              exact g_le (mt_isOwnHere_142 h hR hw) ⟨rfl, trivial⟩
            · have hw := hw.2 c
              refine g_aload_0 131 h.1 dX6_isOwnHere_131 ?_
              refine g_aload_0 132 h.1 dX6_isOwnHere_132 ?_
              refine mg_22 133 h dX6_isOwnHere_133 ?_
              refine m_callI_1 136 h (mm_isHere h.2.2.1 hw) (by decide) q2125 (Nat.le_of_ble_eq_true rfl) dX6_isOwnHere_136 (fun r24 σ23 hw => ?_)
              refine g_if_eq 139 146 h.1 dX6_isOwnHere_139 (by decide) (fun c => ?_) (fun c => ?_)
              · have hw := hw.1 c
                refine g_iconstv 146 _ ic_0 h.1 dX6_isOwnHere_146 ?_
                exact g_le (mt_isOwnHere_147 h hR hw) ⟨rfl, trivial⟩
              · have hw := hw.2 c
                exact g_le (mt_isOwnHere_142 h hR hw) ⟨rfl, trivial⟩
def mw_isOwnHere_66 (σ : FS) (Q : Int32 → FS → Prop) : Prop :=
  mw_isOwnHere_71 (1 : Int32) σ Q
theorem mt_isOwnHere_66 {κ : Cx} {S : Adr} {Z : State → Prop} {Q : Int32 → FS → Prop} (h : MCx κ cX6_isOwnHere S 3) (hR : RetZ κ S Z cX6_isOwnHere Q) {σ : FS} (hw : mw_isOwnHere_66 σ Q) : MG κ S Z 66 σ [some (.ref (S.2.1 0)), none] [] := by
  unfold mw_isOwnHere_66 at hw
  refine g_iconstv 66 _ ic_1 h.1 dX6_isOwnHere_66 ?_
  refine g_goto 67 71 h.1 dX6_isOwnHere_67 (by decide) ?_
  exact g_le (mt_isOwnHere_71 h hR hw) ⟨rfl, trivial⟩
def mw_isOwnHere (σ : FS) (Q : Int32 → FS → Prop) : Prop :=
  mw_isHere 11 σ (fun r2 σ1 => ((¬ r2 = 0 → mw_isOwnHere_66 σ1 Q) ∧ (r2 = 0 → mw_isHere 12 σ1 (fun r4 σ3 => ((¬ r4 = 0 → mw_isOwnHere_66 σ3 Q) ∧ (r4 = 0 → mw_isHere 13 σ3 (fun r6 σ5 => ((¬ r6 = 0 → mw_isOwnHere_66 σ5 Q) ∧ (r6 = 0 → mw_isHere 14 σ5 (fun r8 σ7 => ((¬ r8 = 0 → mw_isOwnHere_66 σ7 Q) ∧ (r8 = 0 → mw_isHere 15 σ7 (fun r10 σ9 => ((¬ r10 = 0 → mw_isOwnHere_66 σ9 Q) ∧ (r10 = 0 → mw_isHere 16 σ9 (fun r12 σ11 => ((r12 = 0 → mw_isOwnHere_71 (0 : Int32) σ11 Q) ∧ (¬ r12 = 0 → mw_isOwnHere_66 σ11 Q))))))))))))))))))
theorem mt_isOwnHere {κ : Cx} {S : Adr} {Z : State → Prop} {Q : Int32 → FS → Prop} (h : MCx κ cX6_isOwnHere S 3) (hR : RetZ κ S Z cX6_isOwnHere Q) {σ : FS} (hw : mw_isOwnHere σ Q) : MG κ S Z 0 σ [some (.ref (S.2.1 0)), none] [] := by
  unfold mw_isOwnHere at hw
  refine g_aload_0 0 h.1 dX6_isOwnHere_0 ?_
  refine g_aload_0 1 h.1 dX6_isOwnHere_1 ?_
  refine mg_11 2 h dX6_isOwnHere_2 ?_
  refine m_callI_1 5 h (mm_isHere h.2.2.1 hw) (by decide) q2125 (Nat.le_of_ble_eq_true rfl) dX6_isOwnHere_5 (fun r2 σ1 hw => ?_)
  refine g_if_ne 8 66 h.1 dX6_isOwnHere_8 (by decide) (fun c => ?_) (fun c => ?_)
  · have hw := hw.1 c
    exact g_le (mt_isOwnHere_66 h hR hw) ⟨rfl, trivial⟩
  · have hw := hw.2 c
    refine g_aload_0 11 h.1 dX6_isOwnHere_11 ?_
    refine g_aload_0 12 h.1 dX6_isOwnHere_12 ?_
    refine mg_12 13 h dX6_isOwnHere_13 ?_
    refine m_callI_1 16 h (mm_isHere h.2.2.1 hw) (by decide) q2125 (Nat.le_of_ble_eq_true rfl) dX6_isOwnHere_16 (fun r4 σ3 hw => ?_)
    refine g_if_ne 19 66 h.1 dX6_isOwnHere_19 (by decide) (fun c => ?_) (fun c => ?_)
    · have hw := hw.1 c
      exact g_le (mt_isOwnHere_66 h hR hw) ⟨rfl, trivial⟩
    · have hw := hw.2 c
      refine g_aload_0 22 h.1 dX6_isOwnHere_22 ?_
      refine g_aload_0 23 h.1 dX6_isOwnHere_23 ?_
      refine mg_13 24 h dX6_isOwnHere_24 ?_
      refine m_callI_1 27 h (mm_isHere h.2.2.1 hw) (by decide) q2125 (Nat.le_of_ble_eq_true rfl) dX6_isOwnHere_27 (fun r6 σ5 hw => ?_)
      refine g_if_ne 30 66 h.1 dX6_isOwnHere_30 (by decide) (fun c => ?_) (fun c => ?_)
      · have hw := hw.1 c
        exact g_le (mt_isOwnHere_66 h hR hw) ⟨rfl, trivial⟩
      · have hw := hw.2 c
        refine g_aload_0 33 h.1 dX6_isOwnHere_33 ?_
        refine g_aload_0 34 h.1 dX6_isOwnHere_34 ?_
        refine mg_14 35 h dX6_isOwnHere_35 ?_
        refine m_callI_1 38 h (mm_isHere h.2.2.1 hw) (by decide) q2125 (Nat.le_of_ble_eq_true rfl) dX6_isOwnHere_38 (fun r8 σ7 hw => ?_)
        refine g_if_ne 41 66 h.1 dX6_isOwnHere_41 (by decide) (fun c => ?_) (fun c => ?_)
        · have hw := hw.1 c
          exact g_le (mt_isOwnHere_66 h hR hw) ⟨rfl, trivial⟩
        · have hw := hw.2 c
          refine g_aload_0 44 h.1 dX6_isOwnHere_44 ?_
          refine g_aload_0 45 h.1 dX6_isOwnHere_45 ?_
          refine mg_15 46 h dX6_isOwnHere_46 ?_
          refine m_callI_1 49 h (mm_isHere h.2.2.1 hw) (by decide) q2125 (Nat.le_of_ble_eq_true rfl) dX6_isOwnHere_49 (fun r10 σ9 hw => ?_)
          refine g_if_ne 52 66 h.1 dX6_isOwnHere_52 (by decide) (fun c => ?_) (fun c => ?_)
          · have hw := hw.1 c
            exact g_le (mt_isOwnHere_66 h hR hw) ⟨rfl, trivial⟩
          · have hw := hw.2 c
            refine g_aload_0 55 h.1 dX6_isOwnHere_55 ?_
            refine g_aload_0 56 h.1 dX6_isOwnHere_56 ?_
            refine mg_16 57 h dX6_isOwnHere_57 ?_
            refine m_callI_1 60 h (mm_isHere h.2.2.1 hw) (by decide) q2125 (Nat.le_of_ble_eq_true rfl) dX6_isOwnHere_60 (fun r12 σ11 hw => ?_)
            refine g_if_eq 63 70 h.1 dX6_isOwnHere_63 (by decide) (fun c => ?_) (fun c => ?_)
            · have hw := hw.1 c
              refine g_iconstv 70 _ ic_0 h.1 dX6_isOwnHere_70 ?_
              exact g_le (mt_isOwnHere_71 h hR hw) ⟨rfl, trivial⟩
            · have hw := hw.2 c
              exact g_le (mt_isOwnHere_66 h hR hw) ⟨rfl, trivial⟩
theorem mm_isOwnHere {l : Launch} {S : Adr} (hD : MD S) {σ : FS} {Q : Int32 → FS → Prop} (hw : mw_isOwnHere σ Q) : mMet l S 3 yX6_isOwnHere [] σ (mQi S Q) :=
  m_metZ hD ⟨rfl, by decide, by show _ = some 0; decide +kernel, q2189⟩ q2188 qs83 (Nat.le_of_ble_eq_true rfl) (fun κ Z h hR => mt_isOwnHere h hR hw)
def mw_isRest_2 (x1 : Int32) (x2 : Int32) (σ : FS) (Q : Int32 → FS → Prop) : Prop :=
  ∀ X2 : Int32 → Int32 → FS → Prop, (∀ (x1 : Int32) (x2 : Int32) (σ : FS), mw_personMany σ (fun r2 σ1 => ((r2 ≤ x2 → Q (1 : Int32) σ1) ∧ (¬ r2 ≤ x2 → (vp_in (((7 : Int32) * (x1 ^^^ ((1 : Int32) <<< (x2 &&& 31)))) + x2) 896 ∧ (vp_in (((7 : Int32) * x1) + x2) 896 ∧ (((fA σ1 70 (Int32.toNatClampNeg (((7 : Int32) * (x1 ^^^ ((1 : Int32) <<< (x2 &&& 31)))) + x2))) ≤ (fA σ1 70 (Int32.toNatClampNeg (((7 : Int32) * x1) + x2))) → X2 x1 (x2 + 1) σ1) ∧ (¬ (fA σ1 70 (Int32.toNatClampNeg (((7 : Int32) * (x1 ^^^ ((1 : Int32) <<< (x2 &&& 31)))) + x2))) ≤ (fA σ1 70 (Int32.toNatClampNeg (((7 : Int32) * x1) + x2))) → Q (0 : Int32) σ1))))))) → X2 x1 x2 σ) → X2 x1 x2 σ
theorem mt_isRest_2 {κ : Cx} {S : Adr} {Z : State → Prop} {Q : Int32 → FS → Prop} (h : MCx κ cX6_isRest S 2) (hR : RetZ κ S Z cX6_isRest Q) {x1 : Int32} {x2 : Int32} {σ : FS} (hw : mw_isRest_2 x1 x2 σ Q) : MG κ S Z 2 σ [some (.ref (S.2.1 0)), some (.int x1), some (.int x2)] [] := by
  refine hw (fun x1 x2 σ => MG κ S Z 2 σ [some (.ref (S.2.1 0)), some (.int x1), some (.int x2)] []) ?_
  clear hw
  intro x1 x2 σ hw
  have hX2 : ∀ (x1 : Int32) (x2 : Int32) (σ : FS), MG κ S Z 2 σ [some (.ref (S.2.1 0)), some (.int x1), some (.int x2)] [] → MG κ S Z 2 σ [some (.ref (S.2.1 0)), some (.int x1), some (.int x2)] [] := fun _ _ _ hh => hh
  refine g_iload_2 2 h.1 dX6_isRest_2 ?_
  refine g_aload_0 3 h.1 dX6_isRest_3 ?_
  refine m_callI_0 4 h (mm_personMany h.2.2.1 hw) (by decide) q2307 (Nat.le_of_ble_eq_true rfl) dX6_isRest_4 (fun r2 σ1 hw => ?_)
  refine g_icmp_ge 7 47 h.1 dX6_isRest_7 (by decide) (fun c => ?_) (fun c => ?_)
  · have hw := hw.1 c
    refine g_iconstv 47 _ ic_1 h.1 dX6_isRest_47 ?_
    exact hR 48 _ _ _ dX6_isRest_48 rfl hw
  · have hw := hw.2 c
    refine g_aload_0 10 h.1 dX6_isRest_10 ?_
    refine mg_70 11 h dX6_isRest_11 ?_
    refine g_bipush 14 _ bp_7 h.1 dX6_isRest_14 ?_
    refine g_iload_1 16 h.1 dX6_isRest_16 ?_
    refine g_iconstv 17 _ ic_1 h.1 dX6_isRest_17 ?_
    refine g_iload_2 18 h.1 dX6_isRest_18 ?_
    refine g_ishl 19 h.1 dX6_isRest_19 ?_
    refine g_ixor 20 h.1 dX6_isRest_20 ?_
    refine g_imul 21 h.1 dX6_isRest_21 ?_
    refine g_iload_2 22 h.1 dX6_isRest_22 ?_
    refine g_iadd 23 h.1 dX6_isRest_23 ?_
    refine m_iald 24 rfl hw.1 h dX6_isRest_24 ?_
    have hw := hw.2
    refine g_aload_0 25 h.1 dX6_isRest_25 ?_
    refine mg_70 26 h dX6_isRest_26 ?_
    refine g_bipush 29 _ bp_7 h.1 dX6_isRest_29 ?_
    refine g_iload_1 31 h.1 dX6_isRest_31 ?_
    refine g_imul 32 h.1 dX6_isRest_32 ?_
    refine g_iload_2 33 h.1 dX6_isRest_33 ?_
    refine g_iadd 34 h.1 dX6_isRest_34 ?_
    refine m_iald 35 rfl hw.1 h dX6_isRest_35 ?_
    have hw := hw.2
    refine g_icmp_le 36 41 h.1 dX6_isRest_36 (by decide) (fun c => ?_) (fun c => ?_)
    · have hw := hw.1 c
      refine g_iinc_2 41 (x2 + 1) (congrArg _ ic_1) h.1 rfl dX6_isRest_41 ?_
      refine g_goto 44 2 h.1 dX6_isRest_44 (by decide) ?_
      exact g_le (hX2 _ _ _ hw) ⟨rfl, rfl, rfl, trivial⟩
    · have hw := hw.2 c
      refine g_iconstv 39 _ ic_0 h.1 dX6_isRest_39 ?_
      exact hR 40 _ _ _ dX6_isRest_40 rfl hw
def mw_isRest (x1 : Int32) (σ : FS) (Q : Int32 → FS → Prop) : Prop :=
  mw_isRest_2 x1 (0 : Int32) σ Q
theorem mt_isRest {κ : Cx} {S : Adr} {Z : State → Prop} {Q : Int32 → FS → Prop} (h : MCx κ cX6_isRest S 2) (hR : RetZ κ S Z cX6_isRest Q) {x1 : Int32} {σ : FS} (hw : mw_isRest x1 σ Q) : MG κ S Z 0 σ [some (.ref (S.2.1 0)), some (.int x1), none] [] := by
  unfold mw_isRest at hw
  refine g_iconstv 0 _ ic_0 h.1 dX6_isRest_0 ?_
  refine g_istore_2 1 h.1 rfl dX6_isRest_1 ?_
  exact g_le (mt_isRest_2 h hR hw) ⟨rfl, rfl, rfl, trivial⟩
theorem mm_isRest {l : Launch} {S : Adr} (hD : MD S) {x1 : Int32} {σ : FS} {Q : Int32 → FS → Prop} (hw : mw_isRest x1 σ Q) : mMet l S 2 yX6_isRest [.int x1] σ (mQi S Q) :=
  m_metZ hD ⟨rfl, by decide, by show _ = some 1; decide +kernel, q2559⟩ q2558 qs153 (Nat.le_of_ble_eq_true rfl) (fun κ Z h hR => mt_isRest h hR hw)
def mw_isThird_62 (X28 : Int32 → FS → Prop) (x1 : Int32) (x2 : Int32) (σ : FS) (Q : Int32 → FS → Prop) : Prop :=
  ∀ X62 : Int32 → Int32 → FS → Prop, (∀ (x1 : Int32) (x2 : Int32) (σ : FS), (((71 : Int32) ≤ x2 → X28 (x1 + 1) σ) ∧ (¬ (71 : Int32) ≤ x2 → (vp_in x2 71 ∧ (vp_in x2 232 ∧ ∀ σ9, σ9 = sA σ 52 (Int32.toNatClampNeg x2) (fA σ 64 (Int32.toNatClampNeg x2)) → X62 x1 (x2 + 1) σ9)))) → X62 x1 x2 σ) → X62 x1 x2 σ
theorem mt_isThird_62 {κ : Cx} {S : Adr} {Z : State → Prop} {Q : Int32 → FS → Prop} (h : MCx κ cX6_isThird S 8) (hR : RetZ κ S Z cX6_isThird Q) {X28 : Int32 → FS → Prop} (hX28 : ∀ (x1 : Int32) (σ : FS), X28 x1 σ → MG κ S Z 28 σ [some (.ref (S.2.1 0)), some (.int x1), none] []) {x1 : Int32} {x2 : Int32} {σ : FS} (hw : mw_isThird_62 X28 x1 x2 σ Q) : MG κ S Z 62 σ [some (.ref (S.2.1 0)), some (.int x1), some (.int x2)] [] := by
  refine hw (fun x1 x2 σ => MG κ S Z 62 σ [some (.ref (S.2.1 0)), some (.int x1), some (.int x2)] []) ?_
  clear hw
  intro x1 x2 σ hw
  have hX62 : ∀ (x1 : Int32) (x2 : Int32) (σ : FS), MG κ S Z 62 σ [some (.ref (S.2.1 0)), some (.int x1), some (.int x2)] [] → MG κ S Z 62 σ [some (.ref (S.2.1 0)), some (.int x1), some (.int x2)] [] := fun _ _ _ hh => hh
  refine g_iload_2 62 h.1 dX6_isThird_62 ?_
  refine g_bipush 63 _ bp_71 h.1 dX6_isThird_63 ?_
  refine g_icmp_ge 65 86 h.1 dX6_isThird_65 (by decide) (fun c => ?_) (fun c => ?_)
  · have hw := hw.1 c
    refine g_iinc_1 86 (x1 + 1) (congrArg _ ic_1) h.1 rfl dX6_isThird_86 ?_
    refine g_goto 89 28 h.1 dX6_isThird_89 (by decide) ?_
    exact g_le (hX28 _ _ hw) ⟨rfl, rfl, trivial⟩
  · have hw := hw.2 c
    refine g_aload_0 68 h.1 dX6_isThird_68 ?_
    refine mg_52 69 h dX6_isThird_69 ?_
    refine g_iload_2 72 h.1 dX6_isThird_72 ?_
    refine g_aload_0 73 h.1 dX6_isThird_73 ?_
    refine mg_64 74 h dX6_isThird_74 ?_
    refine g_iload_2 77 h.1 dX6_isThird_77 ?_
    refine m_iald 78 rfl hw.1 h dX6_isThird_78 ?_
    have hw := hw.2
    refine m_iast 79 rfl hw.1 h dX6_isThird_79 ?_
    have hw := hw.2 _ rfl
    refine g_iinc_2 80 (x2 + 1) (congrArg _ ic_1) h.1 rfl dX6_isThird_80 ?_
    refine g_goto 83 62 h.1 dX6_isThird_83 (by decide) ?_
    exact g_le (hX62 _ _ _ hw) ⟨rfl, rfl, rfl, trivial⟩
def mw_isThird_60 (X28 : Int32 → FS → Prop) (x1 : Int32) (σ : FS) (Q : Int32 → FS → Prop) : Prop :=
  mw_isThird_62 X28 x1 (0 : Int32) σ Q
theorem mt_isThird_60 {κ : Cx} {S : Adr} {Z : State → Prop} {Q : Int32 → FS → Prop} (h : MCx κ cX6_isThird S 8) (hR : RetZ κ S Z cX6_isThird Q) {X28 : Int32 → FS → Prop} (hX28 : ∀ (x1 : Int32) (σ : FS), X28 x1 σ → MG κ S Z 28 σ [some (.ref (S.2.1 0)), some (.int x1), none] []) {x1 : Int32} {σ : FS} (hw : mw_isThird_60 X28 x1 σ Q) : MG κ S Z 60 σ [some (.ref (S.2.1 0)), some (.int x1), none] [] := by
  unfold mw_isThird_60 at hw
  refine g_iconstv 60 _ ic_0 h.1 dX6_isThird_60 ?_
  refine g_istore_2 61 h.1 rfl dX6_isThird_61 ?_
  exact g_le (mt_isThird_62 h hR hX28 hw) ⟨rfl, rfl, rfl, trivial⟩
def mw_isThird_28 (x1 : Int32) (σ : FS) (Q : Int32 → FS → Prop) : Prop :=
  ∀ X28 : Int32 → FS → Prop, (∀ (x1 : Int32) (σ : FS), mw_askingMany σ (fun r3 σ2 => ((r3 ≤ x1 → Q (0 : Int32) σ2) ∧ (¬ r3 ≤ x1 → (vp_in (2 : Int32) 3 ∧ ∀ σ4, σ4 = sA σ2 62 (Int32.toNatClampNeg (2 : Int32)) x1 → mw_doesShrug x1 σ4 (fun r6 σ5 => ((r6 = 0 → mw_isThird_60 X28 x1 σ5 Q) ∧ (¬ r6 = 0 → mw_isSo σ5 (fun r8 σ7 => ((r8 = 0 → mw_isThird_60 X28 x1 σ7 Q) ∧ (¬ r8 = 0 → Q (1 : Int32) σ7)))))))))) → X28 x1 σ) → X28 x1 σ
theorem mt_isThird_28 {κ : Cx} {S : Adr} {Z : State → Prop} {Q : Int32 → FS → Prop} (h : MCx κ cX6_isThird S 8) (hR : RetZ κ S Z cX6_isThird Q) {x1 : Int32} {σ : FS} (hw : mw_isThird_28 x1 σ Q) : MG κ S Z 28 σ [some (.ref (S.2.1 0)), some (.int x1), none] [] := by
  refine hw (fun x1 σ => MG κ S Z 28 σ [some (.ref (S.2.1 0)), some (.int x1), none] []) ?_
  clear hw
  intro x1 σ hw
  have hX28 : ∀ (x1 : Int32) (σ : FS), MG κ S Z 28 σ [some (.ref (S.2.1 0)), some (.int x1), none] [] → MG κ S Z 28 σ [some (.ref (S.2.1 0)), some (.int x1), none] [] := fun _ _ hh => hh
  refine g_iload_1 28 h.1 dX6_isThird_28 ?_
  refine g_aload_0 29 h.1 dX6_isThird_29 ?_
  refine m_callI_0 30 h (mm_askingMany h.2.2.1 hw) (by decide) q2493 (Nat.le_of_ble_eq_true rfl) dX6_isThird_30 (fun r3 σ2 hw => ?_)
  refine g_icmp_ge 33 92 h.1 dX6_isThird_33 (by decide) (fun c => ?_) (fun c => ?_)
  · have hw := hw.1 c
    refine g_iconstv 92 _ ic_0 h.1 dX6_isThird_92 ?_
    exact hR 93 _ _ _ dX6_isThird_93 rfl hw
  · have hw := hw.2 c
    refine g_aload_0 36 h.1 dX6_isThird_36 ?_
    refine mg_62 37 h dX6_isThird_37 ?_
    refine g_iconstv 40 _ ic_2 h.1 dX6_isThird_40 ?_
    refine g_iload_1 41 h.1 dX6_isThird_41 ?_
    refine m_iast 42 rfl hw.1 h dX6_isThird_42 ?_
    have hw := hw.2 _ rfl
    refine g_aload_0 43 h.1 dX6_isThird_43 ?_
    refine g_iload_1 44 h.1 dX6_isThird_44 ?_
    refine m_callI_1 45 h (mm_doesShrug h.2.2.1 hw) (by decide) q2497 (Nat.le_of_ble_eq_true rfl) dX6_isThird_45 (fun r6 σ5 hw => ?_)
    refine g_if_eq 48 60 h.1 dX6_isThird_48 (by decide) (fun c => ?_) (fun c => ?_)
    · have hw := hw.1 c
      exact g_le (mt_isThird_60 h hR hX28 hw) ⟨rfl, rfl, trivial⟩
    · have hw := hw.2 c
      refine g_aload_0 51 h.1 dX6_isThird_51 ?_
      refine m_callI_0 52 h (mm_isSo h.2.2.1 hw) (by decide) q2485 (Nat.le_of_ble_eq_true rfl) dX6_isThird_52 (fun r8 σ7 hw => ?_)
      refine g_if_eq 55 60 h.1 dX6_isThird_55 (by decide) (fun c => ?_) (fun c => ?_)
      · have hw := hw.1 c
        exact g_le (mt_isThird_60 h hR hX28 hw) ⟨rfl, rfl, trivial⟩
      · have hw := hw.2 c
        refine g_iconstv 58 _ ic_1 h.1 dX6_isThird_58 ?_
        exact hR 59 _ _ _ dX6_isThird_59 rfl hw
def mw_isThird_2 (x1 : Int32) (σ : FS) (Q : Int32 → FS → Prop) : Prop :=
  ∀ X2 : Int32 → FS → Prop, (∀ (x1 : Int32) (σ : FS), (((71 : Int32) ≤ x1 → mw_isThird_28 (0 : Int32) σ Q) ∧ (¬ (71 : Int32) ≤ x1 → (vp_in x1 232 ∧ (vp_in x1 71 ∧ ∀ σ1, σ1 = sA σ 64 (Int32.toNatClampNeg x1) (fA σ 52 (Int32.toNatClampNeg x1)) → X2 (x1 + 1) σ1)))) → X2 x1 σ) → X2 x1 σ
theorem mt_isThird_2 {κ : Cx} {S : Adr} {Z : State → Prop} {Q : Int32 → FS → Prop} (h : MCx κ cX6_isThird S 8) (hR : RetZ κ S Z cX6_isThird Q) {x1 : Int32} {σ : FS} (hw : mw_isThird_2 x1 σ Q) : MG κ S Z 2 σ [some (.ref (S.2.1 0)), some (.int x1), none] [] := by
  refine hw (fun x1 σ => MG κ S Z 2 σ [some (.ref (S.2.1 0)), some (.int x1), none] []) ?_
  clear hw
  intro x1 σ hw
  have hX2 : ∀ (x1 : Int32) (σ : FS), MG κ S Z 2 σ [some (.ref (S.2.1 0)), some (.int x1), none] [] → MG κ S Z 2 σ [some (.ref (S.2.1 0)), some (.int x1), none] [] := fun _ _ hh => hh
  refine g_iload_1 2 h.1 dX6_isThird_2 ?_
  refine g_bipush 3 _ bp_71 h.1 dX6_isThird_3 ?_
  refine g_icmp_ge 5 26 h.1 dX6_isThird_5 (by decide) (fun c => ?_) (fun c => ?_)
  · have hw := hw.1 c
    refine g_iconstv 26 _ ic_0 h.1 dX6_isThird_26 ?_
    refine g_istore_1 27 h.1 rfl dX6_isThird_27 ?_
    exact g_le (mt_isThird_28 h hR hw) ⟨rfl, rfl, trivial⟩
  · have hw := hw.2 c
    refine g_aload_0 8 h.1 dX6_isThird_8 ?_
    refine mg_64 9 h dX6_isThird_9 ?_
    refine g_iload_1 12 h.1 dX6_isThird_12 ?_
    refine g_aload_0 13 h.1 dX6_isThird_13 ?_
    refine mg_52 14 h dX6_isThird_14 ?_
    refine g_iload_1 17 h.1 dX6_isThird_17 ?_
    refine m_iald 18 rfl hw.1 h dX6_isThird_18 ?_
    have hw := hw.2
    refine m_iast 19 rfl hw.1 h dX6_isThird_19 ?_
    have hw := hw.2 _ rfl
    refine g_iinc_1 20 (x1 + 1) (congrArg _ ic_1) h.1 rfl dX6_isThird_20 ?_
    refine g_goto 23 2 h.1 dX6_isThird_23 (by decide) ?_
    exact g_le (hX2 _ _ hw) ⟨rfl, rfl, trivial⟩
def mw_isThird (σ : FS) (Q : Int32 → FS → Prop) : Prop :=
  mw_isThird_2 (0 : Int32) σ Q
theorem mt_isThird {κ : Cx} {S : Adr} {Z : State → Prop} {Q : Int32 → FS → Prop} (h : MCx κ cX6_isThird S 8) (hR : RetZ κ S Z cX6_isThird Q) {σ : FS} (hw : mw_isThird σ Q) : MG κ S Z 0 σ [some (.ref (S.2.1 0)), none, none] [] := by
  unfold mw_isThird at hw
  refine g_iconstv 0 _ ic_0 h.1 dX6_isThird_0 ?_
  refine g_istore_1 1 h.1 rfl dX6_isThird_1 ?_
  exact g_le (mt_isThird_2 h hR hw) ⟨rfl, rfl, trivial⟩
theorem mm_isThird {l : Launch} {S : Adr} (hD : MD S) {σ : FS} {Q : Int32 → FS → Prop} (hw : mw_isThird σ Q) : mMet l S 8 yX6_isThird [] σ (mQi S Q) :=
  m_metZ hD ⟨rfl, by decide, by show _ = some 0; decide +kernel, q2512⟩ q2511 qs146 (Nat.le_of_ble_eq_true rfl) (fun κ Z h hR => mt_isThird h hR hw)
def mw_isThree_90 (X2 : Int32 → FS → Prop) (X51 : Int32 → Int32 → Int32 → FS → Prop) (x1 : Int32) (x2 : Int32) (x3 : Int32) (x4 : Int32) (σ : FS) (Q : Int32 → FS → Prop) : Prop :=
  ∀ X90 : Int32 → Int32 → Int32 → Int32 → FS → Prop, (∀ (x1 : Int32) (x2 : Int32) (x3 : Int32) (x4 : Int32) (σ : FS), (((71 : Int32) ≤ x4 → X51 x1 x2 (x3 + 1) σ) ∧ (¬ (71 : Int32) ≤ x4 → (vp_in x4 71 ∧ (vp_in x4 232 ∧ ∀ σ15, σ15 = sA σ 52 (Int32.toNatClampNeg x4) (fA σ 63 (Int32.toNatClampNeg x4)) → X90 x1 x2 x3 (x4 + 1) σ15)))) → X90 x1 x2 x3 x4 σ) → X90 x1 x2 x3 x4 σ
theorem mt_isThree_90 {κ : Cx} {S : Adr} {Z : State → Prop} {Q : Int32 → FS → Prop} (h : MCx κ cX6_isThree S 9) (hR : RetZ κ S Z cX6_isThree Q) {X2 : Int32 → FS → Prop} {X51 : Int32 → Int32 → Int32 → FS → Prop} (hX2 : ∀ (x1 : Int32) (σ : FS), X2 x1 σ → MG κ S Z 2 σ [some (.ref (S.2.1 0)), some (.int x1), none, none, none] []) (hX51 : ∀ (x1 : Int32) (x2 : Int32) (x3 : Int32) (σ : FS), X51 x1 x2 x3 σ → MG κ S Z 51 σ [some (.ref (S.2.1 0)), some (.int x1), some (.int x2), some (.int x3), none] []) {x1 : Int32} {x2 : Int32} {x3 : Int32} {x4 : Int32} {σ : FS} (hw : mw_isThree_90 X2 X51 x1 x2 x3 x4 σ Q) : MG κ S Z 90 σ [some (.ref (S.2.1 0)), some (.int x1), some (.int x2), some (.int x3), some (.int x4)] [] := by
  refine hw (fun x1 x2 x3 x4 σ => MG κ S Z 90 σ [some (.ref (S.2.1 0)), some (.int x1), some (.int x2), some (.int x3), some (.int x4)] []) ?_
  clear hw
  intro x1 x2 x3 x4 σ hw
  have hX90 : ∀ (x1 : Int32) (x2 : Int32) (x3 : Int32) (x4 : Int32) (σ : FS), MG κ S Z 90 σ [some (.ref (S.2.1 0)), some (.int x1), some (.int x2), some (.int x3), some (.int x4)] [] → MG κ S Z 90 σ [some (.ref (S.2.1 0)), some (.int x1), some (.int x2), some (.int x3), some (.int x4)] [] := fun _ _ _ _ _ hh => hh
  refine g_iload_4 90 h.1 dX6_isThree_90 ?_
  refine g_bipush 92 _ bp_71 h.1 dX6_isThree_92 ?_
  refine g_icmp_ge 94 117 h.1 dX6_isThree_94 (by decide) (fun c => ?_) (fun c => ?_)
  · have hw := hw.1 c
    refine g_iinc_3 117 (x3 + 1) (congrArg _ ic_1) h.1 rfl dX6_isThree_117 ?_
    refine g_goto 120 51 h.1 dX6_isThree_120 (by decide) ?_
    exact g_le (hX51 _ _ _ _ hw) ⟨rfl, rfl, rfl, rfl, trivial⟩
  · have hw := hw.2 c
    refine g_aload_0 97 h.1 dX6_isThree_97 ?_
    refine mg_52 98 h dX6_isThree_98 ?_
    refine g_iload_4 101 h.1 dX6_isThree_101 ?_
    refine g_aload_0 103 h.1 dX6_isThree_103 ?_
    refine mg_63 104 h dX6_isThree_104 ?_
    refine g_iload_4 107 h.1 dX6_isThree_107 ?_
    refine m_iald 109 rfl hw.1 h dX6_isThree_109 ?_
    have hw := hw.2
    refine m_iast 110 rfl hw.1 h dX6_isThree_110 ?_
    have hw := hw.2 _ rfl
    refine g_iinc_4 111 (x4 + 1) (congrArg _ ic_1) h.1 rfl dX6_isThree_111 ?_
    refine g_goto 114 90 h.1 dX6_isThree_114 (by decide) ?_
    exact g_le (hX90 _ _ _ _ _ hw) ⟨rfl, rfl, rfl, rfl, rfl, trivial⟩
def mw_isThree_87 (X2 : Int32 → FS → Prop) (X51 : Int32 → Int32 → Int32 → FS → Prop) (x1 : Int32) (x2 : Int32) (x3 : Int32) (σ : FS) (Q : Int32 → FS → Prop) : Prop :=
  mw_isThree_90 X2 X51 x1 x2 x3 (0 : Int32) σ Q
theorem mt_isThree_87 {κ : Cx} {S : Adr} {Z : State → Prop} {Q : Int32 → FS → Prop} (h : MCx κ cX6_isThree S 9) (hR : RetZ κ S Z cX6_isThree Q) {X2 : Int32 → FS → Prop} {X51 : Int32 → Int32 → Int32 → FS → Prop} (hX2 : ∀ (x1 : Int32) (σ : FS), X2 x1 σ → MG κ S Z 2 σ [some (.ref (S.2.1 0)), some (.int x1), none, none, none] []) (hX51 : ∀ (x1 : Int32) (x2 : Int32) (x3 : Int32) (σ : FS), X51 x1 x2 x3 σ → MG κ S Z 51 σ [some (.ref (S.2.1 0)), some (.int x1), some (.int x2), some (.int x3), none] []) {x1 : Int32} {x2 : Int32} {x3 : Int32} {σ : FS} (hw : mw_isThree_87 X2 X51 x1 x2 x3 σ Q) : MG κ S Z 87 σ [some (.ref (S.2.1 0)), some (.int x1), some (.int x2), some (.int x3), none] [] := by
  unfold mw_isThree_87 at hw
  refine g_iconstv 87 _ ic_0 h.1 dX6_isThree_87 ?_
  refine g_istore_4 88 h.1 rfl dX6_isThree_88 ?_
  exact g_le (mt_isThree_90 h hR hX2 hX51 hw) ⟨rfl, rfl, rfl, rfl, rfl, trivial⟩
def mw_isThree_123 (X2 : Int32 → FS → Prop) (x1 : Int32) (σ : FS) (Q : Int32 → FS → Prop) : Prop :=
  mw_triesAnew σ (fun σ14 => X2 (x1 + 1) σ14)
theorem mt_isThree_123 {κ : Cx} {S : Adr} {Z : State → Prop} {Q : Int32 → FS → Prop} (h : MCx κ cX6_isThree S 9) (hR : RetZ κ S Z cX6_isThree Q) {X2 : Int32 → FS → Prop} (hX2 : ∀ (x1 : Int32) (σ : FS), X2 x1 σ → MG κ S Z 2 σ [some (.ref (S.2.1 0)), some (.int x1), none, none, none] []) {x1 : Int32} {σ : FS} (hw : mw_isThree_123 X2 x1 σ Q) : MG κ S Z 123 σ [some (.ref (S.2.1 0)), some (.int x1), none, none, none] [] := by
  unfold mw_isThree_123 at hw
  refine g_aload_0 123 h.1 dX6_isThree_123 ?_
  refine m_callV_0 124 h (mm_triesAnew h.2.2.1 hw) (by decide) q2460 (Nat.le_of_ble_eq_true rfl) dX6_isThree_124 (fun σ14 hw => ?_)
  refine g_iinc_1 127 (x1 + 1) (congrArg _ ic_1) h.1 rfl dX6_isThree_127 ?_
  refine g_goto 130 2 h.1 dX6_isThree_130 (by decide) ?_
  exact g_le (hX2 _ _ hw) ⟨rfl, rfl, trivial⟩
def mw_isThree_51 (X2 : Int32 → FS → Prop) (x1 : Int32) (x2 : Int32) (x3 : Int32) (σ : FS) (Q : Int32 → FS → Prop) : Prop :=
  ∀ X51 : Int32 → Int32 → Int32 → FS → Prop, (∀ (x1 : Int32) (x2 : Int32) (x3 : Int32) (σ : FS), mw_askingMany σ (fun r8 σ7 => ((r8 ≤ x3 → mw_isThree_123 X2 x1 σ7 Q) ∧ (¬ r8 ≤ x3 → ((x2 = 0 → mw_isThree_123 X2 x1 σ7 Q) ∧ (¬ x2 = 0 → (vp_in (1 : Int32) 3 ∧ ∀ σ9, σ9 = sA σ7 62 (Int32.toNatClampNeg (1 : Int32)) x3 → mw_doesShrug x3 σ9 (fun r11 σ10 => ((r11 = 0 → mw_isThree_87 X2 X51 x1 x2 x3 σ10 Q) ∧ (¬ r11 = 0 → mw_isThird σ10 (fun r13 σ12 => ((r13 = 0 → mw_isThree_87 X2 X51 x1 x2 x3 σ12 Q) ∧ (¬ r13 = 0 → Q (1 : Int32) σ12)))))))))))) → X51 x1 x2 x3 σ) → X51 x1 x2 x3 σ
theorem mt_isThree_51 {κ : Cx} {S : Adr} {Z : State → Prop} {Q : Int32 → FS → Prop} (h : MCx κ cX6_isThree S 9) (hR : RetZ κ S Z cX6_isThree Q) {X2 : Int32 → FS → Prop} (hX2 : ∀ (x1 : Int32) (σ : FS), X2 x1 σ → MG κ S Z 2 σ [some (.ref (S.2.1 0)), some (.int x1), none, none, none] []) {x1 : Int32} {x2 : Int32} {x3 : Int32} {σ : FS} (hw : mw_isThree_51 X2 x1 x2 x3 σ Q) : MG κ S Z 51 σ [some (.ref (S.2.1 0)), some (.int x1), some (.int x2), some (.int x3), none] [] := by
  refine hw (fun x1 x2 x3 σ => MG κ S Z 51 σ [some (.ref (S.2.1 0)), some (.int x1), some (.int x2), some (.int x3), none] []) ?_
  clear hw
  intro x1 x2 x3 σ hw
  have hX51 : ∀ (x1 : Int32) (x2 : Int32) (x3 : Int32) (σ : FS), MG κ S Z 51 σ [some (.ref (S.2.1 0)), some (.int x1), some (.int x2), some (.int x3), none] [] → MG κ S Z 51 σ [some (.ref (S.2.1 0)), some (.int x1), some (.int x2), some (.int x3), none] [] := fun _ _ _ _ hh => hh
  refine g_iload_3 51 h.1 dX6_isThree_51 ?_
  refine g_aload_0 52 h.1 dX6_isThree_52 ?_
  refine m_callI_0 53 h (mm_askingMany h.2.2.1 hw) (by decide) q2493 (Nat.le_of_ble_eq_true rfl) dX6_isThree_53 (fun r8 σ7 hw => ?_)
  refine g_icmp_ge 56 123 h.1 dX6_isThree_56 (by decide) (fun c => ?_) (fun c => ?_)
  · have hw := hw.1 c
    exact g_le (mt_isThree_123 h hR hX2 hw) ⟨rfl, rfl, trivial⟩
  · have hw := hw.2 c
    refine g_iload_2 59 h.1 dX6_isThree_59 ?_
    refine g_if_eq 60 123 h.1 dX6_isThree_60 (by decide) (fun c => ?_) (fun c => ?_)
    · have hw := hw.1 c
      exact g_le (mt_isThree_123 h hR hX2 hw) ⟨rfl, rfl, trivial⟩
    · have hw := hw.2 c
      refine g_aload_0 63 h.1 dX6_isThree_63 ?_
      refine mg_62 64 h dX6_isThree_64 ?_
      refine g_iconstv 67 _ ic_1 h.1 dX6_isThree_67 ?_
      refine g_iload_3 68 h.1 dX6_isThree_68 ?_
      refine m_iast 69 rfl hw.1 h dX6_isThree_69 ?_
      have hw := hw.2 _ rfl
      refine g_aload_0 70 h.1 dX6_isThree_70 ?_
      refine g_iload_3 71 h.1 dX6_isThree_71 ?_
      refine m_callI_1 72 h (mm_doesShrug h.2.2.1 hw) (by decide) q2497 (Nat.le_of_ble_eq_true rfl) dX6_isThree_72 (fun r11 σ10 hw => ?_)
      refine g_if_eq 75 87 h.1 dX6_isThree_75 (by decide) (fun c => ?_) (fun c => ?_)
      · have hw := hw.1 c
        exact g_le (mt_isThree_87 h hR hX2 hX51 hw) ⟨rfl, rfl, rfl, rfl, trivial⟩
      · have hw := hw.2 c
        refine g_aload_0 78 h.1 dX6_isThree_78 ?_
        refine m_callI_0 79 h (mm_isThird h.2.2.1 hw) (by decide) q2509 (Nat.le_of_ble_eq_true rfl) dX6_isThree_79 (fun r13 σ12 hw => ?_)
        refine g_if_eq 82 87 h.1 dX6_isThree_82 (by decide) (fun c => ?_) (fun c => ?_)
        · have hw := hw.1 c
          exact g_le (mt_isThree_87 h hR hX2 hX51 hw) ⟨rfl, rfl, rfl, rfl, trivial⟩
        · have hw := hw.2 c
          refine g_iconstv 85 _ ic_1 h.1 dX6_isThree_85 ?_
          exact hR 86 _ _ _ dX6_isThree_86 rfl hw
def mw_isThree_25 (X2 : Int32 → FS → Prop) (x1 : Int32) (x2 : Int32) (x3 : Int32) (σ : FS) (Q : Int32 → FS → Prop) : Prop :=
  ∀ X25 : Int32 → Int32 → Int32 → FS → Prop, (∀ (x1 : Int32) (x2 : Int32) (x3 : Int32) (σ : FS), (((71 : Int32) ≤ x3 → mw_isThree_51 X2 x1 x2 (0 : Int32) σ Q) ∧ (¬ (71 : Int32) ≤ x3 → (vp_in x3 232 ∧ (vp_in x3 71 ∧ ∀ σ6, σ6 = sA σ 63 (Int32.toNatClampNeg x3) (fA σ 52 (Int32.toNatClampNeg x3)) → X25 x1 x2 (x3 + 1) σ6)))) → X25 x1 x2 x3 σ) → X25 x1 x2 x3 σ
theorem mt_isThree_25 {κ : Cx} {S : Adr} {Z : State → Prop} {Q : Int32 → FS → Prop} (h : MCx κ cX6_isThree S 9) (hR : RetZ κ S Z cX6_isThree Q) {X2 : Int32 → FS → Prop} (hX2 : ∀ (x1 : Int32) (σ : FS), X2 x1 σ → MG κ S Z 2 σ [some (.ref (S.2.1 0)), some (.int x1), none, none, none] []) {x1 : Int32} {x2 : Int32} {x3 : Int32} {σ : FS} (hw : mw_isThree_25 X2 x1 x2 x3 σ Q) : MG κ S Z 25 σ [some (.ref (S.2.1 0)), some (.int x1), some (.int x2), some (.int x3), none] [] := by
  refine hw (fun x1 x2 x3 σ => MG κ S Z 25 σ [some (.ref (S.2.1 0)), some (.int x1), some (.int x2), some (.int x3), none] []) ?_
  clear hw
  intro x1 x2 x3 σ hw
  have hX25 : ∀ (x1 : Int32) (x2 : Int32) (x3 : Int32) (σ : FS), MG κ S Z 25 σ [some (.ref (S.2.1 0)), some (.int x1), some (.int x2), some (.int x3), none] [] → MG κ S Z 25 σ [some (.ref (S.2.1 0)), some (.int x1), some (.int x2), some (.int x3), none] [] := fun _ _ _ _ hh => hh
  refine g_iload_3 25 h.1 dX6_isThree_25 ?_
  refine g_bipush 26 _ bp_71 h.1 dX6_isThree_26 ?_
  refine g_icmp_ge 28 49 h.1 dX6_isThree_28 (by decide) (fun c => ?_) (fun c => ?_)
  · have hw := hw.1 c
    refine g_iconstv 49 _ ic_0 h.1 dX6_isThree_49 ?_
    refine g_istore_3 50 h.1 rfl dX6_isThree_50 ?_
    exact g_le (mt_isThree_51 h hR hX2 hw) ⟨rfl, rfl, rfl, rfl, trivial⟩
  · have hw := hw.2 c
    refine g_aload_0 31 h.1 dX6_isThree_31 ?_
    refine mg_63 32 h dX6_isThree_32 ?_
    refine g_iload_3 35 h.1 dX6_isThree_35 ?_
    refine g_aload_0 36 h.1 dX6_isThree_36 ?_
    refine mg_52 37 h dX6_isThree_37 ?_
    refine g_iload_3 40 h.1 dX6_isThree_40 ?_
    refine m_iald 41 rfl hw.1 h dX6_isThree_41 ?_
    have hw := hw.2
    refine m_iast 42 rfl hw.1 h dX6_isThree_42 ?_
    have hw := hw.2 _ rfl
    refine g_iinc_3 43 (x3 + 1) (congrArg _ ic_1) h.1 rfl dX6_isThree_43 ?_
    refine g_goto 46 25 h.1 dX6_isThree_46 (by decide) ?_
    exact g_le (hX25 _ _ _ _ hw) ⟨rfl, rfl, rfl, rfl, trivial⟩
def mw_isThree_2 (x1 : Int32) (σ : FS) (Q : Int32 → FS → Prop) : Prop :=
  ∀ X2 : Int32 → FS → Prop, (∀ (x1 : Int32) (σ : FS), mw_askingMany σ (fun r2 σ1 => ((r2 ≤ x1 → Q (0 : Int32) σ1) ∧ (¬ r2 ≤ x1 → (vp_in (0 : Int32) 3 ∧ ∀ σ3, σ3 = sA σ1 62 (Int32.toNatClampNeg (0 : Int32)) x1 → mw_doesShrug x1 σ3 (fun r5 σ4 => mw_isThree_25 X2 x1 r5 (0 : Int32) σ4 Q))))) → X2 x1 σ) → X2 x1 σ
theorem mt_isThree_2 {κ : Cx} {S : Adr} {Z : State → Prop} {Q : Int32 → FS → Prop} (h : MCx κ cX6_isThree S 9) (hR : RetZ κ S Z cX6_isThree Q) {x1 : Int32} {σ : FS} (hw : mw_isThree_2 x1 σ Q) : MG κ S Z 2 σ [some (.ref (S.2.1 0)), some (.int x1), none, none, none] [] := by
  refine hw (fun x1 σ => MG κ S Z 2 σ [some (.ref (S.2.1 0)), some (.int x1), none, none, none] []) ?_
  clear hw
  intro x1 σ hw
  have hX2 : ∀ (x1 : Int32) (σ : FS), MG κ S Z 2 σ [some (.ref (S.2.1 0)), some (.int x1), none, none, none] [] → MG κ S Z 2 σ [some (.ref (S.2.1 0)), some (.int x1), none, none, none] [] := fun _ _ hh => hh
  refine g_iload_1 2 h.1 dX6_isThree_2 ?_
  refine g_aload_0 3 h.1 dX6_isThree_3 ?_
  refine m_callI_0 4 h (mm_askingMany h.2.2.1 hw) (by decide) q2493 (Nat.le_of_ble_eq_true rfl) dX6_isThree_4 (fun r2 σ1 hw => ?_)
  refine g_icmp_ge 7 133 h.1 dX6_isThree_7 (by decide) (fun c => ?_) (fun c => ?_)
  · have hw := hw.1 c
    refine g_iconstv 133 _ ic_0 h.1 dX6_isThree_133 ?_
    exact hR 134 _ _ _ dX6_isThree_134 rfl hw
  · have hw := hw.2 c
    refine g_aload_0 10 h.1 dX6_isThree_10 ?_
    refine mg_62 11 h dX6_isThree_11 ?_
    refine g_iconstv 14 _ ic_0 h.1 dX6_isThree_14 ?_
    refine g_iload_1 15 h.1 dX6_isThree_15 ?_
    refine m_iast 16 rfl hw.1 h dX6_isThree_16 ?_
    have hw := hw.2 _ rfl
    refine g_aload_0 17 h.1 dX6_isThree_17 ?_
    refine g_iload_1 18 h.1 dX6_isThree_18 ?_
    refine m_callI_1 19 h (mm_doesShrug h.2.2.1 hw) (by decide) q2497 (Nat.le_of_ble_eq_true rfl) dX6_isThree_19 (fun r5 σ4 hw => ?_)
    refine g_istore_2 22 h.1 rfl dX6_isThree_22 ?_
    refine g_iconstv 23 _ ic_0 h.1 dX6_isThree_23 ?_
    refine g_istore_3 24 h.1 rfl dX6_isThree_24 ?_
    exact g_le (mt_isThree_25 h hR hX2 hw) ⟨rfl, rfl, rfl, rfl, trivial⟩
def mw_isThree (σ : FS) (Q : Int32 → FS → Prop) : Prop :=
  mw_isThree_2 (0 : Int32) σ Q
theorem mt_isThree {κ : Cx} {S : Adr} {Z : State → Prop} {Q : Int32 → FS → Prop} (h : MCx κ cX6_isThree S 9) (hR : RetZ κ S Z cX6_isThree Q) {σ : FS} (hw : mw_isThree σ Q) : MG κ S Z 0 σ [some (.ref (S.2.1 0)), none, none, none, none] [] := by
  unfold mw_isThree at hw
  refine g_iconstv 0 _ ic_0 h.1 dX6_isThree_0 ?_
  refine g_istore_1 1 h.1 rfl dX6_isThree_1 ?_
  exact g_le (mt_isThree_2 h hR hw) ⟨rfl, rfl, trivial⟩
theorem mm_isThree {l : Launch} {S : Adr} (hD : MD S) {σ : FS} {Q : Int32 → FS → Prop} (hw : mw_isThree σ Q) : mMet l S 9 yX6_isThree [] σ (mQi S Q) :=
  m_metZ hD ⟨rfl, by decide, by show _ = some 0; decide +kernel, q2508⟩ q2507 qs145 (Nat.le_of_ble_eq_true rfl) (fun κ Z h hR => mt_isThree h hR hw)
