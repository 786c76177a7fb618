/-! THE REFERENCE, walked: for each cut point of each method its predicate and its walk (written by gen_w.py) -/
def mw_isTwo_90 (X2 : Int32 → FS → Prop) (X51 : Int32 → Int32 → Int32 → FS → Prop) (x1 : Int32) (x2 : Int32) (x3 : Int32) (x4 : Int32) (σ : FS) (Q : Int32 → FS → Prop) : Prop :=
  ∀ X90 : Int32 → Int32 → Int32 → Int32 → FS → Prop, (∀ (x1 : Int32) (x2 : Int32) (x3 : Int32) (x4 : Int32) (σ : FS), (((71 : Int32) ≤ x4 → X51 x1 x2 (x3 + 1) σ) ∧ (¬ (71 : Int32) ≤ x4 → (vp_in x4 71 ∧ (vp_in x4 232 ∧ ∀ σ15, σ15 = sA σ 52 (Int32.toNatClampNeg x4) (fA σ 63 (Int32.toNatClampNeg x4)) → X90 x1 x2 x3 (x4 + 1) σ15)))) → X90 x1 x2 x3 x4 σ) → X90 x1 x2 x3 x4 σ
theorem mt_isTwo_90 {κ : Cx} {S : Adr} {Z : State → Prop} {Q : Int32 → FS → Prop} (h : MCx κ cX6_isTwo S 8) (hR : RetZ κ S Z cX6_isTwo Q) {X2 : Int32 → FS → Prop} {X51 : Int32 → Int32 → Int32 → FS → Prop} (hX2 : ∀ (x1 : Int32) (σ : FS), X2 x1 σ → MG κ S Z 2 σ [some (.ref (S.2.1 0)), some (.int x1), none, none, none] []) (hX51 : ∀ (x1 : Int32) (x2 : Int32) (x3 : Int32) (σ : FS), X51 x1 x2 x3 σ → MG κ S Z 51 σ [some (.ref (S.2.1 0)), some (.int x1), some (.int x2), some (.int x3), none] []) {x1 : Int32} {x2 : Int32} {x3 : Int32} {x4 : Int32} {σ : FS} (hw : mw_isTwo_90 X2 X51 x1 x2 x3 x4 σ Q) : MG κ S Z 90 σ [some (.ref (S.2.1 0)), some (.int x1), some (.int x2), some (.int x3), some (.int x4)] [] := by
  refine hw (fun x1 x2 x3 x4 σ => MG κ S Z 90 σ [some (.ref (S.2.1 0)), some (.int x1), some (.int x2), some (.int x3), some (.int x4)] []) ?_
  clear hw
  intro x1 x2 x3 x4 σ hw
  have hX90 : ∀ (x1 : Int32) (x2 : Int32) (x3 : Int32) (x4 : Int32) (σ : FS), MG κ S Z 90 σ [some (.ref (S.2.1 0)), some (.int x1), some (.int x2), some (.int x3), some (.int x4)] [] → MG κ S Z 90 σ [some (.ref (S.2.1 0)), some (.int x1), some (.int x2), some (.int x3), some (.int x4)] [] := fun _ _ _ _ _ hh => hh
  refine g_iload_4 90 h.1 dX6_isTwo_90 ?_
  refine g_bipush 92 _ bp_71 h.1 dX6_isTwo_92 ?_
  refine g_icmp_ge 94 117 h.1 dX6_isTwo_94 (by decide) (fun c => ?_) (fun c => ?_)
  · have hw := hw.1 c
    refine g_iinc_3 117 (x3 + 1) (congrArg _ ic_1) h.1 rfl dX6_isTwo_117 ?_
    refine g_goto 120 51 h.1 dX6_isTwo_120 (by decide) ?_
    exact g_le (hX51 _ _ _ _ hw) ⟨rfl, rfl, rfl, rfl, trivial⟩
  · have hw := hw.2 c
    refine g_aload_0 97 h.1 dX6_isTwo_97 ?_
    refine mg_52 98 h dX6_isTwo_98 ?_
    refine g_iload_4 101 h.1 dX6_isTwo_101 ?_
    refine g_aload_0 103 h.1 dX6_isTwo_103 ?_
    refine mg_63 104 h dX6_isTwo_104 ?_
    refine g_iload_4 107 h.1 dX6_isTwo_107 ?_
    refine m_iald 109 rfl hw.1 h dX6_isTwo_109 ?_
    have hw := hw.2
    refine m_iast 110 rfl hw.1 h dX6_isTwo_110 ?_
    have hw := hw.2 _ rfl
    refine g_iinc_4 111 (x4 + 1) (congrArg _ ic_1) h.1 rfl dX6_isTwo_111 ?_
    refine g_goto 114 90 h.1 dX6_isTwo_114 (by decide) ?_
    exact g_le (hX90 _ _ _ _ _ hw) ⟨rfl, rfl, rfl, rfl, rfl, trivial⟩
def mw_isTwo_87 (X2 : Int32 → FS → Prop) (X51 : Int32 → Int32 → Int32 → FS → Prop) (x1 : Int32) (x2 : Int32) (x3 : Int32) (σ : FS) (Q : Int32 → FS → Prop) : Prop :=
  mw_isTwo_90 X2 X51 x1 x2 x3 (0 : Int32) σ Q
theorem mt_isTwo_87 {κ : Cx} {S : Adr} {Z : State → Prop} {Q : Int32 → FS → Prop} (h : MCx κ cX6_isTwo S 8) (hR : RetZ κ S Z cX6_isTwo Q) {X2 : Int32 → FS → Prop} {X51 : Int32 → Int32 → Int32 → FS → Prop} (hX2 : ∀ (x1 : Int32) (σ : FS), X2 x1 σ → MG κ S Z 2 σ [some (.ref (S.2.1 0)), some (.int x1), none, none, none] []) (hX51 : ∀ (x1 : Int32) (x2 : Int32) (x3 : Int32) (σ : FS), X51 x1 x2 x3 σ → MG κ S Z 51 σ [some (.ref (S.2.1 0)), some (.int x1), some (.int x2), some (.int x3), none] []) {x1 : Int32} {x2 : Int32} {x3 : Int32} {σ : FS} (hw : mw_isTwo_87 X2 X51 x1 x2 x3 σ Q) : MG κ S Z 87 σ [some (.ref (S.2.1 0)), some (.int x1), some (.int x2), some (.int x3), none] [] := by
  unfold mw_isTwo_87 at hw
  refine g_iconstv 87 _ ic_0 h.1 dX6_isTwo_87 ?_
  refine g_istore_4 88 h.1 rfl dX6_isTwo_88 ?_
  exact g_le (mt_isTwo_90 h hR hX2 hX51 hw) ⟨rfl, rfl, rfl, rfl, rfl, trivial⟩
def mw_isTwo_123 (X2 : Int32 → FS → Prop) (x1 : Int32) (σ : FS) (Q : Int32 → FS → Prop) : Prop :=
  mw_triesAnew σ (fun σ14 => X2 (x1 + 1) σ14)
theorem mt_isTwo_123 {κ : Cx} {S : Adr} {Z : State → Prop} {Q : Int32 → FS → Prop} (h : MCx κ cX6_isTwo S 8) (hR : RetZ κ S Z cX6_isTwo Q) {X2 : Int32 → FS → Prop} (hX2 : ∀ (x1 : Int32) (σ : FS), X2 x1 σ → MG κ S Z 2 σ [some (.ref (S.2.1 0)), some (.int x1), none, none, none] []) {x1 : Int32} {σ : FS} (hw : mw_isTwo_123 X2 x1 σ Q) : MG κ S Z 123 σ [some (.ref (S.2.1 0)), some (.int x1), none, none, none] [] := by
  unfold mw_isTwo_123 at hw
  refine g_aload_0 123 h.1 dX6_isTwo_123 ?_
  refine m_callV_0 124 h (mm_triesAnew h.2.2.1 hw) (by decide) q2460 (Nat.le_of_ble_eq_true rfl) dX6_isTwo_124 (fun σ14 hw => ?_)
  refine g_iinc_1 127 (x1 + 1) (congrArg _ ic_1) h.1 rfl dX6_isTwo_127 ?_
  refine g_goto 130 2 h.1 dX6_isTwo_130 (by decide) ?_
  exact g_le (hX2 _ _ hw) ⟨rfl, rfl, trivial⟩
def mw_isTwo_51 (X2 : Int32 → FS → Prop) (x1 : Int32) (x2 : Int32) (x3 : Int32) (σ : FS) (Q : Int32 → FS → Prop) : Prop :=
  ∀ X51 : Int32 → Int32 → Int32 → FS → Prop, (∀ (x1 : Int32) (x2 : Int32) (x3 : Int32) (σ : FS), mw_askingMany σ (fun r8 σ7 => ((r8 ≤ x3 → mw_isTwo_123 X2 x1 σ7 Q) ∧ (¬ r8 ≤ x3 → ((x2 = 0 → mw_isTwo_123 X2 x1 σ7 Q) ∧ (¬ x2 = 0 → (vp_in (1 : Int32) 3 ∧ ∀ σ9, σ9 = sA σ7 62 (Int32.toNatClampNeg (1 : Int32)) x3 → mw_doesShrug x3 σ9 (fun r11 σ10 => ((r11 = 0 → mw_isTwo_87 X2 X51 x1 x2 x3 σ10 Q) ∧ (¬ r11 = 0 → mw_isSo σ10 (fun r13 σ12 => ((r13 = 0 → mw_isTwo_87 X2 X51 x1 x2 x3 σ12 Q) ∧ (¬ r13 = 0 → Q (1 : Int32) σ12)))))))))))) → X51 x1 x2 x3 σ) → X51 x1 x2 x3 σ
theorem mt_isTwo_51 {κ : Cx} {S : Adr} {Z : State → Prop} {Q : Int32 → FS → Prop} (h : MCx κ cX6_isTwo S 8) (hR : RetZ κ S Z cX6_isTwo Q) {X2 : Int32 → FS → Prop} (hX2 : ∀ (x1 : Int32) (σ : FS), X2 x1 σ → MG κ S Z 2 σ [some (.ref (S.2.1 0)), some (.int x1), none, none, none] []) {x1 : Int32} {x2 : Int32} {x3 : Int32} {σ : FS} (hw : mw_isTwo_51 X2 x1 x2 x3 σ Q) : MG κ S Z 51 σ [some (.ref (S.2.1 0)), some (.int x1), some (.int x2), some (.int x3), none] [] := by
  refine hw (fun x1 x2 x3 σ => MG κ S Z 51 σ [some (.ref (S.2.1 0)), some (.int x1), some (.int x2), some (.int x3), none] []) ?_
  clear hw
  intro x1 x2 x3 σ hw
  have hX51 : ∀ (x1 : Int32) (x2 : Int32) (x3 : Int32) (σ : FS), MG κ S Z 51 σ [some (.ref (S.2.1 0)), some (.int x1), some (.int x2), some (.int x3), none] [] → MG κ S Z 51 σ [some (.ref (S.2.1 0)), some (.int x1), some (.int x2), some (.int x3), none] [] := fun _ _ _ _ hh => hh
  refine g_iload_3 51 h.1 dX6_isTwo_51 ?_
  refine g_aload_0 52 h.1 dX6_isTwo_52 ?_
  refine m_callI_0 53 h (mm_askingMany h.2.2.1 hw) (by decide) q2493 (Nat.le_of_ble_eq_true rfl) dX6_isTwo_53 (fun r8 σ7 hw => ?_)
  refine g_icmp_ge 56 123 h.1 dX6_isTwo_56 (by decide) (fun c => ?_) (fun c => ?_)
  · have hw := hw.1 c
    exact g_le (mt_isTwo_123 h hR hX2 hw) ⟨rfl, rfl, trivial⟩
  · have hw := hw.2 c
    refine g_iload_2 59 h.1 dX6_isTwo_59 ?_
    refine g_if_eq 60 123 h.1 dX6_isTwo_60 (by decide) (fun c => ?_) (fun c => ?_)
    · have hw := hw.1 c
      exact g_le (mt_isTwo_123 h hR hX2 hw) ⟨rfl, rfl, trivial⟩
    · have hw := hw.2 c
      refine g_aload_0 63 h.1 dX6_isTwo_63 ?_
      refine mg_62 64 h dX6_isTwo_64 ?_
      refine g_iconstv 67 _ ic_1 h.1 dX6_isTwo_67 ?_
      refine g_iload_3 68 h.1 dX6_isTwo_68 ?_
      refine m_iast 69 rfl hw.1 h dX6_isTwo_69 ?_
      have hw := hw.2 _ rfl
      refine g_aload_0 70 h.1 dX6_isTwo_70 ?_
      refine g_iload_3 71 h.1 dX6_isTwo_71 ?_
      refine m_callI_1 72 h (mm_doesShrug h.2.2.1 hw) (by decide) q2497 (Nat.le_of_ble_eq_true rfl) dX6_isTwo_72 (fun r11 σ10 hw => ?_)
      refine g_if_eq 75 87 h.1 dX6_isTwo_75 (by decide) (fun c => ?_) (fun c => ?_)
      · have hw := hw.1 c
        exact g_le (mt_isTwo_87 h hR hX2 hX51 hw) ⟨rfl, rfl, rfl, rfl, trivial⟩
      · have hw := hw.2 c
        refine g_aload_0 78 h.1 dX6_isTwo_78 ?_
        refine m_callI_0 79 h (mm_isSo h.2.2.1 hw) (by decide) q2485 (Nat.le_of_ble_eq_true rfl) dX6_isTwo_79 (fun r13 σ12 hw => ?_)
        refine g_if_eq 82 87 h.1 dX6_isTwo_82 (by decide) (fun c => ?_) (fun c => ?_)
        · have hw := hw.1 c
          exact g_le (mt_isTwo_87 h hR hX2 hX51 hw) ⟨rfl, rfl, rfl, rfl, trivial⟩
        · have hw := hw.2 c
          refine g_iconstv 85 _ ic_1 h.1 dX6_isTwo_85 ?_
          exact hR 86 _ _ _ dX6_isTwo_86 rfl hw
def mw_isTwo_25 (X2 : Int32 → FS → Prop) (x1 : Int32) (x2 : Int32) (x3 : Int32) (σ : FS) (Q : Int32 → FS → Prop) : Prop :=
  ∀ X25 : Int32 → Int32 → Int32 → FS → Prop, (∀ (x1 : Int32) (x2 : Int32) (x3 : Int32) (σ : FS), (((71 : Int32) ≤ x3 → mw_isTwo_51 X2 x1 x2 (0 : Int32) σ Q) ∧ (¬ (71 : Int32) ≤ x3 → (vp_in x3 232 ∧ (vp_in x3 71 ∧ ∀ σ6, σ6 = sA σ 63 (Int32.toNatClampNeg x3) (fA σ 52 (Int32.toNatClampNeg x3)) → X25 x1 x2 (x3 + 1) σ6)))) → X25 x1 x2 x3 σ) → X25 x1 x2 x3 σ
theorem mt_isTwo_25 {κ : Cx} {S : Adr} {Z : State → Prop} {Q : Int32 → FS → Prop} (h : MCx κ cX6_isTwo S 8) (hR : RetZ κ S Z cX6_isTwo Q) {X2 : Int32 → FS → Prop} (hX2 : ∀ (x1 : Int32) (σ : FS), X2 x1 σ → MG κ S Z 2 σ [some (.ref (S.2.1 0)), some (.int x1), none, none, none] []) {x1 : Int32} {x2 : Int32} {x3 : Int32} {σ : FS} (hw : mw_isTwo_25 X2 x1 x2 x3 σ Q) : MG κ S Z 25 σ [some (.ref (S.2.1 0)), some (.int x1), some (.int x2), some (.int x3), none] [] := by
  refine hw (fun x1 x2 x3 σ => MG κ S Z 25 σ [some (.ref (S.2.1 0)), some (.int x1), some (.int x2), some (.int x3), none] []) ?_
  clear hw
  intro x1 x2 x3 σ hw
  have hX25 : ∀ (x1 : Int32) (x2 : Int32) (x3 : Int32) (σ : FS), MG κ S Z 25 σ [some (.ref (S.2.1 0)), some (.int x1), some (.int x2), some (.int x3), none] [] → MG κ S Z 25 σ [some (.ref (S.2.1 0)), some (.int x1), some (.int x2), some (.int x3), none] [] := fun _ _ _ _ hh => hh
  refine g_iload_3 25 h.1 dX6_isTwo_25 ?_
  refine g_bipush 26 _ bp_71 h.1 dX6_isTwo_26 ?_
  refine g_icmp_ge 28 49 h.1 dX6_isTwo_28 (by decide) (fun c => ?_) (fun c => ?_)
  · have hw := hw.1 c
    refine g_iconstv 49 _ ic_0 h.1 dX6_isTwo_49 ?_
    refine g_istore_3 50 h.1 rfl dX6_isTwo_50 ?_
    exact g_le (mt_isTwo_51 h hR hX2 hw) ⟨rfl, rfl, rfl, rfl, trivial⟩
  · have hw := hw.2 c
    refine g_aload_0 31 h.1 dX6_isTwo_31 ?_
    refine mg_63 32 h dX6_isTwo_32 ?_
    refine g_iload_3 35 h.1 dX6_isTwo_35 ?_
    refine g_aload_0 36 h.1 dX6_isTwo_36 ?_
    refine mg_52 37 h dX6_isTwo_37 ?_
    refine g_iload_3 40 h.1 dX6_isTwo_40 ?_
    refine m_iald 41 rfl hw.1 h dX6_isTwo_41 ?_
    have hw := hw.2
    refine m_iast 42 rfl hw.1 h dX6_isTwo_42 ?_
    have hw := hw.2 _ rfl
    refine g_iinc_3 43 (x3 + 1) (congrArg _ ic_1) h.1 rfl dX6_isTwo_43 ?_
    refine g_goto 46 25 h.1 dX6_isTwo_46 (by decide) ?_
    exact g_le (hX25 _ _ _ _ hw) ⟨rfl, rfl, rfl, rfl, trivial⟩
def mw_isTwo_2 (x1 : Int32) (σ : FS) (Q : Int32 → FS → Prop) : Prop :=
  ∀ X2 : Int32 → FS → Prop, (∀ (x1 : Int32) (σ : FS), mw_askingMany σ (fun r2 σ1 => ((r2 ≤ x1 → Q (0 : Int32) σ1) ∧ (¬ r2 ≤ x1 → (vp_in (0 : Int32) 3 ∧ ∀ σ3, σ3 = sA σ1 62 (Int32.toNatClampNeg (0 : Int32)) x1 → mw_doesShrug x1 σ3 (fun r5 σ4 => mw_isTwo_25 X2 x1 r5 (0 : Int32) σ4 Q))))) → X2 x1 σ) → X2 x1 σ
theorem mt_isTwo_2 {κ : Cx} {S : Adr} {Z : State → Prop} {Q : Int32 → FS → Prop} (h : MCx κ cX6_isTwo S 8) (hR : RetZ κ S Z cX6_isTwo Q) {x1 : Int32} {σ : FS} (hw : mw_isTwo_2 x1 σ Q) : MG κ S Z 2 σ [some (.ref (S.2.1 0)), some (.int x1), none, none, none] [] := by
  refine hw (fun x1 σ => MG κ S Z 2 σ [some (.ref (S.2.1 0)), some (.int x1), none, none, none] []) ?_
  clear hw
  intro x1 σ hw
  have hX2 : ∀ (x1 : Int32) (σ : FS), MG κ S Z 2 σ [some (.ref (S.2.1 0)), some (.int x1), none, none, none] [] → MG κ S Z 2 σ [some (.ref (S.2.1 0)), some (.int x1), none, none, none] [] := fun _ _ hh => hh
  refine g_iload_1 2 h.1 dX6_isTwo_2 ?_
  refine g_aload_0 3 h.1 dX6_isTwo_3 ?_
  refine m_callI_0 4 h (mm_askingMany h.2.2.1 hw) (by decide) q2493 (Nat.le_of_ble_eq_true rfl) dX6_isTwo_4 (fun r2 σ1 hw => ?_)
  refine g_icmp_ge 7 133 h.1 dX6_isTwo_7 (by decide) (fun c => ?_) (fun c => ?_)
  · have hw := hw.1 c
    refine g_iconstv 133 _ ic_0 h.1 dX6_isTwo_133 ?_
    exact hR 134 _ _ _ dX6_isTwo_134 rfl hw
  · have hw := hw.2 c
    refine g_aload_0 10 h.1 dX6_isTwo_10 ?_
    refine mg_62 11 h dX6_isTwo_11 ?_
    refine g_iconstv 14 _ ic_0 h.1 dX6_isTwo_14 ?_
    refine g_iload_1 15 h.1 dX6_isTwo_15 ?_
    refine m_iast 16 rfl hw.1 h dX6_isTwo_16 ?_
    have hw := hw.2 _ rfl
    refine g_aload_0 17 h.1 dX6_isTwo_17 ?_
    refine g_iload_1 18 h.1 dX6_isTwo_18 ?_
    refine m_callI_1 19 h (mm_doesShrug h.2.2.1 hw) (by decide) q2497 (Nat.le_of_ble_eq_true rfl) dX6_isTwo_19 (fun r5 σ4 hw => ?_)
    refine g_istore_2 22 h.1 rfl dX6_isTwo_22 ?_
    refine g_iconstv 23 _ ic_0 h.1 dX6_isTwo_23 ?_
    refine g_istore_3 24 h.1 rfl dX6_isTwo_24 ?_
    exact g_le (mt_isTwo_25 h hR hX2 hw) ⟨rfl, rfl, rfl, rfl, trivial⟩
def mw_isTwo (σ : FS) (Q : Int32 → FS → Prop) : Prop :=
  mw_isTwo_2 (0 : Int32) σ Q
theorem mt_isTwo {κ : Cx} {S : Adr} {Z : State → Prop} {Q : Int32 → FS → Prop} (h : MCx κ cX6_isTwo S 8) (hR : RetZ κ S Z cX6_isTwo Q) {σ : FS} (hw : mw_isTwo σ Q) : MG κ S Z 0 σ [some (.ref (S.2.1 0)), none, none, none, none] [] := by
  unfold mw_isTwo at hw
  refine g_iconstv 0 _ ic_0 h.1 dX6_isTwo_0 ?_
  refine g_istore_1 1 h.1 rfl dX6_isTwo_1 ?_
  exact g_le (mt_isTwo_2 h hR hw) ⟨rfl, rfl, trivial⟩
theorem mm_isTwo {l : Launch} {S : Adr} (hD : MD S) {σ : FS} {Q : Int32 → FS → Prop} (hw : mw_isTwo σ Q) : mMet l S 8 yX6_isTwo [] σ (mQi S Q) :=
  m_metZ hD ⟨rfl, by decide, by show _ = some 0; decide +kernel, q2504⟩ q2503 qs144 (Nat.le_of_ble_eq_true rfl) (fun κ Z h hR => mt_isTwo h hR hw)
def mw_wayCost_23 (X2 : Int32 → Int32 → Int32 → FS → Prop) (x1 : Int32) (x2 : Int32) (x3 : Int32) (y0 : Int32) (y1 : Int32) (σ : FS) (Q : Int32 → FS → Prop) : Prop :=
  (vp_in y1 49 ∧ ∀ σ1, σ1 = sA σ 69 (Int32.toNatClampNeg y1) y0 → X2 x1 x2 (x3 + 1) σ1)
theorem mt_wayCost_23 {κ : Cx} {S : Adr} {Z : State → Prop} {Q : Int32 → FS → Prop} (h : MCx κ cX6_wayCost S 5) (hR : RetI κ S Z cX6_wayCost Q) {X2 : Int32 → Int32 → Int32 → FS → Prop} (hX2 : ∀ (x1 : Int32) (x2 : Int32) (x3 : Int32) (σ : FS), X2 x1 x2 x3 σ → MG κ S Z 2 σ [some (.ref (S.2.1 0)), some (.int x1), some (.int x2), some (.int x3), none] []) {x1 : Int32} {x2 : Int32} {x3 : Int32} {y0 : Int32} {y1 : Int32} {σ : FS} (hw : mw_wayCost_23 X2 x1 x2 x3 y0 y1 σ Q) : MG κ S Z 23 σ [some (.ref (S.2.1 0)), some (.int x1), some (.int x2), some (.int x3), none] [.int y0, .int y1, .ref (S.2.2.1 69)] := by
  unfold mw_wayCost_23 at hw
  refine m_iast 23 rfl hw.1 h dX6_wayCost_23 ?_
  have hw := hw.2 _ rfl
  refine g_iinc_3 24 (x3 + 1) (congrArg _ ic_1) h.1 rfl dX6_wayCost_24 ?_
  refine g_goto 27 2 h.1 dX6_wayCost_27 (by decide) ?_
  exact g_le (hX2 _ _ _ _ hw) ⟨rfl, rfl, rfl, rfl, trivial⟩
def mw_wayCost_65 (X32 : Int32 → Int32 → FS → Prop) (X41 : Int32 → Int32 → Int32 → FS → Prop) (x2 : Int32) (x3 : Int32) (x4 : Int32) (σ : FS) (Q : Int32 → FS → Prop) : Prop :=
  X41 x2 x3 (x4 + 1) σ
theorem mt_wayCost_65 {κ : Cx} {S : Adr} {Z : State → Prop} {Q : Int32 → FS → Prop} (h : MCx κ cX6_wayCost S 5) (hR : RetI κ S Z cX6_wayCost Q) {X32 : Int32 → Int32 → FS → Prop} {X41 : Int32 → Int32 → Int32 → FS → Prop} (hX32 : ∀ (x2 : Int32) (x3 : Int32) (σ : FS), X32 x2 x3 σ → MG κ S Z 32 σ [some (.ref (S.2.1 0)), none, some (.int x2), some (.int x3), none] []) (hX41 : ∀ (x2 : Int32) (x3 : Int32) (x4 : Int32) (σ : FS), X41 x2 x3 x4 σ → MG κ S Z 41 σ [some (.ref (S.2.1 0)), none, some (.int x2), some (.int x3), some (.int x4)] []) {x2 : Int32} {x3 : Int32} {x4 : Int32} {σ : FS} (hw : mw_wayCost_65 X32 X41 x2 x3 x4 σ Q) : MG κ S Z 65 σ [some (.ref (S.2.1 0)), none, some (.int x2), some (.int x3), some (.int x4)] [] := by
  unfold mw_wayCost_65 at hw
  refine g_iinc_4 65 (x4 + 1) (congrArg _ ic_1) h.1 rfl dX6_wayCost_65 ?_
  refine g_goto 68 41 h.1 dX6_wayCost_68 (by decide) ?_
  exact g_le (hX41 _ _ _ _ hw) ⟨rfl, rfl, rfl, rfl, trivial⟩
def mw_wayCost_41 (X32 : Int32 → Int32 → FS → Prop) (x2 : Int32) (x3 : Int32) (x4 : Int32) (σ : FS) (Q : Int32 → FS → Prop) : Prop :=
  ∀ X41 : Int32 → Int32 → Int32 → FS → Prop, (∀ (x2 : Int32) (x3 : Int32) (x4 : Int32) (σ : FS), mw_cellMany σ (fun r3 σ2 => ((r3 ≤ x4 → X32 x2 x3 σ2) ∧ (¬ r3 ≤ x4 → mw_cellOrder x4 σ2 (fun r5 σ4 => mw_isCheaper r5 σ4 (fun r7 σ6 => ((r7 = 0 → mw_wayCost_65 X32 X41 x2 x3 x4 σ6 Q) ∧ (¬ r7 = 0 → mw_wayCost_65 X32 X41 x2 (1 : Int32) x4 σ6 Q))))))) → X41 x2 x3 x4 σ) → X41 x2 x3 x4 σ
theorem mt_wayCost_41 {κ : Cx} {S : Adr} {Z : State → Prop} {Q : Int32 → FS → Prop} (h : MCx κ cX6_wayCost S 5) (hR : RetI κ S Z cX6_wayCost Q) {X32 : Int32 → Int32 → FS → Prop} (hX32 : ∀ (x2 : Int32) (x3 : Int32) (σ : FS), X32 x2 x3 σ → MG κ S Z 32 σ [some (.ref (S.2.1 0)), none, some (.int x2), some (.int x3), none] []) {x2 : Int32} {x3 : Int32} {x4 : Int32} {σ : FS} (hw : mw_wayCost_41 X32 x2 x3 x4 σ Q) : MG κ S Z 41 σ [some (.ref (S.2.1 0)), none, some (.int x2), some (.int x3), some (.int x4)] [] := by
  refine hw (fun x2 x3 x4 σ => MG κ S Z 41 σ [some (.ref (S.2.1 0)), none, some (.int x2), some (.int x3), some (.int x4)] []) ?_
  clear hw
  intro x2 x3 x4 σ hw
  have hX41 : ∀ (x2 : Int32) (x3 : Int32) (x4 : Int32) (σ : FS), MG κ S Z 41 σ [some (.ref (S.2.1 0)), none, some (.int x2), some (.int x3), some (.int x4)] [] → MG κ S Z 41 σ [some (.ref (S.2.1 0)), none, some (.int x2), some (.int x3), some (.int x4)] [] := fun _ _ _ _ hh => hh
  refine g_iload_4 41 h.1 dX6_wayCost_41 ?_
  refine g_aload_0 43 h.1 dX6_wayCost_43 ?_
  refine m_callI_0 44 h (mm_cellMany h.2.2.1 hw) (by decide) q2319 (Nat.le_of_ble_eq_true rfl) dX6_wayCost_44 (fun r3 σ2 hw => ?_)
  refine g_icmp_ge 47 71 h.1 dX6_wayCost_47 (by decide) (fun c => ?_) (fun c => ?_)
  · have hw := hw.1 c
    refine g_goto 71 32 h.1 dX6_wayCost_71 (by decide) ?_
    exact g_le (hX32 _ _ _ hw) ⟨rfl, rfl, rfl, trivial⟩
  · have hw := hw.2 c
    refine g_aload_0 50 h.1 dX6_wayCost_50 ?_
    refine g_aload_0 51 h.1 dX6_wayCost_51 ?_
    refine g_iload_4 52 h.1 dX6_wayCost_52 ?_
    refine m_callI_1 54 h (mm_cellOrder h.2.2.1 hw) (by decide) q2323 (Nat.le_of_ble_eq_true rfl) dX6_wayCost_54 (fun r5 σ4 hw => ?_)
    refine m_callI_1 57 h (mm_isCheaper h.2.2.1 hw) (by decide) q2521 (Nat.le_of_ble_eq_true rfl) dX6_wayCost_57 (fun r7 σ6 hw => ?_)
    refine g_if_eq 60 65 h.1 dX6_wayCost_60 (by decide) (fun c => ?_) (fun c => ?_)
    · have hw := hw.1 c
      exact g_le (mt_wayCost_65 h hR hX32 hX41 hw) ⟨rfl, rfl, rfl, rfl, trivial⟩
    · have hw := hw.2 c
      refine g_iconstv 63 _ ic_1 h.1 dX6_wayCost_63 ?_
      refine g_istore_3 64 h.1 rfl dX6_wayCost_64 ?_
      exact g_le (mt_wayCost_65 h hR hX32 hX41 hw) ⟨rfl, rfl, rfl, rfl, trivial⟩
def mw_wayCost_32 (x2 : Int32) (x3 : Int32) (σ : FS) (Q : Int32 → FS → Prop) : Prop :=
  ∀ X32 : Int32 → Int32 → FS → Prop, (∀ (x2 : Int32) (x3 : Int32) (σ : FS), ((x3 = 0 → (vp_in x2 49 ∧ Q (fA σ 69 (Int32.toNatClampNeg x2)) σ)) ∧ (¬ x3 = 0 → mw_wayCost_41 X32 x2 (0 : Int32) (0 : Int32) σ Q)) → X32 x2 x3 σ) → X32 x2 x3 σ
theorem mt_wayCost_32 {κ : Cx} {S : Adr} {Z : State → Prop} {Q : Int32 → FS → Prop} (h : MCx κ cX6_wayCost S 5) (hR : RetI κ S Z cX6_wayCost Q) {x2 : Int32} {x3 : Int32} {σ : FS} (hw : mw_wayCost_32 x2 x3 σ Q) : MG κ S Z 32 σ [some (.ref (S.2.1 0)), none, some (.int x2), some (.int x3), none] [] := by
  refine hw (fun x2 x3 σ => MG κ S Z 32 σ [some (.ref (S.2.1 0)), none, some (.int x2), some (.int x3), none] []) ?_
  clear hw
  intro x2 x3 σ hw
  have hX32 : ∀ (x2 : Int32) (x3 : Int32) (σ : FS), MG κ S Z 32 σ [some (.ref (S.2.1 0)), none, some (.int x2), some (.int x3), none] [] → MG κ S Z 32 σ [some (.ref (S.2.1 0)), none, some (.int x2), some (.int x3), none] [] := fun _ _ _ hh => hh
  refine g_iload_3 32 h.1 dX6_wayCost_32 ?_
  refine g_if_eq 33 74 h.1 dX6_wayCost_33 (by decide) (fun c => ?_) (fun c => ?_)
  · have hw := hw.1 c
    refine g_aload_0 74 h.1 dX6_wayCost_74 ?_
    refine mg_69 75 h dX6_wayCost_75 ?_
    refine g_iload_2 78 h.1 dX6_wayCost_78 ?_
    refine m_iald 79 rfl hw.1 h dX6_wayCost_79 ?_
    have hw := hw.2
    exact hR 80 _ _ _ dX6_wayCost_80 hw
  · have hw := hw.2 c
    refine g_iconstv 36 _ ic_0 h.1 dX6_wayCost_36 ?_
    refine g_istore_3 37 h.1 rfl dX6_wayCost_37 ?_
    refine g_iconstv 38 _ ic_0 h.1 dX6_wayCost_38 ?_
    refine g_istore_4 39 h.1 rfl dX6_wayCost_39 ?_
    exact g_le (mt_wayCost_41 h hR hX32 hw) ⟨rfl, rfl, rfl, rfl, trivial⟩
def mw_wayCost_2 (x1 : Int32) (x2 : Int32) (x3 : Int32) (σ : FS) (Q : Int32 → FS → Prop) : Prop :=
  ∀ X2 : Int32 → Int32 → Int32 → FS → Prop, (∀ (x1 : Int32) (x2 : Int32) (x3 : Int32) (σ : FS), (((49 : Int32) ≤ x3 → mw_wayCost_32 x2 (1 : Int32) σ Q) ∧ (¬ (49 : Int32) ≤ x3 → ((¬ x3 = x1 → mw_wayCost_23 X2 x1 x2 x3 (-1 : Int32) x3 σ Q) ∧ (x3 = x1 → mw_wayCost_23 X2 x1 x2 x3 (0 : Int32) x3 σ Q)))) → X2 x1 x2 x3 σ) → X2 x1 x2 x3 σ
theorem mt_wayCost_2 {κ : Cx} {S : Adr} {Z : State → Prop} {Q : Int32 → FS → Prop} (h : MCx κ cX6_wayCost S 5) (hR : RetI κ S Z cX6_wayCost Q) {x1 : Int32} {x2 : Int32} {x3 : Int32} {σ : FS} (hw : mw_wayCost_2 x1 x2 x3 σ Q) : MG κ S Z 2 σ [some (.ref (S.2.1 0)), some (.int x1), some (.int x2), some (.int x3), none] [] := by
  refine hw (fun x1 x2 x3 σ => MG κ S Z 2 σ [some (.ref (S.2.1 0)), some (.int x1), some (.int x2), some (.int x3), none] []) ?_
  clear hw
  intro x1 x2 x3 σ hw
  have hX2 : ∀ (x1 : Int32) (x2 : Int32) (x3 : Int32) (σ : FS), MG κ S Z 2 σ [some (.ref (S.2.1 0)), some (.int x1), some (.int x2), some (.int x3), none] [] → MG κ S Z 2 σ [some (.ref (S.2.1 0)), some (.int x1), some (.int x2), some (.int x3), none] [] := fun _ _ _ _ hh => hh
  refine g_iload_3 2 h.1 dX6_wayCost_2 ?_
  refine g_bipush 3 _ bp_49 h.1 dX6_wayCost_3 ?_
  refine g_icmp_ge 5 30 h.1 dX6_wayCost_5 (by decide) (fun c => ?_) (fun c => ?_)
  · have hw := hw.1 c
    refine g_iconstv 30 _ ic_1 h.1 dX6_wayCost_30 ?_
    refine g_istore_3 31 h.1 rfl dX6_wayCost_31 ?_
    exact g_le (mt_wayCost_32 h hR hw) ⟨rfl, rfl, rfl, trivial⟩
  · have hw := hw.2 c
    refine g_aload_0 8 h.1 dX6_wayCost_8 ?_
    refine mg_69 9 h dX6_wayCost_9 ?_
    refine g_iload_3 12 h.1 dX6_wayCost_12 ?_
    refine g_iload_3 13 h.1 dX6_wayCost_13 ?_
    refine g_iload_1 14 h.1 dX6_wayCost_14 ?_
    refine g_icmp_ne 15 22 h.1 dX6_wayCost_15 (by decide) (fun c => ?_) (fun c => ?_)
    · have hw := hw.1 c
      refine g_iconstv 22 _ ic_m1 h.1 dX6_wayCost_22 ?_
      exact g_le (mt_wayCost_23 h hR hX2 hw) ⟨rfl, rfl, rfl, rfl, trivial⟩
    · have hw := hw.2 c
      refine g_iconstv 18 _ ic_0 h.1 dX6_wayCost_18 ?_
      refine g_goto 19 23 h.1 dX6_wayCost_19 (by decide) ?_
      exact g_le (mt_wayCost_23 h hR hX2 hw) ⟨rfl, rfl, rfl, rfl, trivial⟩
def mw_wayCost (x1 : Int32) (x2 : Int32) (σ : FS) (Q : Int32 → FS → Prop) : Prop :=
  mw_wayCost_2 x1 x2 (0 : Int32) σ Q
theorem mt_wayCost {κ : Cx} {S : Adr} {Z : State → Prop} {Q : Int32 → FS → Prop} (h : MCx κ cX6_wayCost S 5) (hR : RetI κ S Z cX6_wayCost Q) {x1 : Int32} {x2 : Int32} {σ : FS} (hw : mw_wayCost x1 x2 σ Q) : MG κ S Z 0 σ [some (.ref (S.2.1 0)), some (.int x1), some (.int x2), none, none] [] := by
  unfold mw_wayCost at hw
  refine g_iconstv 0 _ ic_0 h.1 dX6_wayCost_0 ?_
  refine g_istore_3 1 h.1 rfl dX6_wayCost_1 ?_
  exact g_le (mt_wayCost_2 h hR hw) ⟨rfl, rfl, rfl, rfl, trivial⟩
theorem mm_wayCost {l : Launch} {S : Adr} (hD : MD S) {x1 : Int32} {x2 : Int32} {σ : FS} {Q : Int32 → FS → Prop} (hw : mw_wayCost x1 x2 σ Q) : mMet l S 5 yX6_wayCost [.int x1, .int x2] σ (mQi S Q) :=
  m_metI hD ⟨rfl, by decide, by show _ = some 2; decide +kernel, q2520⟩ q2519 qs147 (Nat.le_of_ble_eq_true rfl) (fun κ Z h hR => mt_wayCost h hR hw)
def mw_isWayKept_27 (y0 : Int32) (σ : FS) (Q : Int32 → FS → Prop) : Prop :=
  mw_triesAnew σ (fun σ5 => (nb y0 ∧ Q y0 σ5))
theorem mt_isWayKept_27 {κ : Cx} {S : Adr} {Z : State → Prop} {Q : Int32 → FS → Prop} (h : MCx κ cX6_isWayKept S 9) (hR : RetZ κ S Z cX6_isWayKept Q) {y0 : Int32} {σ : FS} (hw : mw_isWayKept_27 y0 σ Q) : MG κ S Z 27 σ [some (.ref (S.2.1 0)), none, none, none, none, none, none] [.int y0] := by
  unfold mw_isWayKept_27 at hw
  refine g_istore_6 27 h.1 rfl dX6_isWayKept_27 ?_
  refine g_aload_0 29 h.1 dX6_isWayKept_29 ?_
  refine m_callV_0 30 h (mm_triesAnew h.2.2.1 hw) (by decide) q2460 (Nat.le_of_ble_eq_true rfl) dX6_isWayKept_30 (fun σ5 hw => ?_)
  refine g_iload_6 33 h.1 dX6_isWayKept_33 ?_
  exact hR 35 _ _ _ dX6_isWayKept_35 hw.1 hw.2
def mw_isWayKept (x1 : Int32) (x2 : Int32) (x3 : Int32) (x4 : Int32) (x5 : Int32) (σ : FS) (Q : Int32 → FS → Prop) : Prop :=
  (∀ σ1, σ1 = sI σ 0 60 x1 → mw_daysGo x4 σ1 (fun σ2 => mw_wayCost x2 x3 σ2 (fun r4 σ3 => ((x5 < r4 → mw_isWayKept_27 (0 : Int32) σ3 Q) ∧ (¬ x5 < r4 → mw_isWayKept_27 (1 : Int32) σ3 Q)))))
theorem mt_isWayKept {κ : Cx} {S : Adr} {Z : State → Prop} {Q : Int32 → FS → Prop} (h : MCx κ cX6_isWayKept S 9) (hR : RetZ κ S Z cX6_isWayKept Q) {x1 : Int32} {x2 : Int32} {x3 : Int32} {x4 : Int32} {x5 : Int32} {σ : FS} (hw : mw_isWayKept x1 x2 x3 x4 x5 σ Q) : MG κ S Z 0 σ [some (.ref (S.2.1 0)), some (.int x1), some (.int x2), some (.int x3), some (.int x4), some (.int x5), none] [] := by
  unfold mw_isWayKept at hw
  refine g_aload_0 0 h.1 dX6_isWayKept_0 ?_
  refine g_iload_1 1 h.1 dX6_isWayKept_1 ?_
  refine mp_60 2 h dX6_isWayKept_2 ?_
  have hw := hw _ rfl
  refine g_aload_0 5 h.1 dX6_isWayKept_5 ?_
  refine g_iload_4 6 h.1 dX6_isWayKept_6 ?_
  refine m_callV_1 8 h (mm_daysGo h.2.2.1 hw) (by decide) q2424 (Nat.le_of_ble_eq_true rfl) dX6_isWayKept_8 (fun σ2 hw => ?_)
  refine g_aload_0 11 h.1 dX6_isWayKept_11 ?_
  refine g_iload_2 12 h.1 dX6_isWayKept_12 ?_
  refine g_iload_3 13 h.1 dX6_isWayKept_13 ?_
  refine m_callI_2 14 h (mm_wayCost h.2.2.1 hw) (by decide) q2517 (Nat.le_of_ble_eq_true rfl) dX6_isWayKept_14 (fun r4 σ3 hw => ?_)
  refine g_iload_5 17 h.1 dX6_isWayKept_17 ?_
  refine g_icmp_gt 19 26 h.1 dX6_isWayKept_19 (by decide) (fun c => ?_) (fun c => ?_)
  · have hw := hw.1 c
    refine g_iconstv 26 _ ic_0 h.1 dX6_isWayKept_26 ?_
    exact g_le (mt_isWayKept_27 h hR hw) ⟨rfl, trivial⟩
  · have hw := hw.2 c
    refine g_iconstv 22 _ ic_1 h.1 dX6_isWayKept_22 ?_
    refine g_goto 23 27 h.1 dX6_isWayKept_23 (by decide) ?_
    exact g_le (mt_isWayKept_27 h hR hw) ⟨rfl, trivial⟩
theorem mm_isWayKept {l : Launch} {S : Adr} (hD : MD S) {x1 : Int32} {x2 : Int32} {x3 : Int32} {x4 : Int32} {x5 : Int32} {σ : FS} {Q : Int32 → FS → Prop} (hw : mw_isWayKept x1 x2 x3 x4 x5 σ Q) : mMet l S 9 yX6_isWayKept [.int x1, .int x2, .int x3, .int x4, .int x5] σ (mQi S Q) :=
  m_metZ hD ⟨rfl, by decide, by show _ = some 5; decide +kernel, q2547⟩ q2546 qs151 (Nat.le_of_ble_eq_true rfl) (fun κ Z h hR => mt_isWayKept h hR hw)
def mw_keeps_112 (X59 : Int32 → Int32 → Int32 → Int32 → Int32 → Int32 → FS → Prop) (x3 : Int32) (x4 : Int32) (x5 : Int32) (x6 : Int32) (x7 : Int32) (x8 : Int32) (σ : FS) (Q : Int32 → FS → Prop) : Prop :=
  X59 x3 x4 x5 x6 x7 (x8 + 1) σ
theorem mt_keeps_112 {κ : Cx} {S : Adr} {Z : State → Prop} {Q : Int32 → FS → Prop} (h : MCx κ cX6_keeps S 10) (hR : RetI κ S Z cX6_keeps Q) {X59 : Int32 → Int32 → Int32 → Int32 → Int32 → Int32 → FS → Prop} (hX59 : ∀ (x3 : Int32) (x4 : Int32) (x5 : Int32) (x6 : Int32) (x7 : Int32) (x8 : Int32) (σ : FS), X59 x3 x4 x5 x6 x7 x8 σ → MG κ S Z 59 σ [some (.ref (S.2.1 0)), none, none, some (.int x3), some (.int x4), some (.int x5), some (.int x6), some (.int x7), some (.int x8)] []) {x3 : Int32} {x4 : Int32} {x5 : Int32} {x6 : Int32} {x7 : Int32} {x8 : Int32} {σ : FS} (hw : mw_keeps_112 X59 x3 x4 x5 x6 x7 x8 σ Q) : MG κ S Z 112 σ [some (.ref (S.2.1 0)), none, none, some (.int x3), some (.int x4), some (.int x5), some (.int x6), some (.int x7), some (.int x8)] [] := by
  unfold mw_keeps_112 at hw
  refine g_iinc_8 112 (x8 + 1) (congrArg _ ic_1) h.1 rfl dX6_keeps_112 ?_
  refine g_goto 115 59 h.1 dX6_keeps_115 (by decide) ?_
  exact g_le (hX59 _ _ _ _ _ _ _ hw) ⟨rfl, rfl, rfl, rfl, rfl, rfl, rfl, trivial⟩
def mw_keeps_92 (X59 : Int32 → Int32 → Int32 → Int32 → Int32 → Int32 → FS → Prop) (x3 : Int32) (x4 : Int32) (x5 : Int32) (x6 : Int32) (x7 : Int32) (x8 : Int32) (σ : FS) (Q : Int32 → FS → Prop) : Prop :=
  mw_isWayKept x8 x4 x5 x3 x6 σ (fun r18 σ17 => ((r18 = 0 → mw_keeps_112 X59 x3 x4 x5 x6 x7 x8 σ17 Q) ∧ (¬ r18 = 0 → mw_keeps_112 X59 x3 x4 x5 x6 x8 x8 σ17 Q)))
theorem mt_keeps_92 {κ : Cx} {S : Adr} {Z : State → Prop} {Q : Int32 → FS → Prop} (h : MCx κ cX6_keeps S 10) (hR : RetI κ S Z cX6_keeps Q) {X59 : Int32 → Int32 → Int32 → Int32 → Int32 → Int32 → FS → Prop} (hX59 : ∀ (x3 : Int32) (x4 : Int32) (x5 : Int32) (x6 : Int32) (x7 : Int32) (x8 : Int32) (σ : FS), X59 x3 x4 x5 x6 x7 x8 σ → MG κ S Z 59 σ [some (.ref (S.2.1 0)), none, none, some (.int x3), some (.int x4), some (.int x5), some (.int x6), some (.int x7), some (.int x8)] []) {x3 : Int32} {x4 : Int32} {x5 : Int32} {x6 : Int32} {x7 : Int32} {x8 : Int32} {σ : FS} (hw : mw_keeps_92 X59 x3 x4 x5 x6 x7 x8 σ Q) : MG κ S Z 92 σ [some (.ref (S.2.1 0)), none, none, some (.int x3), some (.int x4), some (.int x5), some (.int x6), some (.int x7), some (.int x8)] [] := by
  unfold mw_keeps_92 at hw
  refine g_aload_0 92 h.1 dX6_keeps_92 ?_
  refine g_iload_8 93 h.1 dX6_keeps_93 ?_
  refine g_iload_4 95 h.1 dX6_keeps_95 ?_
  refine g_iload_5 97 h.1 dX6_keeps_97 ?_
  refine g_iload_3 99 h.1 dX6_keeps_99 ?_
  refine g_iload_6 100 h.1 dX6_keeps_100 ?_
  refine m_callI_5 102 h (mm_isWayKept h.2.2.1 hw) (by decide) q2544 (Nat.le_of_ble_eq_true rfl) dX6_keeps_102 (fun r18 σ17 hw => ?_)
  refine g_if_eq 105 112 h.1 dX6_keeps_105 (by decide) (fun c => ?_) (fun c => ?_)
  · have hw := hw.1 c
    exact g_le (mt_keeps_112 h hR hX59 hw) ⟨rfl, rfl, rfl, rfl, rfl, rfl, rfl, trivial⟩
  · have hw := hw.2 c
    refine g_iload_8 108 h.1 dX6_keeps_108 ?_
    refine g_istore_7 110 h.1 rfl dX6_keeps_110 ?_
    exact g_le (mt_keeps_112 h hR hX59 hw) ⟨rfl, rfl, rfl, rfl, rfl, rfl, rfl, trivial⟩
def mw_keeps_59 (x3 : Int32) (x4 : Int32) (x5 : Int32) (x6 : Int32) (x7 : Int32) (x8 : Int32) (σ : FS) (Q : Int32 → FS → Prop) : Prop :=
  ∀ X59 : Int32 → Int32 → Int32 → Int32 → Int32 → Int32 → FS → Prop, (∀ (x3 : Int32) (x4 : Int32) (x5 : Int32) (x6 : Int32) (x7 : Int32) (x8 : Int32) (σ : FS), mw_personMany σ (fun r11 σ10 => ((((1 : Int32) <<< (r11 &&& 31)) ≤ x8 → mw_takesBack σ10 (fun σ12 => Q x7 σ12)) ∧ (¬ ((1 : Int32) <<< (r11 &&& 31)) ≤ x8 → ((x7 = (-1 : Int32) → mw_keeps_92 X59 x3 x4 x5 x6 x7 x8 σ10 Q) ∧ (¬ x7 = (-1 : Int32) → mw_bits x8 σ10 (fun r14 σ13 => mw_bits x7 σ13 (fun r16 σ15 => ((r14 < r16 → mw_keeps_92 X59 x3 x4 x5 x6 x7 x8 σ15 Q) ∧ (¬ r14 < r16 → mw_keeps_112 X59 x3 x4 x5 x6 x7 x8 σ15 Q))))))))) → X59 x3 x4 x5 x6 x7 x8 σ) → X59 x3 x4 x5 x6 x7 x8 σ
theorem mt_keeps_59 {κ : Cx} {S : Adr} {Z : State → Prop} {Q : Int32 → FS → Prop} (h : MCx κ cX6_keeps S 10) (hR : RetI κ S Z cX6_keeps Q) {x3 : Int32} {x4 : Int32} {x5 : Int32} {x6 : Int32} {x7 : Int32} {x8 : Int32} {σ : FS} (hw : mw_keeps_59 x3 x4 x5 x6 x7 x8 σ Q) : MG κ S Z 59 σ [some (.ref (S.2.1 0)), none, none, some (.int x3), some (.int x4), some (.int x5), some (.int x6), some (.int x7), some (.int x8)] [] := by
  refine hw (fun x3 x4 x5 x6 x7 x8 σ => MG κ S Z 59 σ [some (.ref (S.2.1 0)), none, none, some (.int x3), some (.int x4), some (.int x5), some (.int x6), some (.int x7), some (.int x8)] []) ?_
  clear hw
  intro x3 x4 x5 x6 x7 x8 σ hw
  have hX59 : ∀ (x3 : Int32) (x4 : Int32) (x5 : Int32) (x6 : Int32) (x7 : Int32) (x8 : Int32) (σ : FS), MG κ S Z 59 σ [some (.ref (S.2.1 0)), none, none, some (.int x3), some (.int x4), some (.int x5), some (.int x6), some (.int x7), some (.int x8)] [] → MG κ S Z 59 σ [some (.ref (S.2.1 0)), none, none, some (.int x3), some (.int x4), some (.int x5), some (.int x6), some (.int x7), some (.int x8)] [] := fun _ _ _ _ _ _ _ hh => hh
  refine g_iload_8 59 h.1 dX6_keeps_59 ?_
  refine g_iconstv 61 _ ic_1 h.1 dX6_keeps_61 ?_
  refine g_aload_0 62 h.1 dX6_keeps_62 ?_
  refine m_callI_0 63 h (mm_personMany h.2.2.1 hw) (by decide) q2307 (Nat.le_of_ble_eq_true rfl) dX6_keeps_63 (fun r11 σ10 hw => ?_)
  refine g_ishl 66 h.1 dX6_keeps_66 ?_
  refine g_icmp_ge 67 118 h.1 dX6_keeps_67 (by decide) (fun c => ?_) (fun c => ?_)
  · have hw := hw.1 c
    refine g_aload_0 118 h.1 dX6_keeps_118 ?_
    refine m_callV_0 119 h (mm_takesBack h.2.2.1 hw) (by decide) q2456 (Nat.le_of_ble_eq_true rfl) dX6_keeps_119 (fun σ12 hw => ?_)
    refine g_iload_7 122 h.1 dX6_keeps_122 ?_
    exact hR 124 _ _ _ dX6_keeps_124 hw
  · have hw := hw.2 c
    refine g_iload_7 70 h.1 dX6_keeps_70 ?_
    refine g_iconstv 72 _ ic_m1 h.1 dX6_keeps_72 ?_
    refine g_icmp_eq 73 92 h.1 dX6_keeps_73 (by decide) (fun c => ?_) (fun c => ?_)
    · have hw := hw.1 c
      exact g_le (mt_keeps_92 h hR hX59 hw) ⟨rfl, rfl, rfl, rfl, rfl, rfl, rfl, trivial⟩
    · have hw := hw.2 c
      refine g_iload_8 76 h.1 dX6_keeps_76 ?_
      refine m_scallI_1 78 h (mm_bits h.2.2.1 hw) (by decide) q2392 (Nat.le_of_ble_eq_true rfl) dX6_keeps_78 (fun r14 σ13 hw => ?_)
      refine g_iload_7 81 h.1 dX6_keeps_81 ?_
      refine m_scallI_1 83 h (mm_bits h.2.2.1 hw) (by decide) q2392 (Nat.le_of_ble_eq_true rfl) dX6_keeps_83 (fun r16 σ15 hw => ?_)
      refine g_icmp_lt 86 92 h.1 dX6_keeps_86 (by decide) (fun c => ?_) (fun c => ?_)
      · have hw := hw.1 c
        exact g_le (mt_keeps_92 h hR hX59 hw) ⟨rfl, rfl, rfl, rfl, rfl, rfl, rfl, trivial⟩
      · have hw := hw.2 c
        refine g_goto 89 112 h.1 dX6_keeps_89 (by decide) ?_
        exact g_le (mt_keeps_112 h hR hX59 hw) ⟨rfl, rfl, rfl, rfl, rfl, rfl, rfl, trivial⟩
def mw_keeps (x1 : Int32) (x2 : Int32) (x3 : Int32) (σ : FS) (Q : Int32 → FS → Prop) : Prop :=
  mw_cellNumbered x1 σ (fun r2 σ1 => mw_cellNumbered x2 σ1 (fun r4 σ3 => ((r2 = (-1 : Int32) → Q (-1 : Int32) σ3) ∧ (¬ r2 = (-1 : Int32) → ((r4 = (-1 : Int32) → Q (-1 : Int32) σ3) ∧ (¬ r4 = (-1 : Int32) → mw_isAhead x3 (1 : Int32) (20 : Int32) σ3 (fun r6 σ5 => ((¬ r6 = 0 → mw_wayCost r2 r4 σ5 (fun r8 σ7 => mw_putsAside σ7 (fun σ9 => mw_keeps_59 x3 r2 r4 r8 (-1 : Int32) (0 : Int32) σ9 Q))) ∧ (r6 = 0 → Q (-1 : Int32) σ5)))))))))
theorem mt_keeps {κ : Cx} {S : Adr} {Z : State → Prop} {Q : Int32 → FS → Prop} (h : MCx κ cX6_keeps S 10) (hR : RetI κ S Z cX6_keeps Q) {x1 : Int32} {x2 : Int32} {x3 : Int32} {σ : FS} (hw : mw_keeps x1 x2 x3 σ Q) : MG κ S Z 0 σ [some (.ref (S.2.1 0)), some (.int x1), some (.int x2), some (.int x3), none, none, none, none, none] [] := by
  unfold mw_keeps at hw
  refine g_aload_0 0 h.1 dX6_keeps_0 ?_
  refine g_iload_1 1 h.1 dX6_keeps_1 ?_
  refine m_callI_1 2 h (mm_cellNumbered h.2.2.1 hw) (by decide) q2476 (Nat.le_of_ble_eq_true rfl) dX6_keeps_2 (fun r2 σ1 hw => ?_)
  refine g_istore_4 5 h.1 rfl dX6_keeps_5 ?_
  refine g_aload_0 7 h.1 dX6_keeps_7 ?_
  refine g_iload_2 8 h.1 dX6_keeps_8 ?_
  refine m_callI_1 9 h (mm_cellNumbered h.2.2.1 hw) (by decide) q2476 (Nat.le_of_ble_eq_true rfl) dX6_keeps_9 (fun r4 σ3 hw => ?_)
  refine g_istore_5 12 h.1 rfl dX6_keeps_12 ?_
  refine g_iload_4 14 h.1 dX6_keeps_14 ?_
  refine g_iconstv 16 _ ic_m1 h.1 dX6_keeps_16 ?_
  refine g_icmp_eq 17 37 h.1 dX6_keeps_17 (by decide) (fun c => ?_) (fun c => ?_)
  · have hw := hw.1 c
    refine g_iconstv 37 _ ic_m1 h.1 dX6_keeps_37 ?_
    exact hR 38 _ _ _ dX6_keeps_38 hw
  · have hw := hw.2 c
    refine g_iload_5 20 h.1 dX6_keeps_20 ?_
    refine g_iconstv 22 _ ic_m1 h.1 dX6_keeps_22 ?_
    refine g_icmp_eq 23 37 h.1 dX6_keeps_23 (by decide) (fun c => ?_) (fun c => ?_)
    · have hw := hw.1 c
      refine g_iconstv 37 _ ic_m1 h.1 dX6_keeps_37 ?_
      exact hR 38 _ _ _ dX6_keeps_38 hw
    · have hw := hw.2 c
      refine g_aload_0 26 h.1 dX6_keeps_26 ?_
      refine g_iload_3 27 h.1 dX6_keeps_27 ?_
      refine g_iconstv 28 _ ic_1 h.1 dX6_keeps_28 ?_
      refine g_bipush 29 _ bp_20 h.1 dX6_keeps_29 ?_
      refine m_callI_3 31 h (mm_isAhead h.2.2.1 hw) (by decide) q2416 (Nat.le_of_ble_eq_true rfl) dX6_keeps_31 (fun r6 σ5 hw => ?_)
      refine g_if_ne 34 39 h.1 dX6_keeps_34 (by decide) (fun c => ?_) (fun c => ?_)
      · have hw := hw.1 c
        refine g_aload_0 39 h.1 dX6_keeps_39 ?_
        refine g_iload_4 40 h.1 dX6_keeps_40 ?_
        refine g_iload_5 42 h.1 dX6_keeps_42 ?_
        refine m_callI_2 44 h (mm_wayCost h.2.2.1 hw) (by decide) q2517 (Nat.le_of_ble_eq_true rfl) dX6_keeps_44 (fun r8 σ7 hw => ?_)
        refine g_istore_6 47 h.1 rfl dX6_keeps_47 ?_
        refine g_iconstv 49 _ ic_m1 h.1 dX6_keeps_49 ?_
        refine g_istore_7 50 h.1 rfl dX6_keeps_50 ?_
        refine g_aload_0 52 h.1 dX6_keeps_52 ?_
        refine m_callV_0 53 h (mm_putsAside h.2.2.1 hw) (by decide) q2420 (Nat.le_of_ble_eq_true rfl) dX6_keeps_53 (fun σ9 hw => ?_)
        refine g_iconstv 56 _ ic_0 h.1 dX6_keeps_56 ?_
        refine g_istore_8 57 h.1 rfl dX6_keeps_57 ?_
        exact g_le (mt_keeps_59 h hR hw) ⟨rfl, rfl, rfl, rfl, rfl, rfl, rfl, trivial⟩
      · have hw := hw.2 c
        refine g_iconstv 37 _ ic_m1 h.1 dX6_keeps_37 ?_
        exact hR 38 _ _ _ dX6_keeps_38 hw
theorem mm_keeps {l : Launch} {S : Adr} (hD : MD S) {x1 : Int32} {x2 : Int32} {x3 : Int32} {σ : FS} {Q : Int32 → FS → Prop} (hw : mw_keeps x1 x2 x3 σ Q) : mMet l S 10 yX6_keeps [.int x1, .int x2, .int x3] σ (mQi S Q) :=
  m_metI hD ⟨rfl, by decide, by show _ = some 3; decide +kernel, q2543⟩ q2541 q2542 (Nat.le_of_ble_eq_true rfl) (fun κ Z h hR => mt_keeps h hR hw)
def mw_kept (x1 : Int32) (x2 : Int32) (σ : FS) (Q : Int32 → FS → Prop) : Prop :=
  (vp_in (71 : Int32) 232 ∧ mw_isIn (Int32.toInt64 x1) (0 : Int64) (Int32.toInt64 ((fA σ 52 (Int32.toNatClampNeg (71 : Int32))) - (1 : Int32))) σ (fun r2 σ1 => ((r2 = 0 → Q (-1 : Int32) σ1) ∧ (¬ r2 = 0 → mw_isIn (Int32.toInt64 x2) (0 : Int64) (3 : Int64) σ1 (fun r4 σ3 => ((r4 = 0 → Q (-1 : Int32) σ3) ∧ (¬ r4 = 0 → (vp_in (((72 : Int32) + ((4 : Int32) * x1)) + x2) 232 ∧ Q (fA σ3 52 (Int32.toNatClampNeg (((72 : Int32) + ((4 : Int32) * x1)) + x2))) σ3))))))))
theorem mt_kept {κ : Cx} {S : Adr} {Z : State → Prop} {Q : Int32 → FS → Prop} (h : MCx κ cX6_kept S 2) (hR : RetI κ S Z cX6_kept Q) {x1 : Int32} {x2 : Int32} {σ : FS} (hw : mw_kept x1 x2 σ Q) : MG κ S Z 0 σ [some (.ref (S.2.1 0)), some (.int x1), some (.int x2)] [] := by
  unfold mw_kept at hw
  refine g_iload_1 0 h.1 dX6_kept_0 ?_
  refine g_i2l 1 h.1 dX6_kept_1 ?_
  refine g_lconst 2 _ lc_0 h.1 dX6_kept_2 ?_
  refine g_aload_0 3 h.1 dX6_kept_3 ?_
  refine mg_52 4 h dX6_kept_4 ?_
  refine g_bipush 7 _ bp_71 h.1 dX6_kept_7 ?_
  refine m_iald 9 rfl hw.1 h dX6_kept_9 ?_
  have hw := hw.2
  refine g_iconstv 10 _ ic_1 h.1 dX6_kept_10 ?_
  refine g_isub 11 h.1 dX6_kept_11 ?_
  refine g_i2l 12 h.1 dX6_kept_12 ?_
  refine m_scallI_3 13 h (mm_isIn h.2.2.1 hw) (by decide) q2147 (Nat.le_of_ble_eq_true rfl) dX6_kept_13 (fun r2 σ1 hw => ?_)
  refine g_if_eq 16 47 h.1 dX6_kept_16 (by decide) (fun c => ?_) (fun c => ?_)
  · have hw := hw.1 c
    refine g_iconstv 47 _ ic_m1 h.1 dX6_kept_47 ?_
    exact hR 48 _ _ _ dX6_kept_48 hw
  · have hw := hw.2 c
    refine g_iload_2 19 h.1 dX6_kept_19 ?_
    refine g_i2l 20 h.1 dX6_kept_20 ?_
    refine g_lconst 21 _ lc_0 h.1 dX6_kept_21 ?_
    refine g_ldc2 22 h.1 q2411 dX6_kept_22 ?_
    refine m_scallI_3 25 h (mm_isIn h.2.2.1 hw) (by decide) q2147 (Nat.le_of_ble_eq_true rfl) dX6_kept_25 (fun r4 σ3 hw => ?_)
    refine g_if_eq 28 47 h.1 dX6_kept_28 (by decide) (fun c => ?_) (fun c => ?_)
    · have hw := hw.1 c
      refine g_iconstv 47 _ ic_m1 h.1 dX6_kept_47 ?_
      exact hR 48 _ _ _ dX6_kept_48 hw
    · have hw := hw.2 c
      refine g_aload_0 31 h.1 dX6_kept_31 ?_
      refine mg_52 32 h dX6_kept_32 ?_
      refine g_bipush 35 _ bp_72 h.1 dX6_kept_35 ?_
      refine g_iconstv 37 _ ic_4 h.1 dX6_kept_37 ?_
      refine g_iload_1 38 h.1 dX6_kept_38 ?_
      refine g_imul 39 h.1 dX6_kept_39 ?_
      refine g_iadd 40 h.1 dX6_kept_40 ?_
      refine g_iload_2 41 h.1 dX6_kept_41 ?_
      refine g_iadd 42 h.1 dX6_kept_42 ?_
      refine m_iald 43 rfl hw.1 h dX6_kept_43 ?_
      have hw := hw.2
      refine g_goto 44 48 h.1 dX6_kept_44 (by decide) ?_
      exact hR 48 _ _ _ dX6_kept_48 hw
theorem mm_kept {l : Launch} {S : Adr} (hD : MD S) {x1 : Int32} {x2 : Int32} {σ : FS} {Q : Int32 → FS → Prop} (hw : mw_kept x1 x2 σ Q) : mMet l S 2 yX6_kept [.int x1, .int x2] σ (mQi S Q) :=
  m_metI hD ⟨rfl, by decide, by show _ = some 2; decide +kernel, q2410⟩ q2408 q2409 (Nat.le_of_ble_eq_true rfl) (fun κ Z h hR => mt_kept h hR hw)
def mw_name_37 (σ : FS) (Q : Int64 → FS → Prop) : Prop :=
  mw_fail (1 : Int32) (fI σ 0 2) σ (fun σ8 => Q (0 : Int64) σ8)
theorem mt_name_37 {κ : Cx} {S : Adr} {Z : State → Prop} {Q : Int64 → FS → Prop} (h : MCx κ cX6_name S 4) (hR : RetL κ S Z cX6_name Q) {σ : FS} (hw : mw_name_37 σ Q) : MG κ S Z 37 σ [some (.ref (S.2.1 0)), none, none] [] := by
  unfold mw_name_37 at hw
  refine g_aload_0 37 h.1 dX6_name_37 ?_
  refine g_iconstv 38 _ ic_1 h.1 dX6_name_38 ?_
  refine g_aload_0 39 h.1 dX6_name_39 ?_
  refine mg_2 40 h dX6_name_40 ?_
  refine m_callV_2 43 h (mm_fail h.2.2.1 hw) (by decide) q2136 (Nat.le_of_ble_eq_true rfl) dX6_name_43 (fun σ8 hw => ?_)
  refine g_lconst 46 _ lc_0 h.1 dX6_name_46 ?_
  exact hR 47 _ _ _ dX6_name_47 hw
def mw_name_145 (x1 : Int64) (σ : FS) (Q : Int64 → FS → Prop) : Prop :=
  (∀ σ13, σ13 = sI σ 0 4 (fI σ 0 2) → Q x1 σ13)
theorem mt_name_145 {κ : Cx} {S : Adr} {Z : State → Prop} {Q : Int64 → FS → Prop} (h : MCx κ cX6_name S 4) (hR : RetL κ S Z cX6_name Q) {x1 : Int64} {σ : FS} (hw : mw_name_145 x1 σ Q) : MG κ S Z 145 σ [some (.ref (S.2.1 0)), some (.long x1), none] [] := by
  unfold mw_name_145 at hw
  refine g_aload_0 145 h.1 dX6_name_145 ?_
  refine g_aload_0 146 h.1 dX6_name_146 ?_
  refine mg_2 147 h dX6_name_147 ?_
  refine mp_4 150 h dX6_name_150 ?_
  have hw := hw _ rfl
  refine g_lload_1 153 h.1 dX6_name_153 ?_
  exact hR 154 _ _ _ dX6_name_154 hw
def mw_name_58 (x1 : Int64) (σ : FS) (Q : Int64 → FS → Prop) : Prop :=
  ∀ X58 : Int64 → FS → Prop, (∀ (x1 : Int64) (σ : FS), (((fI σ 0 3) ≤ (fI σ 0 2) → mw_name_145 x1 σ Q) ∧ (¬ (fI σ 0 3) ≤ (fI σ 0 2) → (vp_in (fI σ 0 2) 1600 ∧ mw_isLetter (fA σ 0 (Int32.toNatClampNeg (fI σ 0 2))) σ (fun r10 σ9 => ((r10 = 0 → mw_name_145 x1 σ9 Q) ∧ (¬ r10 = 0 → ((¬ ((fI σ9 0 2) - (fI σ9 0 38)) = (6 : Int32) → (vp_in (fI σ9 0 2) 1600 ∧ (∀ σ11, σ11 = sI σ9 0 2 ((fI σ9 0 2) + (1 : Int32)) → X58 (((((27 : Int64) * x1) + (Int32.toInt64 (fA σ9 0 (Int32.toNatClampNeg (fI σ9 0 2))))) - (97 : Int64)) + (1 : Int64)) σ11))) ∧ (((fI σ9 0 2) - (fI σ9 0 38)) = (6 : Int32) → mw_fail (1 : Int32) (fI σ9 0 2) σ9 (fun σ12 => Q (0 : Int64) σ12))))))))) → X58 x1 σ) → X58 x1 σ
theorem mt_name_58 {κ : Cx} {S : Adr} {Z : State → Prop} {Q : Int64 → FS → Prop} (h : MCx κ cX6_name S 4) (hR : RetL κ S Z cX6_name Q) {x1 : Int64} {σ : FS} (hw : mw_name_58 x1 σ Q) : MG κ S Z 58 σ [some (.ref (S.2.1 0)), some (.long x1), none] [] := by
  refine hw (fun x1 σ => MG κ S Z 58 σ [some (.ref (S.2.1 0)), some (.long x1), none] []) ?_
  clear hw
  intro x1 σ hw
  have hX58 : ∀ (x1 : Int64) (σ : FS), MG κ S Z 58 σ [some (.ref (S.2.1 0)), some (.long x1), none] [] → MG κ S Z 58 σ [some (.ref (S.2.1 0)), some (.long x1), none] [] := fun _ _ hh => hh
  refine g_aload_0 58 h.1 dX6_name_58 ?_
  refine mg_2 59 h dX6_name_59 ?_
  refine g_aload_0 62 h.1 dX6_name_62 ?_
  refine mg_3 63 h dX6_name_63 ?_
  refine g_icmp_ge 66 145 h.1 dX6_name_66 (by decide) (fun c => ?_) (fun c => ?_)
  · have hw := hw.1 c
    exact g_le (mt_name_145 h hR hw) ⟨rfl, rfl, trivial⟩
  · have hw := hw.2 c
    refine g_aload_0 69 h.1 dX6_name_69 ?_
    refine mg_0 70 h dX6_name_70 ?_
    refine g_aload_0 73 h.1 dX6_name_73 ?_
    refine mg_2 74 h dX6_name_74 ?_
    refine m_iald 77 rfl hw.1 h dX6_name_77 ?_
    have hw := hw.2
    refine m_scallI_1 78 h (mm_isLetter h.2.2.1 hw) (by decide) q2133 (Nat.le_of_ble_eq_true rfl) dX6_name_78 (fun r10 σ9 hw => ?_)
    refine g_if_eq 81 145 h.1 dX6_name_81 (by decide) (fun c => ?_) (fun c => ?_)
    · have hw := hw.1 c
      exact g_le (mt_name_145 h hR hw) ⟨rfl, rfl, trivial⟩
    · have hw := hw.2 c
      refine g_aload_0 84 h.1 dX6_name_84 ?_
      refine mg_2 85 h dX6_name_85 ?_
      refine g_aload_0 88 h.1 dX6_name_88 ?_
      refine mg_38 89 h dX6_name_89 ?_
      refine g_isub 92 h.1 dX6_name_92 ?_
      refine g_bipush 93 _ bp_6 h.1 dX6_name_93 ?_
      refine g_icmp_ne 95 109 h.1 dX6_name_95 (by decide) (fun c => ?_) (fun c => ?_)
      · have hw := hw.1 c
        refine g_ldc2 109 h.1 q2190 dX6_name_109 ?_
        refine g_lload_1 112 h.1 dX6_name_112 ?_
        refine g_lmul 113 h.1 dX6_name_113 ?_
        refine g_aload_0 114 h.1 dX6_name_114 ?_
        refine mg_0 115 h dX6_name_115 ?_
        refine g_aload_0 118 h.1 dX6_name_118 ?_
        refine mg_2 119 h dX6_name_119 ?_
        refine m_iald 122 rfl hw.1 h dX6_name_122 ?_
        have hw := hw.2
        refine g_i2l 123 h.1 dX6_name_123 ?_
        refine g_ladd 124 h.1 dX6_name_124 ?_
        refine g_ldc2 125 h.1 q2191 dX6_name_125 ?_
        refine g_lsub 128 h.1 dX6_name_128 ?_
        refine g_lconst 129 _ lc_1 h.1 dX6_name_129 ?_
        refine g_ladd 130 h.1 dX6_name_130 ?_
        refine g_lstore_1 131 h.1 rfl dX6_name_131 ?_
        refine g_aload_0 132 h.1 dX6_name_132 ?_
        refine g_dup 133 rfl h.1 dX6_name_133 ?_
        refine mg_2 134 h dX6_name_134 ?_
        refine g_iconstv 137 _ ic_1 h.1 dX6_name_137 ?_
        refine g_iadd 138 h.1 dX6_name_138 ?_
        refine mp_2 139 h dX6_name_139 ?_
        have hw := hw _ rfl
        refine g_goto 142 58 h.1 dX6_name_142 (by decide) ?_
        exact g_le (hX58 _ _ hw) ⟨rfl, rfl, trivial⟩
      · have hw := hw.2 c
        refine g_aload_0 98 h.1 dX6_name_98 ?_
        refine g_iconstv 99 _ ic_1 h.1 dX6_name_99 ?_
        refine g_aload_0 100 h.1 dX6_name_100 ?_
        refine mg_2 101 h dX6_name_101 ?_
        refine m_callV_2 104 h (mm_fail h.2.2.1 hw) (by decide) q2136 (Nat.le_of_ble_eq_true rfl) dX6_name_104 (fun σ12 hw => ?_)
        refine g_lconst 107 _ lc_0 h.1 dX6_name_107 ?_
        exact hR 108 _ _ _ dX6_name_108 hw
def mw_name (σ : FS) (Q : Int64 → FS → Prop) : Prop :=
  (((fI σ 0 5) = 0 → mw_look σ (fun r2 σ1 => mw_isLetter r2 σ1 (fun r4 σ3 => ((r4 = 0 → mw_name_37 σ3 Q) ∧ (¬ r4 = 0 → (((fI σ3 0 2) = (fI σ3 0 4) → mw_name_37 σ3 Q) ∧ (¬ (fI σ3 0 2) = (fI σ3 0 4) → mw_isOwnHere σ3 (fun r6 σ5 => ((r6 = 0 → (∀ σ7, σ7 = sI σ5 0 38 (fI σ5 0 2) → mw_name_58 (0 : Int64) σ7 Q)) ∧ (¬ r6 = 0 → mw_name_37 σ5 Q)))))))))) ∧ (¬ (fI σ 0 5) = 0 → Q (0 : Int64) σ))
theorem mt_name {κ : Cx} {S : Adr} {Z : State → Prop} {Q : Int64 → FS → Prop} (h : MCx κ cX6_name S 4) (hR : RetL κ S Z cX6_name Q) {σ : FS} (hw : mw_name σ Q) : MG κ S Z 0 σ [some (.ref (S.2.1 0)), none, none] [] := by
  unfold mw_name at hw
  refine g_aload_0 0 h.1 dX6_name_0 ?_
  refine mg_5 1 h dX6_name_1 ?_
  refine g_if_eq 4 9 h.1 dX6_name_4 (by decide) (fun c => ?_) (fun c => ?_)
  · have hw := hw.1 c
    refine g_aload_0 9 h.1 dX6_name_9 ?_
    refine m_callI_0 10 h (mm_look h.2.2.1 hw) (by decide) q2129 (Nat.le_of_ble_eq_true rfl) dX6_name_10 (fun r2 σ1 hw => ?_)
    refine m_scallI_1 13 h (mm_isLetter h.2.2.1 hw) (by decide) q2133 (Nat.le_of_ble_eq_true rfl) dX6_name_13 (fun r4 σ3 hw => ?_)
    refine g_if_eq 16 37 h.1 dX6_name_16 (by decide) (fun c => ?_) (fun c => ?_)
    · have hw := hw.1 c
      exact g_le (mt_name_37 h hR hw) ⟨rfl, trivial⟩
    · have hw := hw.2 c
      refine g_aload_0 19 h.1 dX6_name_19 ?_
      refine mg_2 20 h dX6_name_20 ?_
      refine g_aload_0 23 h.1 dX6_name_23 ?_
      refine mg_4 24 h dX6_name_24 ?_
      refine g_icmp_eq 27 37 h.1 dX6_name_27 (by decide) (fun c => ?_) (fun c => ?_)
      · have hw := hw.1 c
        exact g_le (mt_name_37 h hR hw) ⟨rfl, trivial⟩
      · have hw := hw.2 c
        refine g_aload_0 30 h.1 dX6_name_30 ?_
        refine m_callI_0 31 h (mm_isOwnHere h.2.2.1 hw) (by decide) q2186 (Nat.le_of_ble_eq_true rfl) dX6_name_31 (fun r6 σ5 hw => ?_)
        refine g_if_eq 34 48 h.1 dX6_name_34 (by decide) (fun c => ?_) (fun c => ?_)
        · have hw := hw.1 c
          refine g_aload_0 48 h.1 dX6_name_48 ?_
          refine g_aload_0 49 h.1 dX6_name_49 ?_
          refine mg_2 50 h dX6_name_50 ?_
          refine mp_38 53 h dX6_name_53 ?_
          have hw := hw _ rfl
          refine g_lconst 56 _ lc_0 h.1 dX6_name_56 ?_
          refine g_lstore_1 57 h.1 rfl dX6_name_57 ?_
          exact g_le (mt_name_58 h hR hw) ⟨rfl, rfl, trivial⟩
        · have hw := hw.2 c
          exact g_le (mt_name_37 h hR hw) ⟨rfl, trivial⟩
  · have hw := hw.2 c
    refine g_lconst 7 _ lc_0 h.1 dX6_name_7 ?_
    exact hR 8 _ _ _ dX6_name_8 hw
theorem mm_name {l : Launch} {S : Adr} (hD : MD S) {σ : FS} {Q : Int64 → FS → Prop} (hw : mw_name σ Q) : mMet l S 4 yX6_name [] σ (mQl S Q) :=
  m_metL hD ⟨rfl, by decide, by show _ = some 0; decide +kernel, q2185⟩ q2184 qs82 (Nat.le_of_ble_eq_true rfl) (fun κ Z h hR => mt_name h hR hw)
def mw_named_8 (x1 : Int32) (x2 : Int64) (x4 : Int32) (σ : FS) (Q : Int32 → FS → Prop) : Prop :=
  ∀ X8 : Int32 → Int64 → Int32 → FS → Prop, (∀ (x1 : Int32) (x2 : Int64) (x4 : Int32) (σ : FS), (vp_in x1 6 ∧ (((fA σ 40 (Int32.toNatClampNeg x1)) ≤ x4 → ((¬ (fI σ 0 5) = 0 → Q (0 : Int32) σ) ∧ ((fI σ 0 5) = 0 → mw_fail (3 : Int32) (fI σ 0 38) σ (fun σ3 => Q (0 : Int32) σ3)))) ∧ (¬ (fA σ 40 (Int32.toNatClampNeg x1)) ≤ x4 → (vp_in (((8 : Int32) * x1) + x4) 32 ∧ ((¬ (lg_cmp (fB σ 41 (Int32.toNatClampNeg (((8 : Int32) * x1) + x4))) x2) = 0 → X8 x1 x2 (x4 + 1) σ) ∧ ((lg_cmp (fB σ 41 (Int32.toNatClampNeg (((8 : Int32) * x1) + x4))) x2) = 0 → Q x4 σ)))))) → X8 x1 x2 x4 σ) → X8 x1 x2 x4 σ
theorem mt_named_8 {κ : Cx} {S : Adr} {Z : State → Prop} {Q : Int32 → FS → Prop} (h : MCx κ cX6_named S 5) (hR : RetI κ S Z cX6_named Q) {x1 : Int32} {x2 : Int64} {x4 : Int32} {σ : FS} (hw : mw_named_8 x1 x2 x4 σ Q) : MG κ S Z 8 σ [some (.ref (S.2.1 0)), some (.int x1), some (.long x2), none, some (.int x4)] [] := by
  refine hw (fun x1 x2 x4 σ => MG κ S Z 8 σ [some (.ref (S.2.1 0)), some (.int x1), some (.long x2), none, some (.int x4)] []) ?_
  clear hw
  intro x1 x2 x4 σ hw
  have hX8 : ∀ (x1 : Int32) (x2 : Int64) (x4 : Int32) (σ : FS), MG κ S Z 8 σ [some (.ref (S.2.1 0)), some (.int x1), some (.long x2), none, some (.int x4)] [] → MG κ S Z 8 σ [some (.ref (S.2.1 0)), some (.int x1), some (.long x2), none, some (.int x4)] [] := fun _ _ _ _ hh => hh
  refine g_iload_4 8 h.1 dX6_named_8 ?_
  refine g_aload_0 10 h.1 dX6_named_10 ?_
  refine mg_40 11 h dX6_named_11 ?_
  refine g_iload_1 14 h.1 dX6_named_14 ?_
  refine m_iald 15 rfl hw.1 h dX6_named_15 ?_
  have hw := hw.2
  refine g_icmp_ge 16 45 h.1 dX6_named_16 (by decide) (fun c => ?_) (fun c => ?_)
  · have hw := hw.1 c
    refine g_aload_0 45 h.1 dX6_named_45 ?_
    refine mg_5 46 h dX6_named_46 ?_
    refine g_if_ne 49 61 h.1 dX6_named_49 (by decide) (fun c => ?_) (fun c => ?_)
    · have hw := hw.1 c
      refine g_iconstv 61 _ ic_0 h.1 dX6_named_61 ?_
      exact hR 62 _ _ _ dX6_named_62 hw
    · have hw := hw.2 c
      refine g_aload_0 52 h.1 dX6_named_52 ?_
      refine g_iconstv 53 _ ic_3 h.1 dX6_named_53 ?_
      refine g_aload_0 54 h.1 dX6_named_54 ?_
      refine mg_38 55 h dX6_named_55 ?_
      refine m_callV_2 58 h (mm_fail h.2.2.1 hw) (by decide) q2136 (Nat.le_of_ble_eq_true rfl) dX6_named_58 (fun σ3 hw => ?_)
      refine g_iconstv 61 _ ic_0 h.1 dX6_named_61 ?_
      exact hR 62 _ _ _ dX6_named_62 hw
  · have hw := hw.2 c
    refine g_aload_0 19 h.1 dX6_named_19 ?_
    refine mg_41 20 h dX6_named_20 ?_
    refine g_bipush 23 _ bp_8 h.1 dX6_named_23 ?_
    refine g_iload_1 25 h.1 dX6_named_25 ?_
    refine g_imul 26 h.1 dX6_named_26 ?_
    refine g_iload_4 27 h.1 dX6_named_27 ?_
    refine g_iadd 29 h.1 dX6_named_29 ?_
    refine m_lald 30 rfl hw.1 h dX6_named_30 ?_
    have hw := hw.2
    refine g_lload_2 31 h.1 dX6_named_31 ?_
    refine g_lcmp 32 h.1 dX6_named_32 ?_
    refine g_if_ne 33 39 h.1 dX6_named_33 (by decide) (fun c => ?_) (fun c => ?_)
    · have hw := hw.1 c
      refine g_iinc_4 39 (x4 + 1) (congrArg _ ic_1) h.1 rfl dX6_named_39 ?_
      refine g_goto 42 8 h.1 dX6_named_42 (by decide) ?_
      exact g_le (hX8 _ _ _ _ hw) ⟨rfl, rfl, rfl, rfl, trivial⟩
    · have hw := hw.2 c
      refine g_iload_4 36 h.1 dX6_named_36 ?_
      exact hR 38 _ _ _ dX6_named_38 hw
def mw_named (x1 : Int32) (σ : FS) (Q : Int32 → FS → Prop) : Prop :=
  mw_name σ (fun r2 σ1 => mw_named_8 x1 r2 (0 : Int32) σ1 Q)
theorem mt_named {κ : Cx} {S : Adr} {Z : State → Prop} {Q : Int32 → FS → Prop} (h : MCx κ cX6_named S 5) (hR : RetI κ S Z cX6_named Q) {x1 : Int32} {σ : FS} (hw : mw_named x1 σ Q) : MG κ S Z 0 σ [some (.ref (S.2.1 0)), some (.int x1), none, none, none] [] := by
  unfold mw_named at hw
  refine g_aload_0 0 h.1 dX6_named_0 ?_
  refine m_callL_0 1 h (mm_name h.2.2.1 hw) (by decide) q2182 (Nat.le_of_ble_eq_true rfl) dX6_named_1 (fun r2 σ1 hw => ?_)
  refine g_lstore_2 4 h.1 rfl dX6_named_4 ?_
  refine g_iconstv 5 _ ic_0 h.1 dX6_named_5 ?_
  refine g_istore_4 6 h.1 rfl dX6_named_6 ?_
  exact g_le (mt_named_8 h hR hw) ⟨rfl, rfl, rfl, rfl, trivial⟩
theorem mm_named {l : Launch} {S : Adr} (hD : MD S) {x1 : Int32} {σ : FS} {Q : Int32 → FS → Prop} (hw : mw_named x1 σ Q) : mMet l S 5 yX6_named [.int x1] σ (mQi S Q) :=
  m_metI hD ⟨rfl, by decide, by show _ = some 1; decide +kernel, q2203⟩ q2202 qs86 (Nat.le_of_ble_eq_true rfl) (fun κ Z h hR => mt_named h hR hw)
def mw_knowsTold_54 (x1 : Int32) (x2 : Int32) (σ : FS) (Q : FS → Prop) : Prop :=
  ((¬ (fI σ 0 5) = 0 → Q σ) ∧ ((fI σ 0 5) = 0 → (vp_in (((3 : Int32) * x1) + (2 : Int32)) 21 ∧ (vp_in (((3 : Int32) * x1) + (2 : Int32)) 21 ∧ ∀ σ7, σ7 = sA σ 43 (Int32.toNatClampNeg (((3 : Int32) * x1) + (2 : Int32))) ((fA σ 43 (Int32.toNatClampNeg (((3 : Int32) * x1) + (2 : Int32)))) ||| ((1 : Int32) <<< (x2 &&& 31))) → Q σ7))))
theorem mt_knowsTold_54 {κ : Cx} {S : Adr} {Z : State → Prop} {Q : FS → Prop} (h : MCx κ cX6_knowsTold S 6) (hR : RetV κ S Z cX6_knowsTold Q) {x1 : Int32} {x2 : Int32} {σ : FS} (hw : mw_knowsTold_54 x1 x2 σ Q) : MG κ S Z 54 σ [some (.ref (S.2.1 0)), some (.int x1), some (.int x2)] [] := by
  unfold mw_knowsTold_54 at hw
  refine g_aload_0 54 h.1 dX6_knowsTold_54 ?_
  refine mg_5 55 h dX6_knowsTold_55 ?_
  refine g_if_ne 58 77 h.1 dX6_knowsTold_58 (by decide) (fun c => ?_) (fun c => ?_)
  · have hw := hw.1 c
    exact hR 77 _ _ dX6_knowsTold_77 hw
  · have hw := hw.2 c
    refine g_aload_0 61 h.1 dX6_knowsTold_61 ?_
    refine mg_43 62 h dX6_knowsTold_62 ?_
    refine g_iconstv 65 _ ic_3 h.1 dX6_knowsTold_65 ?_
    refine g_iload_1 66 h.1 dX6_knowsTold_66 ?_
    refine g_imul 67 h.1 dX6_knowsTold_67 ?_
    refine g_iconstv 68 _ ic_2 h.1 dX6_knowsTold_68 ?_
    refine g_iadd 69 h.1 dX6_knowsTold_69 ?_
    refine g_dup2 70 rfl rfl h.1 dX6_knowsTold_70 ?_
    refine m_iald 71 rfl hw.1 h dX6_knowsTold_71 ?_
    have hw := hw.2
    refine g_iconstv 72 _ ic_1 h.1 dX6_knowsTold_72 ?_
    refine g_iload_2 73 h.1 dX6_knowsTold_73 ?_
    refine g_ishl 74 h.1 dX6_knowsTold_74 ?_
    refine g_ior 75 h.1 dX6_knowsTold_75 ?_
    refine m_iast 76 rfl hw.1 h dX6_knowsTold_76 ?_
    have hw := hw.2 _ rfl
    exact hR 77 _ _ dX6_knowsTold_77 hw
def mw_knowsTold (σ : FS) (Q : FS → Prop) : Prop :=
  mw_named (1 : Int32) σ (fun r2 σ1 => mw_needs 19 σ1 (fun σ3 => mw_named (0 : Int32) σ3 (fun r5 σ4 => ((¬ (fI σ4 0 5) = 0 → mw_knowsTold_54 r2 r5 σ4 Q) ∧ ((fI σ4 0 5) = 0 → (vp_in (((3 : Int32) * r2) + (2 : Int32)) 21 ∧ ((¬ (((fA σ4 43 (Int32.toNatClampNeg (((3 : Int32) * r2) + (2 : Int32)))) >>> (r5 &&& 31)) &&& (1 : Int32)) = (1 : Int32) → mw_knowsTold_54 r2 r5 σ4 Q) ∧ ((((fA σ4 43 (Int32.toNatClampNeg (((3 : Int32) * r2) + (2 : Int32)))) >>> (r5 &&& 31)) &&& (1 : Int32)) = (1 : Int32) → mw_fail (3 : Int32) (fI σ4 0 38) σ4 (fun σ6 => mw_knowsTold_54 r2 r5 σ6 Q)))))))))
theorem mt_knowsTold {κ : Cx} {S : Adr} {Z : State → Prop} {Q : FS → Prop} (h : MCx κ cX6_knowsTold S 6) (hR : RetV κ S Z cX6_knowsTold Q) {σ : FS} (hw : mw_knowsTold σ Q) : MG κ S Z 0 σ [some (.ref (S.2.1 0)), none, none] [] := by
  unfold mw_knowsTold at hw
  refine g_aload_0 0 h.1 dX6_knowsTold_0 ?_
  refine g_iconstv 1 _ ic_1 h.1 dX6_knowsTold_1 ?_
  refine m_callI_1 2 h (mm_named h.2.2.1 hw) (by decide) q2200 (Nat.le_of_ble_eq_true rfl) dX6_knowsTold_2 (fun r2 σ1 hw => ?_)
  refine g_istore_1 5 h.1 rfl dX6_knowsTold_5 ?_
  refine g_aload_0 6 h.1 dX6_knowsTold_6 ?_
  refine g_aload_0 7 h.1 dX6_knowsTold_7 ?_
  refine mg_19 8 h dX6_knowsTold_8 ?_
  refine m_callV_1 11 h (mm_needs h.2.2.1 hw) (by decide) q2117 (Nat.le_of_ble_eq_true rfl) dX6_knowsTold_11 (fun σ3 hw => ?_)
  refine g_aload_0 14 h.1 dX6_knowsTold_14 ?_
  refine g_iconstv 15 _ ic_0 h.1 dX6_knowsTold_15 ?_
  refine m_callI_1 16 h (mm_named h.2.2.1 hw) (by decide) q2200 (Nat.le_of_ble_eq_true rfl) dX6_knowsTold_16 (fun r5 σ4 hw => ?_)
  refine g_istore_2 19 h.1 rfl dX6_knowsTold_19 ?_
  refine g_aload_0 20 h.1 dX6_knowsTold_20 ?_
  refine mg_5 21 h dX6_knowsTold_21 ?_
  refine g_if_ne 24 54 h.1 dX6_knowsTold_24 (by decide) (fun c => ?_) (fun c => ?_)
  · have hw := hw.1 c
    exact g_le (mt_knowsTold_54 h hR hw) ⟨rfl, rfl, rfl, trivial⟩
  · have hw := hw.2 c
    refine g_aload_0 27 h.1 dX6_knowsTold_27 ?_
    refine mg_43 28 h dX6_knowsTold_28 ?_
    refine g_iconstv 31 _ ic_3 h.1 dX6_knowsTold_31 ?_
    refine g_iload_1 32 h.1 dX6_knowsTold_32 ?_
    refine g_imul 33 h.1 dX6_knowsTold_33 ?_
    refine g_iconstv 34 _ ic_2 h.1 dX6_knowsTold_34 ?_
    refine g_iadd 35 h.1 dX6_knowsTold_35 ?_
    refine m_iald 36 rfl hw.1 h dX6_knowsTold_36 ?_
    have hw := hw.2
    refine g_iload_2 37 h.1 dX6_knowsTold_37 ?_
    refine g_ishr 38 h.1 dX6_knowsTold_38 ?_
    refine g_iconstv 39 _ ic_1 h.1 dX6_knowsTold_39 ?_
    refine g_iand 40 h.1 dX6_knowsTold_40 ?_
    refine g_iconstv 41 _ ic_1 h.1 dX6_knowsTold_41 ?_
    refine g_icmp_ne 42 54 h.1 dX6_knowsTold_42 (by decide) (fun c => ?_) (fun c => ?_)
    · have hw := hw.1 c
      exact g_le (mt_knowsTold_54 h hR hw) ⟨rfl, rfl, rfl, trivial⟩
    · have hw := hw.2 c
      refine g_aload_0 45 h.1 dX6_knowsTold_45 ?_
      refine g_iconstv 46 _ ic_3 h.1 dX6_knowsTold_46 ?_
      refine g_aload_0 47 h.1 dX6_knowsTold_47 ?_
      refine mg_38 48 h dX6_knowsTold_48 ?_
      refine m_callV_2 51 h (mm_fail h.2.2.1 hw) (by decide) q2136 (Nat.le_of_ble_eq_true rfl) dX6_knowsTold_51 (fun σ6 hw => ?_)
      exact g_le (mt_knowsTold_54 h hR hw) ⟨rfl, rfl, rfl, trivial⟩
theorem mm_knowsTold {l : Launch} {S : Adr} (hD : MD S) {σ : FS} {Q : FS → Prop} (hw : mw_knowsTold σ Q) : mMet l S 6 yX6_knowsTold [] σ (mQv S Q) :=
  m_metV hD ⟨rfl, by decide, by show _ = some 0; decide +kernel, q2199⟩ q2198 qs85 (Nat.le_of_ble_eq_true rfl) (fun κ Z h hR => mt_knowsTold h hR hw)
def mw_later (x1 : Int32) (x2 : Int32) (x3 : Int32) (σ : FS) (Q : Int32 → FS → Prop) : Prop :=
  mw_cellAt x1 x2 σ (fun r2 σ1 => ((r2 = (-1 : Int32) → Q (-1 : Int32) σ1) ∧ (¬ r2 = (-1 : Int32) → mw_isAhead x3 (0 : Int32) (60 : Int32) σ1 (fun r4 σ3 => ((¬ r4 = 0 → mw_putsAside σ3 (fun σ5 => mw_daysGo x3 σ5 (fun σ6 => mw_heightOf r2 σ6 (fun r8 σ7 => mw_takesBack σ7 (fun σ9 => Q r8 σ9))))) ∧ (r4 = 0 → Q (-1 : Int32) σ3))))))
theorem mt_later {κ : Cx} {S : Adr} {Z : State → Prop} {Q : Int32 → FS → Prop} (h : MCx κ cX6_later S 9) (hR : RetI κ S Z cX6_later Q) {x1 : Int32} {x2 : Int32} {x3 : Int32} {σ : FS} (hw : mw_later x1 x2 x3 σ Q) : MG κ S Z 0 σ [some (.ref (S.2.1 0)), some (.int x1), some (.int x2), some (.int x3), none, none] [] := by
  unfold mw_later at hw
  refine g_aload_0 0 h.1 dX6_later_0 ?_
  refine g_iload_1 1 h.1 dX6_later_1 ?_
  refine g_iload_2 2 h.1 dX6_later_2 ?_
  refine m_callI_2 3 h (mm_cellAt h.2.2.1 hw) (by decide) q2340 (Nat.le_of_ble_eq_true rfl) dX6_later_3 (fun r2 σ1 hw => ?_)
  refine g_istore_4 6 h.1 rfl dX6_later_6 ?_
  refine g_iload_4 8 h.1 dX6_later_8 ?_
  refine g_iconstv 10 _ ic_m1 h.1 dX6_later_10 ?_
  refine g_icmp_eq 11 25 h.1 dX6_later_11 (by decide) (fun c => ?_) (fun c => ?_)
  · have hw := hw.1 c
    refine g_iconstv 25 _ ic_m1 h.1 dX6_later_25 ?_
    exact hR 26 _ _ _ dX6_later_26 hw
  · have hw := hw.2 c
    refine g_aload_0 14 h.1 dX6_later_14 ?_
    refine g_iload_3 15 h.1 dX6_later_15 ?_
    refine g_iconstv 16 _ ic_0 h.1 dX6_later_16 ?_
    refine g_bipush 17 _ bp_60 h.1 dX6_later_17 ?_
    refine m_callI_3 19 h (mm_isAhead h.2.2.1 hw) (by decide) q2416 (Nat.le_of_ble_eq_true rfl) dX6_later_19 (fun r4 σ3 hw => ?_)
    refine g_if_ne 22 27 h.1 dX6_later_22 (by decide) (fun c => ?_) (fun c => ?_)
    · have hw := hw.1 c
      refine g_aload_0 27 h.1 dX6_later_27 ?_
      refine m_callV_0 28 h (mm_putsAside h.2.2.1 hw) (by decide) q2420 (Nat.le_of_ble_eq_true rfl) dX6_later_28 (fun σ5 hw => ?_)
      refine g_aload_0 31 h.1 dX6_later_31 ?_
      refine g_iload_3 32 h.1 dX6_later_32 ?_
      refine m_callV_1 33 h (mm_daysGo h.2.2.1 hw) (by decide) q2424 (Nat.le_of_ble_eq_true rfl) dX6_later_33 (fun σ6 hw => ?_)
      refine g_aload_0 36 h.1 dX6_later_36 ?_
      refine g_iload_4 37 h.1 dX6_later_37 ?_
      refine m_callI_1 39 h (mm_heightOf h.2.2.1 hw) (by decide) q2327 (Nat.le_of_ble_eq_true rfl) dX6_later_39 (fun r8 σ7 hw => ?_)
      refine g_istore_5 42 h.1 rfl dX6_later_42 ?_
      refine g_aload_0 44 h.1 dX6_later_44 ?_
      refine m_callV_0 45 h (mm_takesBack h.2.2.1 hw) (by decide) q2456 (Nat.le_of_ble_eq_true rfl) dX6_later_45 (fun σ9 hw => ?_)
      refine g_iload_5 48 h.1 dX6_later_48 ?_
      exact hR 50 _ _ _ dX6_later_50 hw
    · have hw := hw.2 c
      refine g_iconstv 25 _ ic_m1 h.1 dX6_later_25 ?_
      exact hR 26 _ _ _ dX6_later_26 hw
theorem mm_later {l : Launch} {S : Adr} (hD : MD S) {x1 : Int32} {x2 : Int32} {x3 : Int32} {σ : FS} {Q : Int32 → FS → Prop} (hw : mw_later x1 x2 x3 σ Q) : mMet l S 9 yX6_later [.int x1, .int x2, .int x3] σ (mQi S Q) :=
  m_metI hD ⟨rfl, by decide, by show _ = some 3; decide +kernel, q2415⟩ q2413 q2414 (Nat.le_of_ble_eq_true rfl) (fun κ Z h hR => mt_later h hR hw)
def mw_laysOwn_28 (X6 : Int32 → Int32 → FS → Prop) (x1 : Int32) (x2 : Int32) (x3 : Int32) (σ : FS) (Q : FS → Prop) : Prop :=
  ∀ X28 : Int32 → Int32 → Int32 → FS → Prop, (∀ (x1 : Int32) (x2 : Int32) (x3 : Int32) (σ : FS), mw_personMany σ (fun r8 σ7 => ((r8 ≤ x3 → mw_triesAnew σ7 (fun σ9 => X6 x1 (x2 + 1) σ9)) ∧ (¬ r8 ≤ x3 → mw_cellOf x3 σ7 (fun r11 σ10 => mw_heightOf r11 σ10 (fun r13 σ12 => (vp_in (((7 : Int32) * x2) + x3) 896 ∧ ∀ σ14, σ14 = sA σ12 70 (Int32.toNatClampNeg (((7 : Int32) * x2) + x3)) r13 → X28 x1 x2 (x3 + 1) σ14)))))) → X28 x1 x2 x3 σ) → X28 x1 x2 x3 σ
theorem mt_laysOwn_28 {κ : Cx} {S : Adr} {Z : State → Prop} {Q : FS → Prop} (h : MCx κ cX6_laysOwn S 9) (hR : RetV κ S Z cX6_laysOwn Q) {X6 : Int32 → Int32 → FS → Prop} (hX6 : ∀ (x1 : Int32) (x2 : Int32) (σ : FS), X6 x1 x2 σ → MG κ S Z 6 σ [some (.ref (S.2.1 0)), some (.int x1), some (.int x2), none] []) {x1 : Int32} {x2 : Int32} {x3 : Int32} {σ : FS} (hw : mw_laysOwn_28 X6 x1 x2 x3 σ Q) : MG κ S Z 28 σ [some (.ref (S.2.1 0)), some (.int x1), some (.int x2), some (.int x3)] [] := by
  refine hw (fun x1 x2 x3 σ => MG κ S Z 28 σ [some (.ref (S.2.1 0)), some (.int x1), some (.int x2), some (.int x3)] []) ?_
  clear hw
  intro x1 x2 x3 σ hw
  have hX28 : ∀ (x1 : Int32) (x2 : Int32) (x3 : Int32) (σ : FS), MG κ S Z 28 σ [some (.ref (S.2.1 0)), some (.int x1), some (.int x2), some (.int x3)] [] → MG κ S Z 28 σ [some (.ref (S.2.1 0)), some (.int x1), some (.int x2), some (.int x3)] [] := fun _ _ _ _ hh => hh
  refine g_iload_3 28 h.1 dX6_laysOwn_28 ?_
  refine g_aload_0 29 h.1 dX6_laysOwn_29 ?_
  refine m_callI_0 30 h (mm_personMany h.2.2.1 hw) (by decide) q2307 (Nat.le_of_ble_eq_true rfl) dX6_laysOwn_30 (fun r8 σ7 hw => ?_)
  refine g_icmp_ge 33 62 h.1 dX6_laysOwn_33 (by decide) (fun c => ?_) (fun c => ?_)
  · have hw := hw.1 c
    refine g_aload_0 62 h.1 dX6_laysOwn_62 ?_
    refine m_callV_0 63 h (mm_triesAnew h.2.2.1 hw) (by decide) q2460 (Nat.le_of_ble_eq_true rfl) dX6_laysOwn_63 (fun σ9 hw => ?_)
    refine g_iinc_2 66 (x2 + 1) (congrArg _ ic_1) h.1 rfl dX6_laysOwn_66 ?_
    refine g_goto 69 6 h.1 dX6_laysOwn_69 (by decide) ?_
    exact g_le (hX6 _ _ _ hw) ⟨rfl, rfl, rfl, trivial⟩
  · have hw := hw.2 c
    refine g_aload_0 36 h.1 dX6_laysOwn_36 ?_
    refine mg_70 37 h dX6_laysOwn_37 ?_
    refine g_bipush 40 _ bp_7 h.1 dX6_laysOwn_40 ?_
    refine g_iload_2 42 h.1 dX6_laysOwn_42 ?_
    refine g_imul 43 h.1 dX6_laysOwn_43 ?_
    refine g_iload_3 44 h.1 dX6_laysOwn_44 ?_
    refine g_iadd 45 h.1 dX6_laysOwn_45 ?_
    refine g_aload_0 46 h.1 dX6_laysOwn_46 ?_
    refine g_aload_0 47 h.1 dX6_laysOwn_47 ?_
    refine g_iload_3 48 h.1 dX6_laysOwn_48 ?_
    refine m_callI_1 49 h (mm_cellOf h.2.2.1 hw) (by decide) q2352 (Nat.le_of_ble_eq_true rfl) dX6_laysOwn_49 (fun r11 σ10 hw => ?_)
    refine m_callI_1 52 h (mm_heightOf h.2.2.1 hw) (by decide) q2327 (Nat.le_of_ble_eq_true rfl) dX6_laysOwn_52 (fun r13 σ12 hw => ?_)
    refine m_iast 55 rfl hw.1 h dX6_laysOwn_55 ?_
    have hw := hw.2 _ rfl
    refine g_iinc_3 56 (x3 + 1) (congrArg _ ic_1) h.1 rfl dX6_laysOwn_56 ?_
    refine g_goto 59 28 h.1 dX6_laysOwn_59 (by decide) ?_
    exact g_le (hX28 _ _ _ _ hw) ⟨rfl, rfl, rfl, rfl, trivial⟩
def mw_laysOwn_6 (x1 : Int32) (x2 : Int32) (σ : FS) (Q : FS → Prop) : Prop :=
  ∀ X6 : Int32 → Int32 → FS → Prop, (∀ (x1 : Int32) (x2 : Int32) (σ : FS), mw_personMany σ (fun r3 σ2 => ((((1 : Int32) <<< (r3 &&& 31)) ≤ x2 → mw_takesBack σ2 (fun σ4 => Q σ4)) ∧ (¬ ((1 : Int32) <<< (r3 &&& 31)) ≤ x2 → (∀ σ5, σ5 = sI σ2 0 60 x2 → mw_daysGo x1 σ5 (fun σ6 => mw_laysOwn_28 X6 x1 x2 (0 : Int32) σ6 Q))))) → X6 x1 x2 σ) → X6 x1 x2 σ
theorem mt_laysOwn_6 {κ : Cx} {S : Adr} {Z : State → Prop} {Q : FS → Prop} (h : MCx κ cX6_laysOwn S 9) (hR : RetV κ S Z cX6_laysOwn Q) {x1 : Int32} {x2 : Int32} {σ : FS} (hw : mw_laysOwn_6 x1 x2 σ Q) : MG κ S Z 6 σ [some (.ref (S.2.1 0)), some (.int x1), some (.int x2), none] [] := by
  refine hw (fun x1 x2 σ => MG κ S Z 6 σ [some (.ref (S.2.1 0)), some (.int x1), some (.int x2), none] []) ?_
  clear hw
  intro x1 x2 σ hw
  have hX6 : ∀ (x1 : Int32) (x2 : Int32) (σ : FS), MG κ S Z 6 σ [some (.ref (S.2.1 0)), some (.int x1), some (.int x2), none] [] → MG κ S Z 6 σ [some (.ref (S.2.1 0)), some (.int x1), some (.int x2), none] [] := fun _ _ _ hh => hh
  refine g_iload_2 6 h.1 dX6_laysOwn_6 ?_
  refine g_iconstv 7 _ ic_1 h.1 dX6_laysOwn_7 ?_
  refine g_aload_0 8 h.1 dX6_laysOwn_8 ?_
  refine m_callI_0 9 h (mm_personMany h.2.2.1 hw) (by decide) q2307 (Nat.le_of_ble_eq_true rfl) dX6_laysOwn_9 (fun r3 σ2 hw => ?_)
  refine g_ishl 12 h.1 dX6_laysOwn_12 ?_
  refine g_icmp_ge 13 72 h.1 dX6_laysOwn_13 (by decide) (fun c => ?_) (fun c => ?_)
  · have hw := hw.1 c
    refine g_aload_0 72 h.1 dX6_laysOwn_72 ?_
    refine m_callV_0 73 h (mm_takesBack h.2.2.1 hw) (by decide) q2456 (Nat.le_of_ble_eq_true rfl) dX6_laysOwn_73 (fun σ4 hw => ?_)
    exact hR 76 _ _ dX6_laysOwn_76 hw
  · have hw := hw.2 c
    refine g_aload_0 16 h.1 dX6_laysOwn_16 ?_
    refine g_iload_2 17 h.1 dX6_laysOwn_17 ?_
    refine mp_60 18 h dX6_laysOwn_18 ?_
    have hw := hw _ rfl
    refine g_aload_0 21 h.1 dX6_laysOwn_21 ?_
    refine g_iload_1 22 h.1 dX6_laysOwn_22 ?_
    refine m_callV_1 23 h (mm_daysGo h.2.2.1 hw) (by decide) q2424 (Nat.le_of_ble_eq_true rfl) dX6_laysOwn_23 (fun σ6 hw => ?_)
    refine g_iconstv 26 _ ic_0 h.1 dX6_laysOwn_26 ?_
    refine g_istore_3 27 h.1 rfl dX6_laysOwn_27 ?_
    exact g_le (mt_laysOwn_28 h hR hX6 hw) ⟨rfl, rfl, rfl, rfl, trivial⟩
def mw_laysOwn (x1 : Int32) (σ : FS) (Q : FS → Prop) : Prop :=
  mw_putsAside σ (fun σ1 => mw_laysOwn_6 x1 (0 : Int32) σ1 Q)
theorem mt_laysOwn {κ : Cx} {S : Adr} {Z : State → Prop} {Q : FS → Prop} (h : MCx κ cX6_laysOwn S 9) (hR : RetV κ S Z cX6_laysOwn Q) {x1 : Int32} {σ : FS} (hw : mw_laysOwn x1 σ Q) : MG κ S Z 0 σ [some (.ref (S.2.1 0)), some (.int x1), none, none] [] := by
  unfold mw_laysOwn at hw
  refine g_aload_0 0 h.1 dX6_laysOwn_0 ?_
  refine m_callV_0 1 h (mm_putsAside h.2.2.1 hw) (by decide) q2420 (Nat.le_of_ble_eq_true rfl) dX6_laysOwn_1 (fun σ1 hw => ?_)
  refine g_iconstv 4 _ ic_0 h.1 dX6_laysOwn_4 ?_
  refine g_istore_2 5 h.1 rfl dX6_laysOwn_5 ?_
  exact g_le (mt_laysOwn_6 h hR hw) ⟨rfl, rfl, rfl, trivial⟩
theorem mm_laysOwn {l : Launch} {S : Adr} (hD : MD S) {x1 : Int32} {σ : FS} {Q : FS → Prop} (hw : mw_laysOwn x1 σ Q) : mMet l S 9 yX6_laysOwn [.int x1] σ (mQv S Q) :=
  m_metV hD ⟨rfl, by decide, by show _ = some 1; decide +kernel, q2555⟩ q2554 qs152 (Nat.le_of_ble_eq_true rfl) (fun κ Z h hR => mt_laysOwn h hR hw)
def mw_laysWho_60 (X11 : Int32 → Int32 → FS → Prop) (X31 : Int32 → Int32 → Int32 → Int32 → FS → Prop) (x1 : Int32) (x2 : Int32) (x3 : Int32) (x4 : Int32) (x5 : Int32) (σ : FS) (Q : FS → Prop) : Prop :=
  ∀ X60 : Int32 → Int32 → Int32 → Int32 → Int32 → FS → Prop, (∀ (x1 : Int32) (x2 : Int32) (x3 : Int32) (x4 : Int32) (x5 : Int32) (σ : FS), (((49 : Int32) ≤ x5 → mw_dayGoes σ (fun σ12 => X31 x1 x2 x3 (x4 + 1) σ12)) ∧ (¬ (49 : Int32) ≤ x5 → mw_heightOf x5 σ (fun r14 σ13 => (vp_in ((((1519 : Int32) * x2) + ((49 : Int32) * x4)) + x5) 10633 ∧ ∀ σ15, σ15 = sA σ13 73 (Int32.toNatClampNeg ((((1519 : Int32) * x2) + ((49 : Int32) * x4)) + x5)) r14 → X60 x1 x2 x3 x4 (x5 + 1) σ15)))) → X60 x1 x2 x3 x4 x5 σ) → X60 x1 x2 x3 x4 x5 σ
theorem mt_laysWho_60 {κ : Cx} {S : Adr} {Z : State → Prop} {Q : FS → Prop} (h : MCx κ cX6_laysWho S 8) (hR : RetV κ S Z cX6_laysWho Q) {X11 : Int32 → Int32 → FS → Prop} {X31 : Int32 → Int32 → Int32 → Int32 → FS → Prop} (hX11 : ∀ (x1 : Int32) (x2 : Int32) (σ : FS), X11 x1 x2 σ → MG κ S Z 11 σ [some (.ref (S.2.1 0)), some (.int x1), some (.int x2), none, none, none] []) (hX31 : ∀ (x1 : Int32) (x2 : Int32) (x3 : Int32) (x4 : Int32) (σ : FS), X31 x1 x2 x3 x4 σ → MG κ S Z 31 σ [some (.ref (S.2.1 0)), some (.int x1), some (.int x2), some (.int x3), some (.int x4), none] []) {x1 : Int32} {x2 : Int32} {x3 : Int32} {x4 : Int32} {x5 : Int32} {σ : FS} (hw : mw_laysWho_60 X11 X31 x1 x2 x3 x4 x5 σ Q) : MG κ S Z 60 σ [some (.ref (S.2.1 0)), some (.int x1), some (.int x2), some (.int x3), some (.int x4), some (.int x5)] [] := by
  refine hw (fun x1 x2 x3 x4 x5 σ => MG κ S Z 60 σ [some (.ref (S.2.1 0)), some (.int x1), some (.int x2), some (.int x3), some (.int x4), some (.int x5)] []) ?_
  clear hw
  intro x1 x2 x3 x4 x5 σ hw
  have hX60 : ∀ (x1 : Int32) (x2 : Int32) (x3 : Int32) (x4 : Int32) (x5 : Int32) (σ : FS), MG κ S Z 60 σ [some (.ref (S.2.1 0)), some (.int x1), some (.int x2), some (.int x3), some (.int x4), some (.int x5)] [] → MG κ S Z 60 σ [some (.ref (S.2.1 0)), some (.int x1), some (.int x2), some (.int x3), some (.int x4), some (.int x5)] [] := fun _ _ _ _ _ _ hh => hh
  refine g_iload_5 60 h.1 dX6_laysWho_60 ?_
  refine g_bipush 62 _ bp_49 h.1 dX6_laysWho_62 ?_
  refine g_icmp_ge 64 98 h.1 dX6_laysWho_64 (by decide) (fun c => ?_) (fun c => ?_)
  · have hw := hw.1 c
    refine g_aload_0 98 h.1 dX6_laysWho_98 ?_
    refine m_callV_0 99 h (mm_dayGoes h.2.2.1 hw) (by decide) q2428 (Nat.le_of_ble_eq_true rfl) dX6_laysWho_99 (fun σ12 hw => ?_)
    refine g_iinc_4 102 (x4 + 1) (congrArg _ ic_1) h.1 rfl dX6_laysWho_102 ?_
    refine g_goto 105 31 h.1 dX6_laysWho_105 (by decide) ?_
    exact g_le (hX31 _ _ _ _ _ hw) ⟨rfl, rfl, rfl, rfl, rfl, trivial⟩
  · have hw := hw.2 c
    refine g_aload_0 67 h.1 dX6_laysWho_67 ?_
    refine mg_73 68 h dX6_laysWho_68 ?_
    refine g_sipush 71 _ sp_1519 h.1 dX6_laysWho_71 ?_
    refine g_iload_2 74 h.1 dX6_laysWho_74 ?_
    refine g_imul 75 h.1 dX6_laysWho_75 ?_
    refine g_bipush 76 _ bp_49 h.1 dX6_laysWho_76 ?_
    refine g_iload_4 78 h.1 dX6_laysWho_78 ?_
    refine g_imul 80 h.1 dX6_laysWho_80 ?_
    refine g_iadd 81 h.1 dX6_laysWho_81 ?_
    refine g_iload_5 82 h.1 dX6_laysWho_82 ?_
    refine g_iadd 84 h.1 dX6_laysWho_84 ?_
    refine g_aload_0 85 h.1 dX6_laysWho_85 ?_
    refine g_iload_5 86 h.1 dX6_laysWho_86 ?_
    refine m_callI_1 88 h (mm_heightOf h.2.2.1 hw) (by decide) q2327 (Nat.le_of_ble_eq_true rfl) dX6_laysWho_88 (fun r14 σ13 hw => ?_)
    refine m_iast 91 rfl hw.1 h dX6_laysWho_91 ?_
    have hw := hw.2 _ rfl
    refine g_iinc_5 92 (x5 + 1) (congrArg _ ic_1) h.1 rfl dX6_laysWho_92 ?_
    refine g_goto 95 60 h.1 dX6_laysWho_95 (by decide) ?_
    exact g_le (hX60 _ _ _ _ _ _ hw) ⟨rfl, rfl, rfl, rfl, rfl, rfl, trivial⟩
def mw_laysWho_56 (X11 : Int32 → Int32 → FS → Prop) (X31 : Int32 → Int32 → Int32 → Int32 → FS → Prop) (x1 : Int32) (x2 : Int32) (x4 : Int32) (y0 : Int32) (σ : FS) (Q : FS → Prop) : Prop :=
  mw_laysWho_60 X11 X31 x1 x2 y0 x4 (0 : Int32) σ Q
theorem mt_laysWho_56 {κ : Cx} {S : Adr} {Z : State → Prop} {Q : FS → Prop} (h : MCx κ cX6_laysWho S 8) (hR : RetV κ S Z cX6_laysWho Q) {X11 : Int32 → Int32 → FS → Prop} {X31 : Int32 → Int32 → Int32 → Int32 → FS → Prop} (hX11 : ∀ (x1 : Int32) (x2 : Int32) (σ : FS), X11 x1 x2 σ → MG κ S Z 11 σ [some (.ref (S.2.1 0)), some (.int x1), some (.int x2), none, none, none] []) (hX31 : ∀ (x1 : Int32) (x2 : Int32) (x3 : Int32) (x4 : Int32) (σ : FS), X31 x1 x2 x3 x4 σ → MG κ S Z 31 σ [some (.ref (S.2.1 0)), some (.int x1), some (.int x2), some (.int x3), some (.int x4), none] []) {x1 : Int32} {x2 : Int32} {x4 : Int32} {y0 : Int32} {σ : FS} (hw : mw_laysWho_56 X11 X31 x1 x2 x4 y0 σ Q) : MG κ S Z 56 σ [some (.ref (S.2.1 0)), some (.int x1), some (.int x2), none, some (.int x4), none] [.int y0] := by
  unfold mw_laysWho_56 at hw
  refine g_istore_3 56 h.1 rfl dX6_laysWho_56 ?_
  refine g_iconstv 57 _ ic_0 h.1 dX6_laysWho_57 ?_
  refine g_istore_5 58 h.1 rfl dX6_laysWho_58 ?_
  exact g_le (mt_laysWho_60 h hR hX11 hX31 hw) ⟨rfl, rfl, rfl, rfl, rfl, rfl, trivial⟩
def mw_laysWho_55 (X11 : Int32 → Int32 → FS → Prop) (X31 : Int32 → Int32 → Int32 → Int32 → FS → Prop) (x1 : Int32) (x2 : Int32) (x4 : Int32) (σ : FS) (Q : FS → Prop) : Prop :=
  mw_laysWho_56 X11 X31 x1 x2 x4 (0 : Int32) σ Q
theorem mt_laysWho_55 {κ : Cx} {S : Adr} {Z : State → Prop} {Q : FS → Prop} (h : MCx κ cX6_laysWho S 8) (hR : RetV κ S Z cX6_laysWho Q) {X11 : Int32 → Int32 → FS → Prop} {X31 : Int32 → Int32 → Int32 → Int32 → FS → Prop} (hX11 : ∀ (x1 : Int32) (x2 : Int32) (σ : FS), X11 x1 x2 σ → MG κ S Z 11 σ [some (.ref (S.2.1 0)), some (.int x1), some (.int x2), none, none, none] []) (hX31 : ∀ (x1 : Int32) (x2 : Int32) (x3 : Int32) (x4 : Int32) (σ : FS), X31 x1 x2 x3 x4 σ → MG κ S Z 31 σ [some (.ref (S.2.1 0)), some (.int x1), some (.int x2), some (.int x3), some (.int x4), none] []) {x1 : Int32} {x2 : Int32} {x4 : Int32} {σ : FS} (hw : mw_laysWho_55 X11 X31 x1 x2 x4 σ Q) : MG κ S Z 55 σ [some (.ref (S.2.1 0)), some (.int x1), some (.int x2), none, some (.int x4), none] [] := by
  unfold mw_laysWho_55 at hw
  refine g_iconstv 55 _ ic_0 h.1 dX6_laysWho_55 ?_
  exact g_le (mt_laysWho_56 h hR hX11 hX31 hw) ⟨rfl, rfl, rfl, rfl, trivial⟩
def mw_laysWho_128 (X11 : Int32 → Int32 → FS → Prop) (x1 : Int32) (x2 : Int32) (σ : FS) (Q : FS → Prop) : Prop :=
  X11 x1 (x2 + 1) σ
theorem mt_laysWho_128 {κ : Cx} {S : Adr} {Z : State → Prop} {Q : FS → Prop} (h : MCx κ cX6_laysWho S 8) (hR : RetV κ S Z cX6_laysWho Q) {X11 : Int32 → Int32 → FS → Prop} (hX11 : ∀ (x1 : Int32) (x2 : Int32) (σ : FS), X11 x1 x2 σ → MG κ S Z 11 σ [some (.ref (S.2.1 0)), some (.int x1), some (.int x2), none, none, none] []) {x1 : Int32} {x2 : Int32} {σ : FS} (hw : mw_laysWho_128 X11 x1 x2 σ Q) : MG κ S Z 128 σ [some (.ref (S.2.1 0)), some (.int x1), some (.int x2), none, none, none] [] := by
  unfold mw_laysWho_128 at hw
  refine g_iinc_2 128 (x2 + 1) (congrArg _ ic_1) h.1 rfl dX6_laysWho_128 ?_
  refine g_goto 131 11 h.1 dX6_laysWho_131 (by decide) ?_
  exact g_le (hX11 _ _ _ hw) ⟨rfl, rfl, rfl, trivial⟩
def mw_laysWho_31 (X11 : Int32 → Int32 → FS → Prop) (x1 : Int32) (x2 : Int32) (x3 : Int32) (x4 : Int32) (σ : FS) (Q : FS → Prop) : Prop :=
  ∀ X31 : Int32 → Int32 → Int32 → Int32 → FS → Prop, (∀ (x1 : Int32) (x2 : Int32) (x3 : Int32) (x4 : Int32) (σ : FS), (((30 : Int32) < x4 → mw_triesAnew σ (fun σ8 => ((x3 = 0 → mw_laysWho_128 X11 x1 x2 σ8 Q) ∧ (¬ x3 = 0 → (∀ σ9, σ9 = sI σ8 0 74 ((fI σ8 0 74) ||| ((1 : Int32) <<< (x2 &&& 31))) → mw_laysWho_128 X11 x1 x2 σ9 Q))))) ∧ (¬ (30 : Int32) < x4 → ((x3 = 0 → mw_laysWho_55 X11 X31 x1 x2 x4 σ Q) ∧ (¬ x3 = 0 → mw_isAsSeen x4 σ (fun r11 σ10 => ((r11 = 0 → mw_laysWho_55 X11 X31 x1 x2 x4 σ10 Q) ∧ (¬ r11 = 0 → mw_laysWho_56 X11 X31 x1 x2 x4 (1 : Int32) σ10 Q))))))) → X31 x1 x2 x3 x4 σ) → X31 x1 x2 x3 x4 σ
theorem mt_laysWho_31 {κ : Cx} {S : Adr} {Z : State → Prop} {Q : FS → Prop} (h : MCx κ cX6_laysWho S 8) (hR : RetV κ S Z cX6_laysWho Q) {X11 : Int32 → Int32 → FS → Prop} (hX11 : ∀ (x1 : Int32) (x2 : Int32) (σ : FS), X11 x1 x2 σ → MG κ S Z 11 σ [some (.ref (S.2.1 0)), some (.int x1), some (.int x2), none, none, none] []) {x1 : Int32} {x2 : Int32} {x3 : Int32} {x4 : Int32} {σ : FS} (hw : mw_laysWho_31 X11 x1 x2 x3 x4 σ Q) : MG κ S Z 31 σ [some (.ref (S.2.1 0)), some (.int x1), some (.int x2), some (.int x3), some (.int x4), none] [] := by
  refine hw (fun x1 x2 x3 x4 σ => MG κ S Z 31 σ [some (.ref (S.2.1 0)), some (.int x1), some (.int x2), some (.int x3), some (.int x4), none] []) ?_
  clear hw
  intro x1 x2 x3 x4 σ hw
  have hX31 : ∀ (x1 : Int32) (x2 : Int32) (x3 : Int32) (x4 : Int32) (σ : FS), MG κ S Z 31 σ [some (.ref (S.2.1 0)), some (.int x1), some (.int x2), some (.int x3), some (.int x4), none] [] → MG κ S Z 31 σ [some (.ref (S.2.1 0)), some (.int x1), some (.int x2), some (.int x3), some (.int x4), none] [] := fun _ _ _ _ _ hh => hh
  refine g_iload_4 31 h.1 dX6_laysWho_31 ?_
  refine g_bipush 33 _ bp_30 h.1 dX6_laysWho_33 ?_
  refine g_icmp_gt 35 108 h.1 dX6_laysWho_35 (by decide) (fun c => ?_) (fun c => ?_)
  · have hw := hw.1 c
    refine g_aload_0 108 h.1 dX6_laysWho_108 ?_
    refine m_callV_0 109 h (mm_triesAnew h.2.2.1 hw) (by decide) q2460 (Nat.le_of_ble_eq_true rfl) dX6_laysWho_109 (fun σ8 hw => ?_)
    refine g_iload_3 112 h.1 dX6_laysWho_112 ?_
    refine g_if_eq 113 128 h.1 dX6_laysWho_113 (by decide) (fun c => ?_) (fun c => ?_)
    · have hw := hw.1 c
      exact g_le (mt_laysWho_128 h hR hX11 hw) ⟨rfl, rfl, rfl, trivial⟩
    · have hw := hw.2 c
      refine g_aload_0 116 h.1 dX6_laysWho_116 ?_
      refine g_dup 117 rfl h.1 dX6_laysWho_117 ?_
      refine mg_74 118 h dX6_laysWho_118 ?_
      refine g_iconstv 121 _ ic_1 h.1 dX6_laysWho_121 ?_
      refine g_iload_2 122 h.1 dX6_laysWho_122 ?_
      refine g_ishl 123 h.1 dX6_laysWho_123 ?_
      refine g_ior 124 h.1 dX6_laysWho_124 ?_
      refine mp_74 125 h dX6_laysWho_125 ?_
      have hw := hw _ rfl
      exact g_le (mt_laysWho_128 h hR hX11 hw) ⟨rfl, rfl, rfl, trivial⟩
  · have hw := hw.2 c
    refine g_iload_3 38 h.1 dX6_laysWho_38 ?_
    refine g_if_eq 39 55 h.1 dX6_laysWho_39 (by decide) (fun c => ?_) (fun c => ?_)
    · have hw := hw.1 c
      exact g_le (mt_laysWho_55 h hR hX11 hX31 hw) ⟨rfl, rfl, rfl, rfl, trivial⟩
    · have hw := hw.2 c
      refine g_aload_0 42 h.1 dX6_laysWho_42 ?_
      refine g_iload_4 43 h.1 dX6_laysWho_43 ?_
      refine m_callI_1 45 h (mm_isAsSeen h.2.2.1 hw) (by decide) q2576 (Nat.le_of_ble_eq_true rfl) dX6_laysWho_45 (fun r11 σ10 hw => ?_)
      refine g_if_eq 48 55 h.1 dX6_laysWho_48 (by decide) (fun c => ?_) (fun c => ?_)
      · have hw := hw.1 c
        exact g_le (mt_laysWho_55 h hR hX11 hX31 hw) ⟨rfl, rfl, rfl, rfl, trivial⟩
      · have hw := hw.2 c
        refine g_iconstv 51 _ ic_1 h.1 dX6_laysWho_51 ?_
        refine g_goto 52 56 h.1 dX6_laysWho_52 (by decide) ?_
        exact g_le (mt_laysWho_56 h hR hX11 hX31 hw) ⟨rfl, rfl, rfl, rfl, trivial⟩
def mw_laysWho_11 (x1 : Int32) (x2 : Int32) (σ : FS) (Q : FS → Prop) : Prop :=
  ∀ X11 : Int32 → Int32 → FS → Prop, (∀ (x1 : Int32) (x2 : Int32) (σ : FS), mw_personMany σ (fun r4 σ3 => ((r4 ≤ x2 → mw_takesBack σ3 (fun σ5 => Q σ5)) ∧ (¬ r4 ≤ x2 → mw_isAsked x2 x1 σ3 (fun r7 σ6 => mw_laysWho_31 X11 x1 x2 (1 : Int32) (0 : Int32) σ6 Q)))) → X11 x1 x2 σ) → X11 x1 x2 σ
theorem mt_laysWho_11 {κ : Cx} {S : Adr} {Z : State → Prop} {Q : FS → Prop} (h : MCx κ cX6_laysWho S 8) (hR : RetV κ S Z cX6_laysWho Q) {x1 : Int32} {x2 : Int32} {σ : FS} (hw : mw_laysWho_11 x1 x2 σ Q) : MG κ S Z 11 σ [some (.ref (S.2.1 0)), some (.int x1), some (.int x2), none, none, none] [] := by
  refine hw (fun x1 x2 σ => MG κ S Z 11 σ [some (.ref (S.2.1 0)), some (.int x1), some (.int x2), none, none, none] []) ?_
  clear hw
  intro x1 x2 σ hw
  have hX11 : ∀ (x1 : Int32) (x2 : Int32) (σ : FS), MG κ S Z 11 σ [some (.ref (S.2.1 0)), some (.int x1), some (.int x2), none, none, none] [] → MG κ S Z 11 σ [some (.ref (S.2.1 0)), some (.int x1), some (.int x2), none, none, none] [] := fun _ _ _ hh => hh
  refine g_iload_2 11 h.1 dX6_laysWho_11 ?_
  refine g_aload_0 12 h.1 dX6_laysWho_12 ?_
  refine m_callI_0 13 h (mm_personMany h.2.2.1 hw) (by decide) q2307 (Nat.le_of_ble_eq_true rfl) dX6_laysWho_13 (fun r4 σ3 hw => ?_)
  refine g_icmp_ge 16 134 h.1 dX6_laysWho_16 (by decide) (fun c => ?_) (fun c => ?_)
  · have hw := hw.1 c
    refine g_aload_0 134 h.1 dX6_laysWho_134 ?_
    refine m_callV_0 135 h (mm_takesBack h.2.2.1 hw) (by decide) q2456 (Nat.le_of_ble_eq_true rfl) dX6_laysWho_135 (fun σ5 hw => ?_)
    exact hR 138 _ _ dX6_laysWho_138 hw
  · have hw := hw.2 c
    refine g_aload_0 19 h.1 dX6_laysWho_19 ?_
    refine g_iload_2 20 h.1 dX6_laysWho_20 ?_
    refine g_iload_1 21 h.1 dX6_laysWho_21 ?_
    refine m_callI_2 22 h (mm_isAsked h.2.2.1 hw) (by decide) q2432 (Nat.le_of_ble_eq_true rfl) dX6_laysWho_22 (fun r7 σ6 hw => ?_)
    refine g_pop 25 rfl h.1 dX6_laysWho_25 ?_
    refine g_iconstv 26 _ ic_1 h.1 dX6_laysWho_26 ?_
    refine g_istore_3 27 h.1 rfl dX6_laysWho_27 ?_
    refine g_iconstv 28 _ ic_0 h.1 dX6_laysWho_28 ?_
    refine g_istore_4 29 h.1 rfl dX6_laysWho_29 ?_
    exact g_le (mt_laysWho_31 h hR hX11 hw) ⟨rfl, rfl, rfl, rfl, rfl, trivial⟩
def mw_laysWho (x1 : Int32) (σ : FS) (Q : FS → Prop) : Prop :=
  (∀ σ1, σ1 = sI σ 0 74 (0 : Int32) → mw_putsAside σ1 (fun σ2 => mw_laysWho_11 x1 (0 : Int32) σ2 Q))
theorem mt_laysWho {κ : Cx} {S : Adr} {Z : State → Prop} {Q : FS → Prop} (h : MCx κ cX6_laysWho S 8) (hR : RetV κ S Z cX6_laysWho Q) {x1 : Int32} {σ : FS} (hw : mw_laysWho x1 σ Q) : MG κ S Z 0 σ [some (.ref (S.2.1 0)), some (.int x1), none, none, none, none] [] := by
  unfold mw_laysWho at hw
  refine g_aload_0 0 h.1 dX6_laysWho_0 ?_
  refine g_iconstv 1 _ ic_0 h.1 dX6_laysWho_1 ?_
  refine mp_74 2 h dX6_laysWho_2 ?_
  have hw := hw _ rfl
  refine g_aload_0 5 h.1 dX6_laysWho_5 ?_
  refine m_callV_0 6 h (mm_putsAside h.2.2.1 hw) (by decide) q2420 (Nat.le_of_ble_eq_true rfl) dX6_laysWho_6 (fun σ2 hw => ?_)
  refine g_iconstv 9 _ ic_0 h.1 dX6_laysWho_9 ?_
  refine g_istore_2 10 h.1 rfl dX6_laysWho_10 ?_
  exact g_le (mt_laysWho_11 h hR hw) ⟨rfl, rfl, rfl, trivial⟩
theorem mm_laysWho {l : Launch} {S : Adr} (hD : MD S) {x1 : Int32} {σ : FS} {Q : FS → Prop} (hw : mw_laysWho x1 σ Q) : mMet l S 8 yX6_laysWho [.int x1] σ (mQv S Q) :=
  m_metV hD ⟨rfl, by decide, by show _ = some 1; decide +kernel, q2575⟩ q2574 qs155 (Nat.le_of_ble_eq_true rfl) (fun κ Z h hR => mt_laysWho h hR hw)
def mw_letter_102 (x3 : Int32) (x4 : Int64) (x7 : Int32) (σ : FS) (Q : Int32 → FS → Prop) : Prop :=
  ∀ X102 : Int32 → Int64 → Int32 → FS → Prop, (∀ (x3 : Int32) (x4 : Int64) (x7 : Int32) (σ : FS), ((x7 ≤ x3 → Q (Int64.toInt32 (x4 - x4 / (27 : Int64) * (27 : Int64))) σ) ∧ (¬ x7 ≤ x3 → X102 x3 (x4 / (27 : Int64)) (x7 + -1) σ)) → X102 x3 x4 x7 σ) → X102 x3 x4 x7 σ
theorem mt_letter_102 {κ : Cx} {S : Adr} {Z : State → Prop} {Q : Int32 → FS → Prop} (h : MCx κ cX6_letter S 2) (hR : RetI κ S Z cX6_letter Q) {x3 : Int32} {x4 : Int64} {x7 : Int32} {σ : FS} (hw : mw_letter_102 x3 x4 x7 σ Q) : MG κ S Z 102 σ [none, none, none, some (.int x3), some (.long x4), none, none, some (.int x7), none] [] := by
  refine hw (fun x3 x4 x7 σ => MG κ S Z 102 σ [none, none, none, some (.int x3), some (.long x4), none, none, some (.int x7), none] []) ?_
  clear hw
  intro x3 x4 x7 σ hw
  have hX102 : ∀ (x3 : Int32) (x4 : Int64) (x7 : Int32) (σ : FS), MG κ S Z 102 σ [none, none, none, some (.int x3), some (.long x4), none, none, some (.int x7), none] [] → MG κ S Z 102 σ [none, none, none, some (.int x3), some (.long x4), none, none, some (.int x7), none] [] := fun _ _ _ _ hh => hh
  refine g_iload_7 102 h.1 dX6_letter_102 ?_
  refine g_iload_3 104 h.1 dX6_letter_104 ?_
  refine g_icmp_le 105 122 h.1 dX6_letter_105 (by decide) (fun c => ?_) (fun c => ?_)
  · have hw := hw.1 c
    refine g_lload_4 122 h.1 dX6_letter_122 ?_
    refine g_ldc2 124 h.1 q2190 dX6_letter_124 ?_
    refine g_lrem 127 (by decide) h.1 dX6_letter_127 ?_
    refine g_l2i 128 h.1 dX6_letter_128 ?_
    exact hR 129 _ _ _ dX6_letter_129 hw
  · have hw := hw.2 c
    refine g_lload_4 108 h.1 dX6_letter_108 ?_
    refine g_ldc2 110 h.1 q2190 dX6_letter_110 ?_
    refine g_ldiv 113 (by decide) h.1 dX6_letter_113 ?_
    refine g_lstore_4 114 h.1 rfl dX6_letter_114 ?_
    refine g_iinc_7 116 (x7 + -1) (congrArg _ ic_m1) h.1 rfl dX6_letter_116 ?_
    refine g_goto 119 102 h.1 dX6_letter_119 (by decide) ?_
    exact g_le (hX102 _ _ _ _ hw) ⟨rfl, rfl, rfl, trivial⟩
def mw_letter_67 (x3 : Int32) (x4 : Int64) (x6 : Int32) (x7 : Int64) (σ : FS) (Q : Int32 → FS → Prop) : Prop :=
  ∀ X67 : Int32 → Int64 → Int32 → Int64 → FS → Prop, (∀ (x3 : Int32) (x4 : Int64) (x6 : Int32) (x7 : Int64) (σ : FS), (((lg_cmp x7 (0 : Int64)) ≤ 0 → ((x3 < x6 → mw_letter_102 x3 x4 (x6 - (1 : Int32)) σ Q) ∧ (¬ x3 < x6 → Q (0 : Int32) σ))) ∧ (¬ (lg_cmp x7 (0 : Int64)) ≤ 0 → X67 x3 x4 (x6 + 1) (x7 / (27 : Int64)) σ)) → X67 x3 x4 x6 x7 σ) → X67 x3 x4 x6 x7 σ
theorem mt_letter_67 {κ : Cx} {S : Adr} {Z : State → Prop} {Q : Int32 → FS → Prop} (h : MCx κ cX6_letter S 2) (hR : RetI κ S Z cX6_letter Q) {x3 : Int32} {x4 : Int64} {x6 : Int32} {x7 : Int64} {σ : FS} (hw : mw_letter_67 x3 x4 x6 x7 σ Q) : MG κ S Z 67 σ [none, none, none, some (.int x3), some (.long x4), none, some (.int x6), some (.long x7), none] [] := by
  refine hw (fun x3 x4 x6 x7 σ => MG κ S Z 67 σ [none, none, none, some (.int x3), some (.long x4), none, some (.int x6), some (.long x7), none] []) ?_
  clear hw
  intro x3 x4 x6 x7 σ hw
  have hX67 : ∀ (x3 : Int32) (x4 : Int64) (x6 : Int32) (x7 : Int64) (σ : FS), MG κ S Z 67 σ [none, none, none, some (.int x3), some (.long x4), none, some (.int x6), some (.long x7), none] [] → MG κ S Z 67 σ [none, none, none, some (.int x3), some (.long x4), none, some (.int x6), some (.long x7), none] [] := fun _ _ _ _ _ hh => hh
  refine g_lload_7 67 h.1 dX6_letter_67 ?_
  refine g_lconst 69 _ lc_0 h.1 dX6_letter_69 ?_
  refine g_lcmp 70 h.1 dX6_letter_70 ?_
  refine g_if_le 71 88 h.1 dX6_letter_71 (by decide) (fun c => ?_) (fun c => ?_)
  · have hw := hw.1 c
    refine g_iload_3 88 h.1 dX6_letter_88 ?_
    refine g_iload_6 89 h.1 dX6_letter_89 ?_
    refine g_icmp_lt 91 96 h.1 dX6_letter_91 (by decide) (fun c => ?_) (fun c => ?_)
    · have hw := hw.1 c
      refine g_iload_6 96 h.1 dX6_letter_96 ?_
      refine g_iconstv 98 _ ic_1 h.1 dX6_letter_98 ?_
      refine g_isub 99 h.1 dX6_letter_99 ?_
      refine g_istore_7 100 h.1 rfl dX6_letter_100 ?_
      exact g_le (mt_letter_102 h hR hw) ⟨rfl, rfl, rfl, trivial⟩
    · have hw := hw.2 c
      refine g_iconstv 94 _ ic_0 h.1 dX6_letter_94 ?_
      exact hR 95 _ _ _ dX6_letter_95 hw
  · have hw := hw.2 c
    refine g_iinc_6 74 (x6 + 1) (congrArg _ ic_1) h.1 rfl dX6_letter_74 ?_
    refine g_lload_7 77 h.1 dX6_letter_77 ?_
    refine g_ldc2 79 h.1 q2190 dX6_letter_79 ?_
    refine g_ldiv 82 (by decide) h.1 dX6_letter_82 ?_
    refine g_lstore_7 83 h.1 rfl dX6_letter_83 ?_
    refine g_goto 85 67 h.1 dX6_letter_85 (by decide) ?_
    exact g_le (hX67 _ _ _ _ _ hw) ⟨rfl, rfl, rfl, rfl, trivial⟩
def mw_letter (x1 : Int32) (x2 : Int32) (x3 : Int32) (σ : FS) (Q : Int32 → FS → Prop) : Prop :=
  mw_isIn (Int32.toInt64 x1) (0 : Int64) (1 : Int64) σ (fun r2 σ1 => ((r2 = 0 → Q (-1 : Int32) σ1) ∧ (¬ r2 = 0 → (vp_in ((3 : Int32) + x1) 6 ∧ mw_isIn (Int32.toInt64 x2) (0 : Int64) (Int32.toInt64 ((fA σ1 40 (Int32.toNatClampNeg ((3 : Int32) + x1))) - (1 : Int32))) σ1 (fun r4 σ3 => ((r4 = 0 → Q (-1 : Int32) σ3) ∧ (¬ r4 = 0 → mw_isIn (Int32.toInt64 x3) (0 : Int64) (5 : Int64) σ3 (fun r6 σ5 => ((¬ r6 = 0 → (vp_in (((16 : Int32) + ((8 : Int32) * x1)) + x2) 32 ∧ mw_letter_67 x3 (fB σ5 41 (Int32.toNatClampNeg (((16 : Int32) + ((8 : Int32) * x1)) + x2))) (0 : Int32) (fB σ5 41 (Int32.toNatClampNeg (((16 : Int32) + ((8 : Int32) * x1)) + x2))) σ5 Q)) ∧ (r6 = 0 → Q (-1 : Int32) σ5))))))))))
theorem mt_letter {κ : Cx} {S : Adr} {Z : State → Prop} {Q : Int32 → FS → Prop} (h : MCx κ cX6_letter S 2) (hR : RetI κ S Z cX6_letter Q) {x1 : Int32} {x2 : Int32} {x3 : Int32} {σ : FS} (hw : mw_letter x1 x2 x3 σ Q) : MG κ S Z 0 σ [some (.ref (S.2.1 0)), some (.int x1), some (.int x2), some (.int x3), none, none, none, none, none] [] := by
  unfold mw_letter at hw
  refine g_iload_1 0 h.1 dX6_letter_0 ?_
  refine g_i2l 1 h.1 dX6_letter_1 ?_
  refine g_lconst 2 _ lc_0 h.1 dX6_letter_2 ?_
  refine g_lconst 3 _ lc_1 h.1 dX6_letter_3 ?_
  refine m_scallI_3 4 h (mm_isIn h.2.2.1 hw) (by decide) q2147 (Nat.le_of_ble_eq_true rfl) dX6_letter_4 (fun r2 σ1 hw => ?_)
  refine g_if_eq 7 42 h.1 dX6_letter_7 (by decide) (fun c => ?_) (fun c => ?_)
  · have hw := hw.1 c
    refine g_iconstv 42 _ ic_m1 h.1 dX6_letter_42 ?_
    exact hR 43 _ _ _ dX6_letter_43 hw
  · have hw := hw.2 c
    refine g_iload_2 10 h.1 dX6_letter_10 ?_
    refine g_i2l 11 h.1 dX6_letter_11 ?_
    refine g_lconst 12 _ lc_0 h.1 dX6_letter_12 ?_
    refine g_aload_0 13 h.1 dX6_letter_13 ?_
    refine mg_40 14 h dX6_letter_14 ?_
    refine g_iconstv 17 _ ic_3 h.1 dX6_letter_17 ?_
    refine g_iload_1 18 h.1 dX6_letter_18 ?_
    refine g_iadd 19 h.1 dX6_letter_19 ?_
    refine m_iald 20 rfl hw.1 h dX6_letter_20 ?_
    have hw := hw.2
    refine g_iconstv 21 _ ic_1 h.1 dX6_letter_21 ?_
    refine g_isub 22 h.1 dX6_letter_22 ?_
    refine g_i2l 23 h.1 dX6_letter_23 ?_
    refine m_scallI_3 24 h (mm_isIn h.2.2.1 hw) (by decide) q2147 (Nat.le_of_ble_eq_true rfl) dX6_letter_24 (fun r4 σ3 hw => ?_)
    refine g_if_eq 27 42 h.1 dX6_letter_27 (by decide) (fun c => ?_) (fun c => ?_)
    · have hw := hw.1 c
      refine g_iconstv 42 _ ic_m1 h.1 dX6_letter_42 ?_
      exact hR 43 _ _ _ dX6_letter_43 hw
    · have hw := hw.2 c
      refine g_iload_3 30 h.1 dX6_letter_30 ?_
      refine g_i2l 31 h.1 dX6_letter_31 ?_
      refine g_lconst 32 _ lc_0 h.1 dX6_letter_32 ?_
      refine g_ldc2 33 h.1 q2335 dX6_letter_33 ?_
      refine m_scallI_3 36 h (mm_isIn h.2.2.1 hw) (by decide) q2147 (Nat.le_of_ble_eq_true rfl) dX6_letter_36 (fun r6 σ5 hw => ?_)
      refine g_if_ne 39 44 h.1 dX6_letter_39 (by decide) (fun c => ?_) (fun c => ?_)
      · have hw := hw.1 c
        refine g_aload_0 44 h.1 dX6_letter_44 ?_
        refine mg_41 45 h dX6_letter_45 ?_
        refine g_bipush 48 _ bp_16 h.1 dX6_letter_48 ?_
        refine g_bipush 50 _ bp_8 h.1 dX6_letter_50 ?_
        refine g_iload_1 52 h.1 dX6_letter_52 ?_
        refine g_imul 53 h.1 dX6_letter_53 ?_
        refine g_iadd 54 h.1 dX6_letter_54 ?_
        refine g_iload_2 55 h.1 dX6_letter_55 ?_
        refine g_iadd 56 h.1 dX6_letter_56 ?_
        refine m_lald 57 rfl hw.1 h dX6_letter_57 ?_
        have hw := hw.2
        refine g_lstore_4 58 h.1 rfl dX6_letter_58 ?_
        refine g_iconstv 60 _ ic_0 h.1 dX6_letter_60 ?_
        refine g_istore_6 61 h.1 rfl dX6_letter_61 ?_
        refine g_lload_4 63 h.1 dX6_letter_63 ?_
        refine g_lstore_7 65 h.1 rfl dX6_letter_65 ?_
        exact g_le (mt_letter_67 h hR hw) ⟨rfl, rfl, rfl, rfl, trivial⟩
      · have hw := hw.2 c
        refine g_iconstv 42 _ ic_m1 h.1 dX6_letter_42 ?_
        exact hR 43 _ _ _ dX6_letter_43 hw
theorem mm_letter {l : Launch} {S : Adr} (hD : MD S) {x1 : Int32} {x2 : Int32} {x3 : Int32} {σ : FS} {Q : Int32 → FS → Prop} (hw : mw_letter x1 x2 x3 σ Q) : mMet l S 2 yX6_letter [.int x1, .int x2, .int x3] σ (mQi S Q) :=
  m_metI hD ⟨rfl, by decide, by show _ = some 3; decide +kernel, q2334⟩ q2332 q2333 (Nat.le_of_ble_eq_true rfl) (fun κ Z h hR => mt_letter h hR hw)
def mw_list (x1 : Int32) (x2 : Int32) (σ : FS) (Q : Int32 → FS → Prop) : Prop :=
  mw_listMany σ (fun r2 σ1 => mw_isIn (Int32.toInt64 x1) (0 : Int64) (Int32.toInt64 (r2 - (1 : Int32))) σ1 (fun r4 σ3 => ((r4 = 0 → Q (-1 : Int32) σ3) ∧ (¬ r4 = 0 → mw_isIn (Int32.toInt64 x2) (0 : Int64) (1 : Int64) σ3 (fun r6 σ5 => ((r6 = 0 → Q (-1 : Int32) σ5) ∧ (¬ r6 = 0 → (vp_in (((24 : Int32) + ((2 : Int32) * x1)) + x2) 48 ∧ Q (fA σ5 44 (Int32.toNatClampNeg (((24 : Int32) + ((2 : Int32) * x1)) + x2))) σ5))))))))
theorem mt_list {κ : Cx} {S : Adr} {Z : State → Prop} {Q : Int32 → FS → Prop} (h : MCx κ cX6_list S 2) (hR : RetI κ S Z cX6_list Q) {x1 : Int32} {x2 : Int32} {σ : FS} (hw : mw_list x1 x2 σ Q) : MG κ S Z 0 σ [some (.ref (S.2.1 0)), some (.int x1), some (.int x2)] [] := by
  unfold mw_list at hw
  refine g_iload_1 0 h.1 dX6_list_0 ?_
  refine g_i2l 1 h.1 dX6_list_1 ?_
  refine g_lconst 2 _ lc_0 h.1 dX6_list_2 ?_
  refine g_aload_0 3 h.1 dX6_list_3 ?_
  refine m_callI_0 4 h (mm_listMany h.2.2.1 hw) (by decide) q2311 (Nat.le_of_ble_eq_true rfl) dX6_list_4 (fun r2 σ1 hw => ?_)
  refine g_iconstv 7 _ ic_1 h.1 dX6_list_7 ?_
  refine g_isub 8 h.1 dX6_list_8 ?_
  refine g_i2l 9 h.1 dX6_list_9 ?_
  refine m_scallI_3 10 h (mm_isIn h.2.2.1 hw) (by decide) q2147 (Nat.le_of_ble_eq_true rfl) dX6_list_10 (fun r4 σ3 hw => ?_)
  refine g_if_eq 13 42 h.1 dX6_list_13 (by decide) (fun c => ?_) (fun c => ?_)
  · have hw := hw.1 c
    refine g_iconstv 42 _ ic_m1 h.1 dX6_list_42 ?_
    exact hR 43 _ _ _ dX6_list_43 hw
  · have hw := hw.2 c
    refine g_iload_2 16 h.1 dX6_list_16 ?_
    refine g_i2l 17 h.1 dX6_list_17 ?_
    refine g_lconst 18 _ lc_0 h.1 dX6_list_18 ?_
    refine g_lconst 19 _ lc_1 h.1 dX6_list_19 ?_
    refine m_scallI_3 20 h (mm_isIn h.2.2.1 hw) (by decide) q2147 (Nat.le_of_ble_eq_true rfl) dX6_list_20 (fun r6 σ5 hw => ?_)
    refine g_if_eq 23 42 h.1 dX6_list_23 (by decide) (fun c => ?_) (fun c => ?_)
    · have hw := hw.1 c
      refine g_iconstv 42 _ ic_m1 h.1 dX6_list_42 ?_
      exact hR 43 _ _ _ dX6_list_43 hw
    · have hw := hw.2 c
      refine g_aload_0 26 h.1 dX6_list_26 ?_
      refine mg_44 27 h dX6_list_27 ?_
      refine g_bipush 30 _ bp_24 h.1 dX6_list_30 ?_
      refine g_iconstv 32 _ ic_2 h.1 dX6_list_32 ?_
      refine g_iload_1 33 h.1 dX6_list_33 ?_
      refine g_imul 34 h.1 dX6_list_34 ?_
      refine g_iadd 35 h.1 dX6_list_35 ?_
      refine g_iload_2 36 h.1 dX6_list_36 ?_
      refine g_iadd 37 h.1 dX6_list_37 ?_
      refine m_iald 38 rfl hw.1 h dX6_list_38 ?_
      have hw := hw.2
      refine g_goto 39 43 h.1 dX6_list_39 (by decide) ?_
      exact hR 43 _ _ _ dX6_list_43 hw
theorem mm_list {l : Launch} {S : Adr} (hD : MD S) {x1 : Int32} {x2 : Int32} {σ : FS} {Q : Int32 → FS → Prop} (hw : mw_list x1 x2 σ Q) : mMet l S 2 yX6_list [.int x1, .int x2] σ (mQi S Q) :=
  m_metI hD ⟨rfl, by decide, by show _ = some 2; decide +kernel, q2367⟩ q2365 q2366 (Nat.le_of_ble_eq_true rfl) (fun κ Z h hR => mt_list h hR hw)
def mw_listTold (x1 : Int32) (σ : FS) (Q : FS → Prop) : Prop :=
  mw_isFull (2 : Int32) (12 : Int32) x1 σ (fun r2 σ1 => ((r2 = 0 → mw_named (1 : Int32) σ1 (fun r4 σ3 => mw_needs 19 σ3 (fun σ5 => mw_named (0 : Int32) σ5 (fun r7 σ6 => (((fI σ6 0 5) = 0 → (vp_in (2 : Int32) 6 ∧ (vp_in ((2 : Int32) * (fA σ6 40 (Int32.toNatClampNeg (2 : Int32)))) 48 ∧ ∀ σ8, σ8 = sA σ6 44 (Int32.toNatClampNeg ((2 : Int32) * (fA σ6 40 (Int32.toNatClampNeg (2 : Int32))))) r4 → (vp_in (2 : Int32) 6 ∧ (vp_in (((2 : Int32) * (fA σ8 40 (Int32.toNatClampNeg (2 : Int32)))) + (1 : Int32)) 48 ∧ ∀ σ9, σ9 = sA σ8 44 (Int32.toNatClampNeg (((2 : Int32) * (fA σ8 40 (Int32.toNatClampNeg (2 : Int32)))) + (1 : Int32))) r7 → (vp_in (2 : Int32) 6 ∧ (vp_in (2 : Int32) 6 ∧ ∀ σ10, σ10 = sA σ9 40 (Int32.toNatClampNeg (2 : Int32)) ((fA σ9 40 (Int32.toNatClampNeg (2 : Int32))) + (1 : Int32)) → Q σ10))))))) ∧ (¬ (fI σ6 0 5) = 0 → Q σ6)))))) ∧ (¬ r2 = 0 → Q σ1)))
theorem mt_listTold {κ : Cx} {S : Adr} {Z : State → Prop} {Q : FS → Prop} (h : MCx κ cX6_listTold S 6) (hR : RetV κ S Z cX6_listTold Q) {x1 : Int32} {σ : FS} (hw : mw_listTold x1 σ Q) : MG κ S Z 0 σ [some (.ref (S.2.1 0)), some (.int x1), none, none] [] := by
  unfold mw_listTold at hw
  refine g_aload_0 0 h.1 dX6_listTold_0 ?_
  refine g_iconstv 1 _ ic_2 h.1 dX6_listTold_1 ?_
  refine g_bipush 2 _ bp_12 h.1 dX6_listTold_2 ?_
  refine g_iload_1 4 h.1 dX6_listTold_4 ?_
  refine m_callI_3 5 h (mm_isFull h.2.2.1 hw) (by decide) q2174 (Nat.le_of_ble_eq_true rfl) dX6_listTold_5 (fun r2 σ1 hw => ?_)
  refine g_if_eq 8 12 h.1 dX6_listTold_8 (by decide) (fun c => ?_) (fun c => ?_)
  · have hw := hw.1 c
    refine g_aload_0 12 h.1 dX6_listTold_12 ?_
    refine g_iconstv 13 _ ic_1 h.1 dX6_listTold_13 ?_
    refine m_callI_1 14 h (mm_named h.2.2.1 hw) (by decide) q2200 (Nat.le_of_ble_eq_true rfl) dX6_listTold_14 (fun r4 σ3 hw => ?_)
    refine g_istore_2 17 h.1 rfl dX6_listTold_17 ?_
    refine g_aload_0 18 h.1 dX6_listTold_18 ?_
    refine g_aload_0 19 h.1 dX6_listTold_19 ?_
    refine mg_19 20 h dX6_listTold_20 ?_
    refine m_callV_1 23 h (mm_needs h.2.2.1 hw) (by decide) q2117 (Nat.le_of_ble_eq_true rfl) dX6_listTold_23 (fun σ5 hw => ?_)
    refine g_aload_0 26 h.1 dX6_listTold_26 ?_
    refine g_iconstv 27 _ ic_0 h.1 dX6_listTold_27 ?_
    refine m_callI_1 28 h (mm_named h.2.2.1 hw) (by decide) q2200 (Nat.le_of_ble_eq_true rfl) dX6_listTold_28 (fun r7 σ6 hw => ?_)
    refine g_istore_3 31 h.1 rfl dX6_listTold_31 ?_
    refine g_aload_0 32 h.1 dX6_listTold_32 ?_
    refine mg_5 33 h dX6_listTold_33 ?_
    refine g_if_eq 36 40 h.1 dX6_listTold_36 (by decide) (fun c => ?_) (fun c => ?_)
    · have hw := hw.1 c
      refine g_aload_0 40 h.1 dX6_listTold_40 ?_
      refine mg_44 41 h dX6_listTold_41 ?_
      refine g_iconstv 44 _ ic_2 h.1 dX6_listTold_44 ?_
      refine g_aload_0 45 h.1 dX6_listTold_45 ?_
      refine mg_40 46 h dX6_listTold_46 ?_
      refine g_iconstv 49 _ ic_2 h.1 dX6_listTold_49 ?_
      refine m_iald 50 rfl hw.1 h dX6_listTold_50 ?_
      have hw := hw.2
      refine g_imul 51 h.1 dX6_listTold_51 ?_
      refine g_iload_2 52 h.1 dX6_listTold_52 ?_
      refine m_iast 53 rfl hw.1 h dX6_listTold_53 ?_
      have hw := hw.2 _ rfl
      refine g_aload_0 54 h.1 dX6_listTold_54 ?_
      refine mg_44 55 h dX6_listTold_55 ?_
      refine g_iconstv 58 _ ic_2 h.1 dX6_listTold_58 ?_
      refine g_aload_0 59 h.1 dX6_listTold_59 ?_
      refine mg_40 60 h dX6_listTold_60 ?_
      refine g_iconstv 63 _ ic_2 h.1 dX6_listTold_63 ?_
      refine m_iald 64 rfl hw.1 h dX6_listTold_64 ?_
      have hw := hw.2
      refine g_imul 65 h.1 dX6_listTold_65 ?_
      refine g_iconstv 66 _ ic_1 h.1 dX6_listTold_66 ?_
      refine g_iadd 67 h.1 dX6_listTold_67 ?_
      refine g_iload_3 68 h.1 dX6_listTold_68 ?_
      refine m_iast 69 rfl hw.1 h dX6_listTold_69 ?_
      have hw := hw.2 _ rfl
      refine g_aload_0 70 h.1 dX6_listTold_70 ?_
      refine mg_40 71 h dX6_listTold_71 ?_
      refine g_iconstv 74 _ ic_2 h.1 dX6_listTold_74 ?_
      refine g_dup2 75 rfl rfl h.1 dX6_listTold_75 ?_
      refine m_iald 76 rfl hw.1 h dX6_listTold_76 ?_
      have hw := hw.2
      refine g_iconstv 77 _ ic_1 h.1 dX6_listTold_77 ?_
      refine g_iadd 78 h.1 dX6_listTold_78 ?_
      refine m_iast 79 rfl hw.1 h dX6_listTold_79 ?_
      have hw := hw.2 _ rfl
      exact hR 80 _ _ dX6_listTold_80 hw
    · have hw := hw.2 c
      exact hR 39 _ _ dX6_listTold_39 hw
  · have hw := hw.2 c
    exact hR 11 _ _ dX6_listTold_11 hw
theorem mm_listTold {l : Launch} {S : Adr} (hD : MD S) {x1 : Int32} {σ : FS} {Q : FS → Prop} (hw : mw_listTold x1 σ Q) : mMet l S 6 yX6_listTold [.int x1] σ (mQv S Q) :=
  m_metV hD ⟨rfl, by decide, by show _ = some 1; decide +kernel, q2207⟩ q2206 qs87 (Nat.le_of_ble_eq_true rfl) (fun κ Z h hR => mt_listTold h hR hw)
def mw_lowerOf_40 (X4 : Int32 → Int32 → Int32 → FS → Prop) (x1 : Int32) (x2 : Int32) (x3 : Int32) (σ : FS) (Q : Int32 → FS → Prop) : Prop :=
  X4 x1 x2 (x3 + 1) σ
theorem mt_lowerOf_40 {κ : Cx} {S : Adr} {Z : State → Prop} {Q : Int32 → FS → Prop} (h : MCx κ cX6_lowerOf S 4) (hR : RetI κ S Z cX6_lowerOf Q) {X4 : Int32 → Int32 → Int32 → FS → Prop} (hX4 : ∀ (x1 : Int32) (x2 : Int32) (x3 : Int32) (σ : FS), X4 x1 x2 x3 σ → MG κ S Z 4 σ [some (.ref (S.2.1 0)), some (.int x1), some (.int x2), some (.int x3), none] []) {x1 : Int32} {x2 : Int32} {x3 : Int32} {σ : FS} (hw : mw_lowerOf_40 X4 x1 x2 x3 σ Q) : MG κ S Z 40 σ [some (.ref (S.2.1 0)), some (.int x1), some (.int x2), some (.int x3), none] [] := by
  unfold mw_lowerOf_40 at hw
  refine g_iinc_3 40 (x3 + 1) (congrArg _ ic_1) h.1 rfl dX6_lowerOf_40 ?_
  refine g_goto 43 4 h.1 dX6_lowerOf_43 (by decide) ?_
  exact g_le (hX4 _ _ _ _ hw) ⟨rfl, rfl, rfl, rfl, trivial⟩
def mw_lowerOf_4 (x1 : Int32) (x2 : Int32) (x3 : Int32) (σ : FS) (Q : Int32 → FS → Prop) : Prop :=
  ∀ X4 : Int32 → Int32 → Int32 → FS → Prop, (∀ (x1 : Int32) (x2 : Int32) (x3 : Int32) (σ : FS), (((4 : Int32) ≤ x3 → Q x2 σ) ∧ (¬ (4 : Int32) ≤ x3 → mw_beside x1 x3 σ (fun r2 σ1 => ((r2 = (-1 : Int32) → mw_lowerOf_40 X4 x1 x2 x3 σ1 Q) ∧ (¬ r2 = (-1 : Int32) → mw_heightOf r2 σ1 (fun r4 σ3 => mw_heightOf x2 σ3 (fun r6 σ5 => ((r6 ≤ r4 → mw_lowerOf_40 X4 x1 x2 x3 σ5 Q) ∧ (¬ r6 ≤ r4 → mw_lowerOf_40 X4 x1 r2 x3 σ5 Q))))))))) → X4 x1 x2 x3 σ) → X4 x1 x2 x3 σ
theorem mt_lowerOf_4 {κ : Cx} {S : Adr} {Z : State → Prop} {Q : Int32 → FS → Prop} (h : MCx κ cX6_lowerOf S 4) (hR : RetI κ S Z cX6_lowerOf Q) {x1 : Int32} {x2 : Int32} {x3 : Int32} {σ : FS} (hw : mw_lowerOf_4 x1 x2 x3 σ Q) : MG κ S Z 4 σ [some (.ref (S.2.1 0)), some (.int x1), some (.int x2), some (.int x3), none] [] := by
  refine hw (fun x1 x2 x3 σ => MG κ S Z 4 σ [some (.ref (S.2.1 0)), some (.int x1), some (.int x2), some (.int x3), none] []) ?_
  clear hw
  intro x1 x2 x3 σ hw
  have hX4 : ∀ (x1 : Int32) (x2 : Int32) (x3 : Int32) (σ : FS), MG κ S Z 4 σ [some (.ref (S.2.1 0)), some (.int x1), some (.int x2), some (.int x3), none] [] → MG κ S Z 4 σ [some (.ref (S.2.1 0)), some (.int x1), some (.int x2), some (.int x3), none] [] := fun _ _ _ _ hh => hh
  refine g_iload_3 4 h.1 dX6_lowerOf_4 ?_
  refine g_iconstv 5 _ ic_4 h.1 dX6_lowerOf_5 ?_
  refine g_icmp_ge 6 46 h.1 dX6_lowerOf_6 (by decide) (fun c => ?_) (fun c => ?_)
  · have hw := hw.1 c
    refine g_iload_2 46 h.1 dX6_lowerOf_46 ?_
    exact hR 47 _ _ _ dX6_lowerOf_47 hw
  · have hw := hw.2 c
    refine g_aload_0 9 h.1 dX6_lowerOf_9 ?_
    refine g_iload_1 10 h.1 dX6_lowerOf_10 ?_
    refine g_iload_3 11 h.1 dX6_lowerOf_11 ?_
    refine m_callI_2 12 h (mm_beside h.2.2.1 hw) (by decide) q2525 (Nat.le_of_ble_eq_true rfl) dX6_lowerOf_12 (fun r2 σ1 hw => ?_)
    refine g_istore_4 15 h.1 rfl dX6_lowerOf_15 ?_
    refine g_iload_4 17 h.1 dX6_lowerOf_17 ?_
    refine g_iconstv 19 _ ic_m1 h.1 dX6_lowerOf_19 ?_
    refine g_icmp_eq 20 40 h.1 dX6_lowerOf_20 (by decide) (fun c => ?_) (fun c => ?_)
    · have hw := hw.1 c
      exact g_le (mt_lowerOf_40 h hR hX4 hw) ⟨rfl, rfl, rfl, rfl, trivial⟩
    · have hw := hw.2 c
      refine g_aload_0 23 h.1 dX6_lowerOf_23 ?_
      refine g_iload_4 24 h.1 dX6_lowerOf_24 ?_
      refine m_callI_1 26 h (mm_heightOf h.2.2.1 hw) (by decide) q2327 (Nat.le_of_ble_eq_true rfl) dX6_lowerOf_26 (fun r4 σ3 hw => ?_)
      refine g_aload_0 29 h.1 dX6_lowerOf_29 ?_
      refine g_iload_2 30 h.1 dX6_lowerOf_30 ?_
      refine m_callI_1 31 h (mm_heightOf h.2.2.1 hw) (by decide) q2327 (Nat.le_of_ble_eq_true rfl) dX6_lowerOf_31 (fun r6 σ5 hw => ?_)
      refine g_icmp_ge 34 40 h.1 dX6_lowerOf_34 (by decide) (fun c => ?_) (fun c => ?_)
      · have hw := hw.1 c
        exact g_le (mt_lowerOf_40 h hR hX4 hw) ⟨rfl, rfl, rfl, rfl, trivial⟩
      · have hw := hw.2 c
        refine g_iload_4 37 h.1 dX6_lowerOf_37 ?_
        refine g_istore_2 39 h.1 rfl dX6_lowerOf_39 ?_
        exact g_le (mt_lowerOf_40 h hR hX4 hw) ⟨rfl, rfl, rfl, rfl, trivial⟩
def mw_lowerOf (x1 : Int32) (σ : FS) (Q : Int32 → FS → Prop) : Prop :=
  mw_lowerOf_4 x1 x1 (0 : Int32) σ Q
theorem mt_lowerOf {κ : Cx} {S : Adr} {Z : State → Prop} {Q : Int32 → FS → Prop} (h : MCx κ cX6_lowerOf S 4) (hR : RetI κ S Z cX6_lowerOf Q) {x1 : Int32} {σ : FS} (hw : mw_lowerOf x1 σ Q) : MG κ S Z 0 σ [some (.ref (S.2.1 0)), some (.int x1), none, none, none] [] := by
  unfold mw_lowerOf at hw
  refine g_iload_1 0 h.1 dX6_lowerOf_0 ?_
  refine g_istore_2 1 h.1 rfl dX6_lowerOf_1 ?_
  refine g_iconstv 2 _ ic_0 h.1 dX6_lowerOf_2 ?_
  refine g_istore_3 3 h.1 rfl dX6_lowerOf_3 ?_
  exact g_le (mt_lowerOf_4 h hR hw) ⟨rfl, rfl, rfl, rfl, trivial⟩
theorem mm_lowerOf {l : Launch} {S : Adr} (hD : MD S) {x1 : Int32} {σ : FS} {Q : Int32 → FS → Prop} (hw : mw_lowerOf x1 σ Q) : mMet l S 4 yX6_lowerOf [.int x1] σ (mQi S Q) :=
  m_metI hD ⟨rfl, by decide, by show _ = some 1; decide +kernel, q2536⟩ q2535 qs150 (Nat.le_of_ble_eq_true rfl) (fun κ Z h hR => mt_lowerOf h hR hw)
def mw_mostAlike_85 (X4 : Int32 → Int32 → Int32 → FS → Prop) (X32 : Int32 → Int32 → Int32 → Int32 → Int32 → FS → Prop) (x1 : Int32) (x2 : Int32) (x3 : Int32) (x4 : Int32) (x5 : Int32) (σ : FS) (Q : Int32 → FS → Prop) : Prop :=
  X32 x1 x2 x3 x4 (x5 + 1) σ
theorem mt_mostAlike_85 {κ : Cx} {S : Adr} {Z : State → Prop} {Q : Int32 → FS → Prop} (h : MCx κ cX6_mostAlike S 2) (hR : RetI κ S Z cX6_mostAlike Q) {X4 : Int32 → Int32 → Int32 → FS → Prop} {X32 : Int32 → Int32 → Int32 → Int32 → Int32 → FS → Prop} (hX4 : ∀ (x1 : Int32) (x2 : Int32) (x3 : Int32) (σ : FS), X4 x1 x2 x3 σ → MG κ S Z 4 σ [some (.ref (S.2.1 0)), some (.int x1), some (.int x2), some (.int x3), none, none] []) (hX32 : ∀ (x1 : Int32) (x2 : Int32) (x3 : Int32) (x4 : Int32) (x5 : Int32) (σ : FS), X32 x1 x2 x3 x4 x5 σ → MG κ S Z 32 σ [some (.ref (S.2.1 0)), some (.int x1), some (.int x2), some (.int x3), some (.int x4), some (.int x5)] []) {x1 : Int32} {x2 : Int32} {x3 : Int32} {x4 : Int32} {x5 : Int32} {σ : FS} (hw : mw_mostAlike_85 X4 X32 x1 x2 x3 x4 x5 σ Q) : MG κ S Z 85 σ [some (.ref (S.2.1 0)), some (.int x1), some (.int x2), some (.int x3), some (.int x4), some (.int x5)] [] := by
  unfold mw_mostAlike_85 at hw
  refine g_iinc_5 85 (x5 + 1) (congrArg _ ic_1) h.1 rfl dX6_mostAlike_85 ?_
  refine g_goto 88 32 h.1 dX6_mostAlike_88 (by decide) ?_
  exact g_le (hX32 _ _ _ _ _ _ hw) ⟨rfl, rfl, rfl, rfl, rfl, rfl, trivial⟩
def mw_mostAlike_100 (X4 : Int32 → Int32 → Int32 → FS → Prop) (x1 : Int32) (x2 : Int32) (x3 : Int32) (σ : FS) (Q : Int32 → FS → Prop) : Prop :=
  X4 x1 x2 (x3 + 1) σ
theorem mt_mostAlike_100 {κ : Cx} {S : Adr} {Z : State → Prop} {Q : Int32 → FS → Prop} (h : MCx κ cX6_mostAlike S 2) (hR : RetI κ S Z cX6_mostAlike Q) {X4 : Int32 → Int32 → Int32 → FS → Prop} (hX4 : ∀ (x1 : Int32) (x2 : Int32) (x3 : Int32) (σ : FS), X4 x1 x2 x3 σ → MG κ S Z 4 σ [some (.ref (S.2.1 0)), some (.int x1), some (.int x2), some (.int x3), none, none] []) {x1 : Int32} {x2 : Int32} {x3 : Int32} {σ : FS} (hw : mw_mostAlike_100 X4 x1 x2 x3 σ Q) : MG κ S Z 100 σ [some (.ref (S.2.1 0)), some (.int x1), some (.int x2), some (.int x3), none, none] [] := by
  unfold mw_mostAlike_100 at hw
  refine g_iinc_3 100 (x3 + 1) (congrArg _ ic_1) h.1 rfl dX6_mostAlike_100 ?_
  refine g_goto 103 4 h.1 dX6_mostAlike_103 (by decide) ?_
  exact g_le (hX4 _ _ _ _ hw) ⟨rfl, rfl, rfl, rfl, trivial⟩
def mw_mostAlike_32 (X4 : Int32 → Int32 → Int32 → FS → Prop) (x1 : Int32) (x2 : Int32) (x3 : Int32) (x4 : Int32) (x5 : Int32) (σ : FS) (Q : Int32 → FS → Prop) : Prop :=
  ∀ X32 : Int32 → Int32 → Int32 → Int32 → Int32 → FS → Prop, (∀ (x1 : Int32) (x2 : Int32) (x3 : Int32) (x4 : Int32) (x5 : Int32) (σ : FS), mw_personMany σ (fun r4 σ3 => ((r4 ≤ x5 → ((x4 ≤ x2 → mw_mostAlike_100 X4 x1 x2 x3 σ3 Q) ∧ (¬ x4 ≤ x2 → mw_mostAlike_100 X4 x1 x4 x3 σ3 Q))) ∧ (¬ r4 ≤ x5 → ((¬ (((fI σ3 0 74) >>> (x5 &&& 31)) &&& (1 : Int32)) = (1 : Int32) → mw_mostAlike_85 X4 X32 x1 x2 x3 x4 x5 σ3 Q) ∧ ((((fI σ3 0 74) >>> (x5 &&& 31)) &&& (1 : Int32)) = (1 : Int32) → (vp_in (((1519 : Int32) * x3) + x1) 10633 ∧ (vp_in (((1519 : Int32) * x5) + x1) 10633 ∧ ((¬ (fA σ3 73 (Int32.toNatClampNeg (((1519 : Int32) * x3) + x1))) = (fA σ3 73 (Int32.toNatClampNeg (((1519 : Int32) * x5) + x1))) → mw_mostAlike_85 X4 X32 x1 x2 x3 x4 x5 σ3 Q) ∧ ((fA σ3 73 (Int32.toNatClampNeg (((1519 : Int32) * x3) + x1))) = (fA σ3 73 (Int32.toNatClampNeg (((1519 : Int32) * x5) + x1))) → mw_mostAlike_85 X4 X32 x1 x2 x3 (x4 + 1) x5 σ3 Q))))))))) → X32 x1 x2 x3 x4 x5 σ) → X32 x1 x2 x3 x4 x5 σ
theorem mt_mostAlike_32 {κ : Cx} {S : Adr} {Z : State → Prop} {Q : Int32 → FS → Prop} (h : MCx κ cX6_mostAlike S 2) (hR : RetI κ S Z cX6_mostAlike Q) {X4 : Int32 → Int32 → Int32 → FS → Prop} (hX4 : ∀ (x1 : Int32) (x2 : Int32) (x3 : Int32) (σ : FS), X4 x1 x2 x3 σ → MG κ S Z 4 σ [some (.ref (S.2.1 0)), some (.int x1), some (.int x2), some (.int x3), none, none] []) {x1 : Int32} {x2 : Int32} {x3 : Int32} {x4 : Int32} {x5 : Int32} {σ : FS} (hw : mw_mostAlike_32 X4 x1 x2 x3 x4 x5 σ Q) : MG κ S Z 32 σ [some (.ref (S.2.1 0)), some (.int x1), some (.int x2), some (.int x3), some (.int x4), some (.int x5)] [] := by
  refine hw (fun x1 x2 x3 x4 x5 σ => MG κ S Z 32 σ [some (.ref (S.2.1 0)), some (.int x1), some (.int x2), some (.int x3), some (.int x4), some (.int x5)] []) ?_
  clear hw
  intro x1 x2 x3 x4 x5 σ hw
  have hX32 : ∀ (x1 : Int32) (x2 : Int32) (x3 : Int32) (x4 : Int32) (x5 : Int32) (σ : FS), MG κ S Z 32 σ [some (.ref (S.2.1 0)), some (.int x1), some (.int x2), some (.int x3), some (.int x4), some (.int x5)] [] → MG κ S Z 32 σ [some (.ref (S.2.1 0)), some (.int x1), some (.int x2), some (.int x3), some (.int x4), some (.int x5)] [] := fun _ _ _ _ _ _ hh => hh
  refine g_iload_5 32 h.1 dX6_mostAlike_32 ?_
  refine g_aload_0 34 h.1 dX6_mostAlike_34 ?_
  refine m_callI_0 35 h (mm_personMany h.2.2.1 hw) (by decide) q2307 (Nat.le_of_ble_eq_true rfl) dX6_mostAlike_35 (fun r4 σ3 hw => ?_)
  refine g_icmp_ge 38 91 h.1 dX6_mostAlike_38 (by decide) (fun c => ?_) (fun c => ?_)
  · have hw := hw.1 c
    refine g_iload_4 91 h.1 dX6_mostAlike_91 ?_
    refine g_iload_2 93 h.1 dX6_mostAlike_93 ?_
    refine g_icmp_le 94 100 h.1 dX6_mostAlike_94 (by decide) (fun c => ?_) (fun c => ?_)
    · have hw := hw.1 c
      exact g_le (mt_mostAlike_100 h hR hX4 hw) ⟨rfl, rfl, rfl, rfl, trivial⟩
    · have hw := hw.2 c
      refine g_iload_4 97 h.1 dX6_mostAlike_97 ?_
      refine g_istore_2 99 h.1 rfl dX6_mostAlike_99 ?_
      exact g_le (mt_mostAlike_100 h hR hX4 hw) ⟨rfl, rfl, rfl, rfl, trivial⟩
  · have hw := hw.2 c
    refine g_aload_0 41 h.1 dX6_mostAlike_41 ?_
    refine mg_74 42 h dX6_mostAlike_42 ?_
    refine g_iload_5 45 h.1 dX6_mostAlike_45 ?_
    refine g_ishr 47 h.1 dX6_mostAlike_47 ?_
    refine g_iconstv 48 _ ic_1 h.1 dX6_mostAlike_48 ?_
    refine g_iand 49 h.1 dX6_mostAlike_49 ?_
    refine g_iconstv 50 _ ic_1 h.1 dX6_mostAlike_50 ?_
    refine g_icmp_ne 51 85 h.1 dX6_mostAlike_51 (by decide) (fun c => ?_) (fun c => ?_)
    · have hw := hw.1 c
      exact g_le (mt_mostAlike_85 h hR hX4 hX32 hw) ⟨rfl, rfl, rfl, rfl, rfl, rfl, trivial⟩
    · have hw := hw.2 c
      refine g_aload_0 54 h.1 dX6_mostAlike_54 ?_
      refine mg_73 55 h dX6_mostAlike_55 ?_
      refine g_sipush 58 _ sp_1519 h.1 dX6_mostAlike_58 ?_
      refine g_iload_3 61 h.1 dX6_mostAlike_61 ?_
      refine g_imul 62 h.1 dX6_mostAlike_62 ?_
      refine g_iload_1 63 h.1 dX6_mostAlike_63 ?_
      refine g_iadd 64 h.1 dX6_mostAlike_64 ?_
      refine m_iald 65 rfl hw.1 h dX6_mostAlike_65 ?_
      have hw := hw.2
      refine g_aload_0 66 h.1 dX6_mostAlike_66 ?_
      refine mg_73 67 h dX6_mostAlike_67 ?_
      refine g_sipush 70 _ sp_1519 h.1 dX6_mostAlike_70 ?_
      refine g_iload_5 73 h.1 dX6_mostAlike_73 ?_
      refine g_imul 75 h.1 dX6_mostAlike_75 ?_
      refine g_iload_1 76 h.1 dX6_mostAlike_76 ?_
      refine g_iadd 77 h.1 dX6_mostAlike_77 ?_
      refine m_iald 78 rfl hw.1 h dX6_mostAlike_78 ?_
      have hw := hw.2
      refine g_icmp_ne 79 85 h.1 dX6_mostAlike_79 (by decide) (fun c => ?_) (fun c => ?_)
      · have hw := hw.1 c
        exact g_le (mt_mostAlike_85 h hR hX4 hX32 hw) ⟨rfl, rfl, rfl, rfl, rfl, rfl, trivial⟩
      · have hw := hw.2 c
        refine g_iinc_4 82 (x4 + 1) (congrArg _ ic_1) h.1 rfl dX6_mostAlike_82 ?_
        exact g_le (mt_mostAlike_85 h hR hX4 hX32 hw) ⟨rfl, rfl, rfl, rfl, rfl, rfl, trivial⟩
def mw_mostAlike_4 (x1 : Int32) (x2 : Int32) (x3 : Int32) (σ : FS) (Q : Int32 → FS → Prop) : Prop :=
  ∀ X4 : Int32 → Int32 → Int32 → FS → Prop, (∀ (x1 : Int32) (x2 : Int32) (x3 : Int32) (σ : FS), mw_personMany σ (fun r2 σ1 => ((r2 ≤ x3 → Q x2 σ1) ∧ (¬ r2 ≤ x3 → ((¬ (((fI σ1 0 74) >>> (x3 &&& 31)) &&& (1 : Int32)) = 0 → mw_mostAlike_32 X4 x1 x2 x3 (0 : Int32) (0 : Int32) σ1 Q) ∧ ((((fI σ1 0 74) >>> (x3 &&& 31)) &&& (1 : Int32)) = 0 → mw_mostAlike_100 X4 x1 x2 x3 σ1 Q))))) → X4 x1 x2 x3 σ) → X4 x1 x2 x3 σ
theorem mt_mostAlike_4 {κ : Cx} {S : Adr} {Z : State → Prop} {Q : Int32 → FS → Prop} (h : MCx κ cX6_mostAlike S 2) (hR : RetI κ S Z cX6_mostAlike Q) {x1 : Int32} {x2 : Int32} {x3 : Int32} {σ : FS} (hw : mw_mostAlike_4 x1 x2 x3 σ Q) : MG κ S Z 4 σ [some (.ref (S.2.1 0)), some (.int x1), some (.int x2), some (.int x3), none, none] [] := by
  refine hw (fun x1 x2 x3 σ => MG κ S Z 4 σ [some (.ref (S.2.1 0)), some (.int x1), some (.int x2), some (.int x3), none, none] []) ?_
  clear hw
  intro x1 x2 x3 σ hw
  have hX4 : ∀ (x1 : Int32) (x2 : Int32) (x3 : Int32) (σ : FS), MG κ S Z 4 σ [some (.ref (S.2.1 0)), some (.int x1), some (.int x2), some (.int x3), none, none] [] → MG κ S Z 4 σ [some (.ref (S.2.1 0)), some (.int x1), some (.int x2), some (.int x3), none, none] [] := fun _ _ _ _ hh => hh
  refine g_iload_3 4 h.1 dX6_mostAlike_4 ?_
  refine g_aload_0 5 h.1 dX6_mostAlike_5 ?_
  refine m_callI_0 6 h (mm_personMany h.2.2.1 hw) (by decide) q2307 (Nat.le_of_ble_eq_true rfl) dX6_mostAlike_6 (fun r2 σ1 hw => ?_)
  refine g_icmp_ge 9 106 h.1 dX6_mostAlike_9 (by decide) (fun c => ?_) (fun c => ?_)
  · have hw := hw.1 c
    refine g_iload_2 106 h.1 dX6_mostAlike_106 ?_
    exact hR 107 _ _ _ dX6_mostAlike_107 hw
  · have hw := hw.2 c
    refine g_aload_0 12 h.1 dX6_mostAlike_12 ?_
    refine mg_74 13 h dX6_mostAlike_13 ?_
    refine g_iload_3 16 h.1 dX6_mostAlike_16 ?_
    refine g_ishr 17 h.1 dX6_mostAlike_17 ?_
    refine g_iconstv 18 _ ic_1 h.1 dX6_mostAlike_18 ?_
    refine g_iand 19 h.1 dX6_mostAlike_19 ?_
    refine g_if_ne 20 26 h.1 dX6_mostAlike_20 (by decide) (fun c => ?_) (fun c => ?_)
    · have hw := hw.1 c
      refine g_iconstv 26 _ ic_0 h.1 dX6_mostAlike_26 ?_
      refine g_istore_4 27 h.1 rfl dX6_mostAlike_27 ?_
      refine g_iconstv 29 _ ic_0 h.1 dX6_mostAlike_29 ?_
      refine g_istore_5 30 h.1 rfl dX6_mostAlike_30 ?_
      exact g_le (mt_mostAlike_32 h hR hX4 hw) ⟨rfl, rfl, rfl, rfl, rfl, rfl, trivial⟩
    · have hw := hw.2 c
      refine g_goto 23 100 h.1 dX6_mostAlike_23 (by decide) ?_
      exact g_le (mt_mostAlike_100 h hR hX4 hw) ⟨rfl, rfl, rfl, rfl, trivial⟩
def mw_mostAlike (x1 : Int32) (σ : FS) (Q : Int32 → FS → Prop) : Prop :=
  mw_mostAlike_4 x1 (0 : Int32) (0 : Int32) σ Q
theorem mt_mostAlike {κ : Cx} {S : Adr} {Z : State → Prop} {Q : Int32 → FS → Prop} (h : MCx κ cX6_mostAlike S 2) (hR : RetI κ S Z cX6_mostAlike Q) {x1 : Int32} {σ : FS} (hw : mw_mostAlike x1 σ Q) : MG κ S Z 0 σ [some (.ref (S.2.1 0)), some (.int x1), none, none, none, none] [] := by
  unfold mw_mostAlike at hw
  refine g_iconstv 0 _ ic_0 h.1 dX6_mostAlike_0 ?_
  refine g_istore_2 1 h.1 rfl dX6_mostAlike_1 ?_
  refine g_iconstv 2 _ ic_0 h.1 dX6_mostAlike_2 ?_
  refine g_istore_3 3 h.1 rfl dX6_mostAlike_3 ?_
  exact g_le (mt_mostAlike_4 h hR hw) ⟨rfl, rfl, rfl, rfl, trivial⟩
theorem mm_mostAlike {l : Launch} {S : Adr} (hD : MD S) {x1 : Int32} {σ : FS} {Q : Int32 → FS → Prop} (hw : mw_mostAlike x1 σ Q) : mMet l S 2 yX6_mostAlike [.int x1] σ (mQi S Q) :=
  m_metI hD ⟨rfl, by decide, by show _ = some 1; decide +kernel, q2588⟩ q2587 qs157 (Nat.le_of_ble_eq_true rfl) (fun κ Z h hR => mt_mostAlike h hR hw)
def mw_newName_59 (X7 : Int64 → Int32 → FS → Prop) (X15 : Int64 → Int32 → Int32 → FS → Prop) (x1 : Int64) (x3 : Int32) (x4 : Int32) (σ : FS) (Q : Int64 → FS → Prop) : Prop :=
  X15 x1 x3 (x4 + 1) σ
theorem mt_newName_59 {κ : Cx} {S : Adr} {Z : State → Prop} {Q : Int64 → FS → Prop} (h : MCx κ cX6_newName S 5) (hR : RetL κ S Z cX6_newName Q) {X7 : Int64 → Int32 → FS → Prop} {X15 : Int64 → Int32 → Int32 → FS → Prop} (hX7 : ∀ (x1 : Int64) (x3 : Int32) (σ : FS), X7 x1 x3 σ → MG κ S Z 7 σ [some (.ref (S.2.1 0)), some (.long x1), none, some (.int x3), none] []) (hX15 : ∀ (x1 : Int64) (x3 : Int32) (x4 : Int32) (σ : FS), X15 x1 x3 x4 σ → MG κ S Z 15 σ [some (.ref (S.2.1 0)), some (.long x1), none, some (.int x3), some (.int x4)] []) {x1 : Int64} {x3 : Int32} {x4 : Int32} {σ : FS} (hw : mw_newName_59 X7 X15 x1 x3 x4 σ Q) : MG κ S Z 59 σ [some (.ref (S.2.1 0)), some (.long x1), none, some (.int x3), some (.int x4)] [] := by
  unfold mw_newName_59 at hw
  refine g_iinc_4 59 (x4 + 1) (congrArg _ ic_1) h.1 rfl dX6_newName_59 ?_
  refine g_goto 62 15 h.1 dX6_newName_62 (by decide) ?_
  exact g_le (hX15 _ _ _ _ hw) ⟨rfl, rfl, rfl, rfl, trivial⟩
def mw_newName_15 (X7 : Int64 → Int32 → FS → Prop) (x1 : Int64) (x3 : Int32) (x4 : Int32) (σ : FS) (Q : Int64 → FS → Prop) : Prop :=
  ∀ X15 : Int64 → Int32 → Int32 → FS → Prop, (∀ (x1 : Int64) (x3 : Int32) (x4 : Int32) (σ : FS), (vp_in x3 6 ∧ (((fA σ 40 (Int32.toNatClampNeg x3)) ≤ x4 → X7 x1 (x3 + 1) σ) ∧ (¬ (fA σ 40 (Int32.toNatClampNeg x3)) ≤ x4 → ((¬ (fI σ 0 5) = 0 → mw_newName_59 X7 X15 x1 x3 x4 σ Q) ∧ ((fI σ 0 5) = 0 → (vp_in (((8 : Int32) * x3) + x4) 32 ∧ ((¬ (lg_cmp (fB σ 41 (Int32.toNatClampNeg (((8 : Int32) * x3) + x4))) x1) = 0 → mw_newName_59 X7 X15 x1 x3 x4 σ Q) ∧ ((lg_cmp (fB σ 41 (Int32.toNatClampNeg (((8 : Int32) * x3) + x4))) x1) = 0 → mw_fail (3 : Int32) (fI σ 0 38) σ (fun σ3 => mw_newName_59 X7 X15 x1 x3 x4 σ3 Q))))))))) → X15 x1 x3 x4 σ) → X15 x1 x3 x4 σ
theorem mt_newName_15 {κ : Cx} {S : Adr} {Z : State → Prop} {Q : Int64 → FS → Prop} (h : MCx κ cX6_newName S 5) (hR : RetL κ S Z cX6_newName Q) {X7 : Int64 → Int32 → FS → Prop} (hX7 : ∀ (x1 : Int64) (x3 : Int32) (σ : FS), X7 x1 x3 σ → MG κ S Z 7 σ [some (.ref (S.2.1 0)), some (.long x1), none, some (.int x3), none] []) {x1 : Int64} {x3 : Int32} {x4 : Int32} {σ : FS} (hw : mw_newName_15 X7 x1 x3 x4 σ Q) : MG κ S Z 15 σ [some (.ref (S.2.1 0)), some (.long x1), none, some (.int x3), some (.int x4)] [] := by
  refine hw (fun x1 x3 x4 σ => MG κ S Z 15 σ [some (.ref (S.2.1 0)), some (.long x1), none, some (.int x3), some (.int x4)] []) ?_
  clear hw
  intro x1 x3 x4 σ hw
  have hX15 : ∀ (x1 : Int64) (x3 : Int32) (x4 : Int32) (σ : FS), MG κ S Z 15 σ [some (.ref (S.2.1 0)), some (.long x1), none, some (.int x3), some (.int x4)] [] → MG κ S Z 15 σ [some (.ref (S.2.1 0)), some (.long x1), none, some (.int x3), some (.int x4)] [] := fun _ _ _ _ hh => hh
  refine g_iload_4 15 h.1 dX6_newName_15 ?_
  refine g_aload_0 17 h.1 dX6_newName_17 ?_
  refine mg_40 18 h dX6_newName_18 ?_
  refine g_iload_3 21 h.1 dX6_newName_21 ?_
  refine m_iald 22 rfl hw.1 h dX6_newName_22 ?_
  have hw := hw.2
  refine g_icmp_ge 23 65 h.1 dX6_newName_23 (by decide) (fun c => ?_) (fun c => ?_)
  · have hw := hw.1 c
    refine g_iinc_3 65 (x3 + 1) (congrArg _ ic_1) h.1 rfl dX6_newName_65 ?_
    refine g_goto 68 7 h.1 dX6_newName_68 (by decide) ?_
    exact g_le (hX7 _ _ _ hw) ⟨rfl, rfl, rfl, trivial⟩
  · have hw := hw.2 c
    refine g_aload_0 26 h.1 dX6_newName_26 ?_
    refine mg_5 27 h dX6_newName_27 ?_
    refine g_if_ne 30 59 h.1 dX6_newName_30 (by decide) (fun c => ?_) (fun c => ?_)
    · have hw := hw.1 c
      exact g_le (mt_newName_59 h hR hX7 hX15 hw) ⟨rfl, rfl, rfl, rfl, trivial⟩
    · have hw := hw.2 c
      refine g_aload_0 33 h.1 dX6_newName_33 ?_
      refine mg_41 34 h dX6_newName_34 ?_
      refine g_bipush 37 _ bp_8 h.1 dX6_newName_37 ?_
      refine g_iload_3 39 h.1 dX6_newName_39 ?_
      refine g_imul 40 h.1 dX6_newName_40 ?_
      refine g_iload_4 41 h.1 dX6_newName_41 ?_
      refine g_iadd 43 h.1 dX6_newName_43 ?_
      refine m_lald 44 rfl hw.1 h dX6_newName_44 ?_
      have hw := hw.2
      refine g_lload_1 45 h.1 dX6_newName_45 ?_
      refine g_lcmp 46 h.1 dX6_newName_46 ?_
      refine g_if_ne 47 59 h.1 dX6_newName_47 (by decide) (fun c => ?_) (fun c => ?_)
      · have hw := hw.1 c
        exact g_le (mt_newName_59 h hR hX7 hX15 hw) ⟨rfl, rfl, rfl, rfl, trivial⟩
      · have hw := hw.2 c
        refine g_aload_0 50 h.1 dX6_newName_50 ?_
        refine g_iconstv 51 _ ic_3 h.1 dX6_newName_51 ?_
        refine g_aload_0 52 h.1 dX6_newName_52 ?_
        refine mg_38 53 h dX6_newName_53 ?_
        refine m_callV_2 56 h (mm_fail h.2.2.1 hw) (by decide) q2136 (Nat.le_of_ble_eq_true rfl) dX6_newName_56 (fun σ3 hw => ?_)
        exact g_le (mt_newName_59 h hR hX7 hX15 hw) ⟨rfl, rfl, rfl, rfl, trivial⟩
def mw_newName_7 (x1 : Int64) (x3 : Int32) (σ : FS) (Q : Int64 → FS → Prop) : Prop :=
  ∀ X7 : Int64 → Int32 → FS → Prop, (∀ (x1 : Int64) (x3 : Int32) (σ : FS), (((2 : Int32) ≤ x3 → Q x1 σ) ∧ (¬ (2 : Int32) ≤ x3 → mw_newName_15 X7 x1 x3 (0 : Int32) σ Q)) → X7 x1 x3 σ) → X7 x1 x3 σ
theorem mt_newName_7 {κ : Cx} {S : Adr} {Z : State → Prop} {Q : Int64 → FS → Prop} (h : MCx κ cX6_newName S 5) (hR : RetL κ S Z cX6_newName Q) {x1 : Int64} {x3 : Int32} {σ : FS} (hw : mw_newName_7 x1 x3 σ Q) : MG κ S Z 7 σ [some (.ref (S.2.1 0)), some (.long x1), none, some (.int x3), none] [] := by
  refine hw (fun x1 x3 σ => MG κ S Z 7 σ [some (.ref (S.2.1 0)), some (.long x1), none, some (.int x3), none] []) ?_
  clear hw
  intro x1 x3 σ hw
  have hX7 : ∀ (x1 : Int64) (x3 : Int32) (σ : FS), MG κ S Z 7 σ [some (.ref (S.2.1 0)), some (.long x1), none, some (.int x3), none] [] → MG κ S Z 7 σ [some (.ref (S.2.1 0)), some (.long x1), none, some (.int x3), none] [] := fun _ _ _ hh => hh
  refine g_iload_3 7 h.1 dX6_newName_7 ?_
  refine g_iconstv 8 _ ic_2 h.1 dX6_newName_8 ?_
  refine g_icmp_ge 9 71 h.1 dX6_newName_9 (by decide) (fun c => ?_) (fun c => ?_)
  · have hw := hw.1 c
    refine g_lload_1 71 h.1 dX6_newName_71 ?_
    exact hR 72 _ _ _ dX6_newName_72 hw
  · have hw := hw.2 c
    refine g_iconstv 12 _ ic_0 h.1 dX6_newName_12 ?_
    refine g_istore_4 13 h.1 rfl dX6_newName_13 ?_
    exact g_le (mt_newName_15 h hR hX7 hw) ⟨rfl, rfl, rfl, rfl, trivial⟩
def mw_newName (σ : FS) (Q : Int64 → FS → Prop) : Prop :=
  mw_name σ (fun r2 σ1 => mw_newName_7 r2 (0 : Int32) σ1 Q)
theorem mt_newName {κ : Cx} {S : Adr} {Z : State → Prop} {Q : Int64 → FS → Prop} (h : MCx κ cX6_newName S 5) (hR : RetL κ S Z cX6_newName Q) {σ : FS} (hw : mw_newName σ Q) : MG κ S Z 0 σ [some (.ref (S.2.1 0)), none, none, none, none] [] := by
  unfold mw_newName at hw
  refine g_aload_0 0 h.1 dX6_newName_0 ?_
  refine m_callL_0 1 h (mm_name h.2.2.1 hw) (by decide) q2182 (Nat.le_of_ble_eq_true rfl) dX6_newName_1 (fun r2 σ1 hw => ?_)
  refine g_lstore_1 4 h.1 rfl dX6_newName_4 ?_
  refine g_iconstv 5 _ ic_0 h.1 dX6_newName_5 ?_
  refine g_istore_3 6 h.1 rfl dX6_newName_6 ?_
  exact g_le (mt_newName_7 h hR hw) ⟨rfl, rfl, rfl, trivial⟩
theorem mm_newName {l : Launch} {S : Adr} (hD : MD S) {σ : FS} {Q : Int64 → FS → Prop} (hw : mw_newName σ Q) : mMet l S 5 yX6_newName [] σ (mQl S Q) :=
  m_metL hD ⟨rfl, by decide, by show _ = some 0; decide +kernel, q2181⟩ q2180 qs81 (Nat.le_of_ble_eq_true rfl) (fun κ Z h hR => mt_newName h hR hw)
def mw_numberOf (x0 : Int32) (σ : FS) (Q : Int32 → FS → Prop) : Prop :=
  Q (((8 : Int32) * (x0 / (7 : Int32))) + (x0 - x0 / (7 : Int32) * (7 : Int32))) σ
theorem mt_numberOf {κ : Cx} {S : Adr} {Z : State → Prop} {Q : Int32 → FS → Prop} (h : MCx κ cX6_numberOf S 1) (hR : RetI κ S Z cX6_numberOf Q) {x0 : Int32} {σ : FS} (hw : mw_numberOf x0 σ Q) : MG κ S Z 0 σ [some (.int x0)] [] := by
  unfold mw_numberOf at hw
  refine g_bipush 0 _ bp_8 h.1 dX6_numberOf_0 ?_
  refine g_iload_0 2 h.1 dX6_numberOf_2 ?_
  refine g_bipush 3 _ bp_7 h.1 dX6_numberOf_3 ?_
  refine g_idiv 5 (by decide) h.1 dX6_numberOf_5 ?_
  refine g_imul 6 h.1 dX6_numberOf_6 ?_
  refine g_iload_0 7 h.1 dX6_numberOf_7 ?_
  refine g_bipush 8 _ bp_7 h.1 dX6_numberOf_8 ?_
  refine g_irem 10 (by decide) h.1 dX6_numberOf_10 ?_
  refine g_iadd 11 h.1 dX6_numberOf_11 ?_
  exact hR 12 _ _ _ dX6_numberOf_12 hw
theorem mm_numberOf {l : Launch} {S : Adr} (hD : MD S) {x0 : Int32} {σ : FS} {Q : Int32 → FS → Prop} (hw : mw_numberOf x0 σ Q) : mMetS l S 1 yX6_numberOf [.int x0] σ (mQi S Q) :=
  m_smetI hD ⟨rfl, by decide, by show _ = some 1; decide +kernel, q2539⟩ q2538 (Nat.le_of_ble_eq_true rfl) (fun κ Z h hR => mt_numberOf h hR hw)
def mw_octet (x1 : Int32) (σ : FS) (Q : Int32 → FS → Prop) : Prop :=
  ((x1 < 0 → Q (-1 : Int32) σ) ∧ (¬ x1 < 0 → (((fI σ 0 113) ≤ x1 → Q (-1 : Int32) σ) ∧ (¬ (fI σ 0 113) ≤ x1 → (vp_in x1 80 ∧ Q (fA σ 112 (Int32.toNatClampNeg x1)) σ)))))
theorem mt_octet {κ : Cx} {S : Adr} {Z : State → Prop} {Q : Int32 → FS → Prop} (h : MCx κ cX6_octet S 1) (hR : RetI κ S Z cX6_octet Q) {x1 : Int32} {σ : FS} (hw : mw_octet x1 σ Q) : MG κ S Z 0 σ [some (.ref (S.2.1 0)), some (.int x1)] [] := by
  unfold mw_octet at hw
  refine g_iload_1 0 h.1 dX6_octet_0 ?_
  refine g_if_lt 1 21 h.1 dX6_octet_1 (by decide) (fun c => ?_) (fun c => ?_)
  · have hw := hw.1 c
    refine g_iconstv 21 _ ic_m1 h.1 dX6_octet_21 ?_
    exact hR 22 _ _ _ dX6_octet_22 hw
  · have hw := hw.2 c
    refine g_iload_1 4 h.1 dX6_octet_4 ?_
    refine g_aload_0 5 h.1 dX6_octet_5 ?_
    refine mg_113 6 h dX6_octet_6 ?_
    refine g_icmp_ge 9 21 h.1 dX6_octet_9 (by decide) (fun c => ?_) (fun c => ?_)
    · have hw := hw.1 c
      refine g_iconstv 21 _ ic_m1 h.1 dX6_octet_21 ?_
      exact hR 22 _ _ _ dX6_octet_22 hw
    · have hw := hw.2 c
      refine g_aload_0 12 h.1 dX6_octet_12 ?_
      refine mg_112 13 h dX6_octet_13 ?_
      refine g_iload_1 16 h.1 dX6_octet_16 ?_
      refine m_iald 17 rfl hw.1 h dX6_octet_17 ?_
      have hw := hw.2
      refine g_goto 18 22 h.1 dX6_octet_18 (by decide) ?_
      exact hR 22 _ _ _ dX6_octet_22 hw
theorem mm_octet {l : Launch} {S : Adr} (hD : MD S) {x1 : Int32} {σ : FS} {Q : Int32 → FS → Prop} (hw : mw_octet x1 σ Q) : mMet l S 1 yX6_octet [.int x1] σ (mQi S Q) :=
  m_metI hD ⟨rfl, by decide, by show _ = some 1; decide +kernel, q2681⟩ q2679 q2680 (Nat.le_of_ble_eq_true rfl) (fun κ Z h hR => mt_octet h hR hw)
def mw_on_98 (x2 : Int32) (x3 : Int32) (σ : FS) (Q : Int32 → FS → Prop) : Prop :=
  ∀ X98 : Int32 → Int32 → FS → Prop, (∀ (x2 : Int32) (x3 : Int32) (σ : FS), mw_personMany σ (fun r14 σ13 => ((r14 ≤ x3 → (vp_in (71 : Int32) 232 ∧ ∀ σ15, σ15 = sA σ13 52 (Int32.toNatClampNeg (71 : Int32)) (0 : Int32) → (∀ σ16, σ16 = sI σ15 0 76 (0 : Int32) → Q (1 : Int32) σ16))) ∧ (¬ r14 ≤ x3 → (vp_in (x2 + ((4 : Int32) * x3)) 1600 ∧ (vp_in ((x2 + ((4 : Int32) * x3)) + (1 : Int32)) 1600 ∧ mw_cellAt (fA σ13 0 (Int32.toNatClampNeg (x2 + ((4 : Int32) * x3)))) (fA σ13 0 (Int32.toNatClampNeg ((x2 + ((4 : Int32) * x3)) + (1 : Int32)))) σ13 (fun r18 σ17 => (vp_in ((50 : Int32) + ((3 : Int32) * x3)) 232 ∧ ∀ σ19, σ19 = sA σ17 52 (Int32.toNatClampNeg ((50 : Int32) + ((3 : Int32) * x3))) r18 → (vp_in ((x2 + ((4 : Int32) * x3)) + (2 : Int32)) 1600 ∧ (vp_in ((51 : Int32) + ((3 : Int32) * x3)) 232 ∧ ∀ σ20, σ20 = sA σ19 52 (Int32.toNatClampNeg ((51 : Int32) + ((3 : Int32) * x3))) (fA σ19 0 (Int32.toNatClampNeg ((x2 + ((4 : Int32) * x3)) + (2 : Int32)))) → (vp_in ((x2 + ((4 : Int32) * x3)) + (3 : Int32)) 1600 ∧ (vp_in ((52 : Int32) + ((3 : Int32) * x3)) 232 ∧ ∀ σ21, σ21 = sA σ20 52 (Int32.toNatClampNeg ((52 : Int32) + ((3 : Int32) * x3))) (fA σ20 0 (Int32.toNatClampNeg ((x2 + ((4 : Int32) * x3)) + (3 : Int32)))) → X98 x2 (x3 + 1) σ21))))))))))) → X98 x2 x3 σ) → X98 x2 x3 σ
theorem mt_on_98 {κ : Cx} {S : Adr} {Z : State → Prop} {Q : Int32 → FS → Prop} (h : MCx κ cX6_on S 5) (hR : RetZ κ S Z cX6_on Q) {x2 : Int32} {x3 : Int32} {σ : FS} (hw : mw_on_98 x2 x3 σ Q) : MG κ S Z 98 σ [some (.ref (S.2.1 0)), none, some (.int x2), some (.int x3)] [] := by
  refine hw (fun x2 x3 σ => MG κ S Z 98 σ [some (.ref (S.2.1 0)), none, some (.int x2), some (.int x3)] []) ?_
  clear hw
  intro x2 x3 σ hw
  have hX98 : ∀ (x2 : Int32) (x3 : Int32) (σ : FS), MG κ S Z 98 σ [some (.ref (S.2.1 0)), none, some (.int x2), some (.int x3)] [] → MG κ S Z 98 σ [some (.ref (S.2.1 0)), none, some (.int x2), some (.int x3)] [] := fun _ _ _ hh => hh
  refine g_iload_3 98 h.1 dX6_on_98 ?_
  refine g_aload_0 99 h.1 dX6_on_99 ?_
  refine m_callI_0 100 h (mm_personMany h.2.2.1 hw) (by decide) q2307 (Nat.le_of_ble_eq_true rfl) dX6_on_100 (fun r14 σ13 hw => ?_)
  refine g_icmp_ge 103 195 h.1 dX6_on_103 (by decide) (fun c => ?_) (fun c => ?_)
  · have hw := hw.1 c
    refine g_aload_0 195 h.1 dX6_on_195 ?_
    refine mg_52 196 h dX6_on_196 ?_
    refine g_bipush 199 _ bp_71 h.1 dX6_on_199 ?_
    refine g_iconstv 201 _ ic_0 h.1 dX6_on_201 ?_
    refine m_iast 202 rfl hw.1 h dX6_on_202 ?_
    have hw := hw.2 _ rfl
    refine g_aload_0 203 h.1 dX6_on_203 ?_
    refine g_iconstv 204 _ ic_0 h.1 dX6_on_204 ?_
    refine mp_76 205 h dX6_on_205 ?_
    have hw := hw _ rfl
    refine g_iconstv 208 _ ic_1 h.1 dX6_on_208 ?_
    exact hR 209 _ _ _ dX6_on_209 rfl hw
  · have hw := hw.2 c
    refine g_aload_0 106 h.1 dX6_on_106 ?_
    refine mg_52 107 h dX6_on_107 ?_
    refine g_bipush 110 _ bp_50 h.1 dX6_on_110 ?_
    refine g_iconstv 112 _ ic_3 h.1 dX6_on_112 ?_
    refine g_iload_3 113 h.1 dX6_on_113 ?_
    refine g_imul 114 h.1 dX6_on_114 ?_
    refine g_iadd 115 h.1 dX6_on_115 ?_
    refine g_aload_0 116 h.1 dX6_on_116 ?_
    refine g_aload_0 117 h.1 dX6_on_117 ?_
    refine mg_0 118 h dX6_on_118 ?_
    refine g_iload_2 121 h.1 dX6_on_121 ?_
    refine g_iconstv 122 _ ic_4 h.1 dX6_on_122 ?_
    refine g_iload_3 123 h.1 dX6_on_123 ?_
    refine g_imul 124 h.1 dX6_on_124 ?_
    refine g_iadd 125 h.1 dX6_on_125 ?_
    refine m_iald 126 rfl hw.1 h dX6_on_126 ?_
    have hw := hw.2
    refine g_aload_0 127 h.1 dX6_on_127 ?_
    refine mg_0 128 h dX6_on_128 ?_
    refine g_iload_2 131 h.1 dX6_on_131 ?_
    refine g_iconstv 132 _ ic_4 h.1 dX6_on_132 ?_
    refine g_iload_3 133 h.1 dX6_on_133 ?_
    refine g_imul 134 h.1 dX6_on_134 ?_
    refine g_iadd 135 h.1 dX6_on_135 ?_
    refine g_iconstv 136 _ ic_1 h.1 dX6_on_136 ?_
    refine g_iadd 137 h.1 dX6_on_137 ?_
    refine m_iald 138 rfl hw.1 h dX6_on_138 ?_
    have hw := hw.2
    refine m_callI_2 139 h (mm_cellAt h.2.2.1 hw) (by decide) q2340 (Nat.le_of_ble_eq_true rfl) dX6_on_139 (fun r18 σ17 hw => ?_)
    refine m_iast 142 rfl hw.1 h dX6_on_142 ?_
    have hw := hw.2 _ rfl
    refine g_aload_0 143 h.1 dX6_on_143 ?_
    refine mg_52 144 h dX6_on_144 ?_
    refine g_bipush 147 _ bp_51 h.1 dX6_on_147 ?_
    refine g_iconstv 149 _ ic_3 h.1 dX6_on_149 ?_
    refine g_iload_3 150 h.1 dX6_on_150 ?_
    refine g_imul 151 h.1 dX6_on_151 ?_
    refine g_iadd 152 h.1 dX6_on_152 ?_
    refine g_aload_0 153 h.1 dX6_on_153 ?_
    refine mg_0 154 h dX6_on_154 ?_
    refine g_iload_2 157 h.1 dX6_on_157 ?_
    refine g_iconstv 158 _ ic_4 h.1 dX6_on_158 ?_
    refine g_iload_3 159 h.1 dX6_on_159 ?_
    refine g_imul 160 h.1 dX6_on_160 ?_
    refine g_iadd 161 h.1 dX6_on_161 ?_
    refine g_iconstv 162 _ ic_2 h.1 dX6_on_162 ?_
    refine g_iadd 163 h.1 dX6_on_163 ?_
    refine m_iald 164 rfl hw.1 h dX6_on_164 ?_
    have hw := hw.2
    refine m_iast 165 rfl hw.1 h dX6_on_165 ?_
    have hw := hw.2 _ rfl
    refine g_aload_0 166 h.1 dX6_on_166 ?_
    refine mg_52 167 h dX6_on_167 ?_
    refine g_bipush 170 _ bp_52 h.1 dX6_on_170 ?_
    refine g_iconstv 172 _ ic_3 h.1 dX6_on_172 ?_
    refine g_iload_3 173 h.1 dX6_on_173 ?_
    refine g_imul 174 h.1 dX6_on_174 ?_
    refine g_iadd 175 h.1 dX6_on_175 ?_
    refine g_aload_0 176 h.1 dX6_on_176 ?_
    refine mg_0 177 h dX6_on_177 ?_
    refine g_iload_2 180 h.1 dX6_on_180 ?_
    refine g_iconstv 181 _ ic_4 h.1 dX6_on_181 ?_
    refine g_iload_3 182 h.1 dX6_on_182 ?_
    refine g_imul 183 h.1 dX6_on_183 ?_
    refine g_iadd 184 h.1 dX6_on_184 ?_
    refine g_iconstv 185 _ ic_3 h.1 dX6_on_185 ?_
    refine g_iadd 186 h.1 dX6_on_186 ?_
    refine m_iald 187 rfl hw.1 h dX6_on_187 ?_
    have hw := hw.2
    refine m_iast 188 rfl hw.1 h dX6_on_188 ?_
    have hw := hw.2 _ rfl
    refine g_iinc_3 189 (x3 + 1) (congrArg _ ic_1) h.1 rfl dX6_on_189 ?_
    refine g_goto 192 98 h.1 dX6_on_192 (by decide) ?_
    exact g_le (hX98 _ _ _ hw) ⟨rfl, rfl, rfl, trivial⟩
def mw_on_62 (x2 : Int32) (x3 : Int32) (σ : FS) (Q : Int32 → FS → Prop) : Prop :=
  ∀ X62 : Int32 → Int32 → FS → Prop, (∀ (x2 : Int32) (x3 : Int32) (σ : FS), mw_cellMany σ (fun r9 σ8 => ((r9 ≤ x3 → mw_on_98 x2 (0 : Int32) σ8 Q) ∧ (¬ r9 ≤ x3 → mw_cellOrder x3 σ8 (fun r11 σ10 => (vp_in ((2 : Int32) + x3) 1600 ∧ (vp_in ((1 : Int32) + r11) 232 ∧ ∀ σ12, σ12 = sA σ10 52 (Int32.toNatClampNeg ((1 : Int32) + r11)) (fA σ10 0 (Int32.toNatClampNeg ((2 : Int32) + x3))) → X62 x2 (x3 + 1) σ12)))))) → X62 x2 x3 σ) → X62 x2 x3 σ
theorem mt_on_62 {κ : Cx} {S : Adr} {Z : State → Prop} {Q : Int32 → FS → Prop} (h : MCx κ cX6_on S 5) (hR : RetZ κ S Z cX6_on Q) {x2 : Int32} {x3 : Int32} {σ : FS} (hw : mw_on_62 x2 x3 σ Q) : MG κ S Z 62 σ [some (.ref (S.2.1 0)), none, some (.int x2), some (.int x3)] [] := by
  refine hw (fun x2 x3 σ => MG κ S Z 62 σ [some (.ref (S.2.1 0)), none, some (.int x2), some (.int x3)] []) ?_
  clear hw
  intro x2 x3 σ hw
  have hX62 : ∀ (x2 : Int32) (x3 : Int32) (σ : FS), MG κ S Z 62 σ [some (.ref (S.2.1 0)), none, some (.int x2), some (.int x3)] [] → MG κ S Z 62 σ [some (.ref (S.2.1 0)), none, some (.int x2), some (.int x3)] [] := fun _ _ _ hh => hh
  refine g_iload_3 62 h.1 dX6_on_62 ?_
  refine g_aload_0 63 h.1 dX6_on_63 ?_
  refine m_callI_0 64 h (mm_cellMany h.2.2.1 hw) (by decide) q2319 (Nat.le_of_ble_eq_true rfl) dX6_on_64 (fun r9 σ8 hw => ?_)
  refine g_icmp_ge 67 96 h.1 dX6_on_67 (by decide) (fun c => ?_) (fun c => ?_)
  · have hw := hw.1 c
    refine g_iconstv 96 _ ic_0 h.1 dX6_on_96 ?_
    refine g_istore_3 97 h.1 rfl dX6_on_97 ?_
    exact g_le (mt_on_98 h hR hw) ⟨rfl, rfl, rfl, trivial⟩
  · have hw := hw.2 c
    refine g_aload_0 70 h.1 dX6_on_70 ?_
    refine mg_52 71 h dX6_on_71 ?_
    refine g_iconstv 74 _ ic_1 h.1 dX6_on_74 ?_
    refine g_aload_0 75 h.1 dX6_on_75 ?_
    refine g_iload_3 76 h.1 dX6_on_76 ?_
    refine m_callI_1 77 h (mm_cellOrder h.2.2.1 hw) (by decide) q2323 (Nat.le_of_ble_eq_true rfl) dX6_on_77 (fun r11 σ10 hw => ?_)
    refine g_iadd 80 h.1 dX6_on_80 ?_
    refine g_aload_0 81 h.1 dX6_on_81 ?_
    refine mg_0 82 h dX6_on_82 ?_
    refine g_iconstv 85 _ ic_2 h.1 dX6_on_85 ?_
    refine g_iload_3 86 h.1 dX6_on_86 ?_
    refine g_iadd 87 h.1 dX6_on_87 ?_
    refine m_iald 88 rfl hw.1 h dX6_on_88 ?_
    have hw := hw.2
    refine m_iast 89 rfl hw.1 h dX6_on_89 ?_
    have hw := hw.2 _ rfl
    refine g_iinc_3 90 (x3 + 1) (congrArg _ ic_1) h.1 rfl dX6_on_90 ?_
    refine g_goto 93 62 h.1 dX6_on_93 (by decide) ?_
    exact g_le (hX62 _ _ _ hw) ⟨rfl, rfl, rfl, trivial⟩
def mw_on (σ : FS) (Q : Int32 → FS → Prop) : Prop :=
  (∀ σ1, σ1 = sI σ 0 1 (0 : Int32) → mw_isImage (fI σ 0 1) σ1 (fun r3 σ2 => ((¬ r3 = 0 → mw_cellMany σ2 (fun r5 σ4 => (vp_in (0 : Int32) 1600 ∧ (vp_in (1 : Int32) 1600 ∧ (vp_in (0 : Int32) 232 ∧ ∀ σ6, σ6 = sA σ4 52 (Int32.toNatClampNeg (0 : Int32)) (((256 : Int32) * (fA σ4 0 (Int32.toNatClampNeg (0 : Int32)))) + (fA σ4 0 (Int32.toNatClampNeg (1 : Int32)))) → mw_on_62 ((2 : Int32) + r5) (0 : Int32) σ6 Q))))) ∧ (r3 = 0 → (vp_in (5 : Int32) 6 ∧ (vp_in (5 : Int32) 6 ∧ ∀ σ7, σ7 = sA σ2 9 (Int32.toNatClampNeg (5 : Int32)) ((fA σ2 9 (Int32.toNatClampNeg (5 : Int32))) + (1 : Int32)) → Q (0 : Int32) σ7))))))
theorem mt_on {κ : Cx} {S : Adr} {Z : State → Prop} {Q : Int32 → FS → Prop} (h : MCx κ cX6_on S 5) (hR : RetZ κ S Z cX6_on Q) {σ : FS} (hw : mw_on σ Q) : MG κ S Z 0 σ [some (.ref (S.2.1 0)), none, none, none] [] := by
  unfold mw_on at hw
  refine g_aload_0 0 h.1 dX6_on_0 ?_
  refine mg_1 1 h dX6_on_1 ?_
  refine g_istore_1 4 h.1 rfl dX6_on_4 ?_
  refine g_aload_0 5 h.1 dX6_on_5 ?_
  refine g_iconstv 6 _ ic_0 h.1 dX6_on_6 ?_
  refine mp_1 7 h dX6_on_7 ?_
  have hw := hw _ rfl
  refine g_aload_0 10 h.1 dX6_on_10 ?_
  refine g_iload_1 11 h.1 dX6_on_11 ?_
  refine m_callI_1 12 h (mm_isImage h.2.2.1 hw) (by decide) q2686 (Nat.le_of_ble_eq_true rfl) dX6_on_12 (fun r3 σ2 hw => ?_)
  refine g_if_ne 15 30 h.1 dX6_on_15 (by decide) (fun c => ?_) (fun c => ?_)
  · have hw := hw.1 c
    refine g_iconstv 30 _ ic_2 h.1 dX6_on_30 ?_
    refine g_aload_0 31 h.1 dX6_on_31 ?_
    refine m_callI_0 32 h (mm_cellMany h.2.2.1 hw) (by decide) q2319 (Nat.le_of_ble_eq_true rfl) dX6_on_32 (fun r5 σ4 hw => ?_)
    refine g_iadd 35 h.1 dX6_on_35 ?_
    refine g_istore_2 36 h.1 rfl dX6_on_36 ?_
    refine g_aload_0 37 h.1 dX6_on_37 ?_
    refine mg_52 38 h dX6_on_38 ?_
    refine g_iconstv 41 _ ic_0 h.1 dX6_on_41 ?_
    refine g_sipush 42 _ sp_256 h.1 dX6_on_42 ?_
    refine g_aload_0 45 h.1 dX6_on_45 ?_
    refine mg_0 46 h dX6_on_46 ?_
    refine g_iconstv 49 _ ic_0 h.1 dX6_on_49 ?_
    refine m_iald 50 rfl hw.1 h dX6_on_50 ?_
    have hw := hw.2
    refine g_imul 51 h.1 dX6_on_51 ?_
    refine g_aload_0 52 h.1 dX6_on_52 ?_
    refine mg_0 53 h dX6_on_53 ?_
    refine g_iconstv 56 _ ic_1 h.1 dX6_on_56 ?_
    refine m_iald 57 rfl hw.1 h dX6_on_57 ?_
    have hw := hw.2
    refine g_iadd 58 h.1 dX6_on_58 ?_
    refine m_iast 59 rfl hw.1 h dX6_on_59 ?_
    have hw := hw.2 _ rfl
    refine g_iconstv 60 _ ic_0 h.1 dX6_on_60 ?_
    refine g_istore_3 61 h.1 rfl dX6_on_61 ?_
    exact g_le (mt_on_62 h hR hw) ⟨rfl, rfl, rfl, trivial⟩
  · have hw := hw.2 c
    refine g_aload_0 18 h.1 dX6_on_18 ?_
    refine mg_9 19 h dX6_on_19 ?_
    refine g_iconstv 22 _ ic_5 h.1 dX6_on_22 ?_
    refine g_dup2 23 rfl rfl h.1 dX6_on_23 ?_
    refine m_iald 24 rfl hw.1 h dX6_on_24 ?_
    have hw := hw.2
    refine g_iconstv 25 _ ic_1 h.1 dX6_on_25 ?_
    refine g_iadd 26 h.1 dX6_on_26 ?_
    refine m_iast 27 rfl hw.1 h dX6_on_27 ?_
    have hw := hw.2 _ rfl
    refine g_iconstv 28 _ ic_0 h.1 dX6_on_28 ?_
    exact hR 29 _ _ _ dX6_on_29 rfl hw
theorem mm_on {l : Launch} {S : Adr} (hD : MD S) {σ : FS} {Q : Int32 → FS → Prop} (hw : mw_on σ Q) : mMet l S 5 yX6_on [] σ (mQi S Q) :=
  m_metZ hD ⟨rfl, by decide, by show _ = some 0; decide +kernel, q2685⟩ q2683 q2684 (Nat.le_of_ble_eq_true rfl) (fun κ Z h hR => mt_on h hR hw)
def mw_person (x1 : Int32) (x2 : Int32) (σ : FS) (Q : Int32 → FS → Prop) : Prop :=
  mw_isPerson x1 σ (fun r2 σ1 => ((¬ r2 = 0 → ((x2 = 0 → mw_cellOf x1 σ1 (fun r4 σ3 => Q (r4 - r4 / (7 : Int32) * (7 : Int32)) σ3)) ∧ (¬ x2 = 0 → ((x2 = 1 → mw_cellOf x1 σ1 (fun r6 σ5 => Q (r6 / (7 : Int32)) σ5)) ∧ (¬ x2 = 1 → ((x2 = 2 → mw_tiredOf x1 σ1 (fun r8 σ7 => Q r8 σ7)) ∧ (¬ x2 = 2 → ((x2 = 3 → mw_knowsOf x1 σ1 (fun r10 σ9 => Q r10 σ9)) ∧ (¬ x2 = 3 → Q (-1 : Int32) σ1))))))))) ∧ (r2 = 0 → Q (-1 : Int32) σ1)))
theorem mt_person {κ : Cx} {S : Adr} {Z : State → Prop} {Q : Int32 → FS → Prop} (h : MCx κ cX6_person S 3) (hR : RetI κ S Z cX6_person Q) {x1 : Int32} {x2 : Int32} {σ : FS} (hw : mw_person x1 x2 σ Q) : MG κ S Z 0 σ [some (.ref (S.2.1 0)), some (.int x1), some (.int x2)] [] := by
  unfold mw_person at hw
  refine g_aload_0 0 h.1 dX6_person_0 ?_
  refine g_iload_1 1 h.1 dX6_person_1 ?_
  refine m_callI_1 2 h (mm_isPerson h.2.2.1 hw) (by decide) q2348 (Nat.le_of_ble_eq_true rfl) dX6_person_2 (fun r2 σ1 hw => ?_)
  refine g_if_ne 5 10 h.1 dX6_person_5 (by decide) (fun c => ?_) (fun c => ?_)
  · have hw := hw.1 c
    refine g_iload_2 10 h.1 dX6_person_10 ?_
    rcases Classical.em (x2 = 0) with c0 | c0
    · have hw := hw.1 c0
      refine g_tabIn 11 40 29 h.1 dX6_person_11 (by rw [c0]; decide) (by rw [c0]; decide) (by rw [c0]; decide) (by decide) ?_
      refine g_aload_0 40 h.1 dX6_person_40 ?_
      refine g_iload_1 41 h.1 dX6_person_41 ?_
      refine m_callI_1 42 h (mm_cellOf h.2.2.1 hw) (by decide) q2352 (Nat.le_of_ble_eq_true rfl) dX6_person_42 (fun r4 σ3 hw => ?_)
      refine g_bipush 45 _ bp_7 h.1 dX6_person_45 ?_
      refine g_irem 47 (by decide) h.1 dX6_person_47 ?_
      exact hR 48 _ _ _ dX6_person_48 hw
    · have hw := hw.2 c0
      rcases Classical.em (x2 = 1) with c1 | c1
      · have hw := hw.1 c1
        refine g_tabIn 11 49 38 h.1 dX6_person_11 (by rw [c1]; decide) (by rw [c1]; decide) (by rw [c1]; decide) (by decide) ?_
        refine g_aload_0 49 h.1 dX6_person_49 ?_
        refine g_iload_1 50 h.1 dX6_person_50 ?_
        refine m_callI_1 51 h (mm_cellOf h.2.2.1 hw) (by decide) q2352 (Nat.le_of_ble_eq_true rfl) dX6_person_51 (fun r6 σ5 hw => ?_)
        refine g_bipush 54 _ bp_7 h.1 dX6_person_54 ?_
        refine g_idiv 56 (by decide) h.1 dX6_person_56 ?_
        exact hR 57 _ _ _ dX6_person_57 hw
      · have hw := hw.2 c1
        rcases Classical.em (x2 = 2) with c2 | c2
        · have hw := hw.1 c2
          refine g_tabIn 11 58 47 h.1 dX6_person_11 (by rw [c2]; decide) (by rw [c2]; decide) (by rw [c2]; decide) (by decide) ?_
          refine g_aload_0 58 h.1 dX6_person_58 ?_
          refine g_iload_1 59 h.1 dX6_person_59 ?_
          refine m_callI_1 60 h (mm_tiredOf h.2.2.1 hw) (by decide) q2356 (Nat.le_of_ble_eq_true rfl) dX6_person_60 (fun r8 σ7 hw => ?_)
          exact hR 63 _ _ _ dX6_person_63 hw
        · have hw := hw.2 c2
          rcases Classical.em (x2 = 3) with c3 | c3
          · have hw := hw.1 c3
            refine g_tabIn 11 64 53 h.1 dX6_person_11 (by rw [c3]; decide) (by rw [c3]; decide) (by rw [c3]; decide) (by decide) ?_
            refine g_aload_0 64 h.1 dX6_person_64 ?_
            refine g_iload_1 65 h.1 dX6_person_65 ?_
            refine m_callI_1 66 h (mm_knowsOf h.2.2.1 hw) (by decide) q2360 (Nat.le_of_ble_eq_true rfl) dX6_person_66 (fun r10 σ9 hw => ?_)
            exact hR 69 _ _ _ dX6_person_69 hw
          · have hw := hw.2 c3
            refine g_tabOut 11 70 h.1 dX6_person_11 (tabOut_0_3 c0 c1 c2 c3) (by decide) ?_
            refine g_iconstv 70 _ ic_m1 h.1 dX6_person_70 ?_
            exact hR 71 _ _ _ dX6_person_71 hw
  · have hw := hw.2 c
    refine g_iconstv 8 _ ic_m1 h.1 dX6_person_8 ?_
    exact hR 9 _ _ _ dX6_person_9 hw
theorem mm_person {l : Launch} {S : Adr} (hD : MD S) {x1 : Int32} {x2 : Int32} {σ : FS} {Q : Int32 → FS → Prop} (hw : mw_person x1 x2 σ Q) : mMet l S 3 yX6_person [.int x1, .int x2] σ (mQi S Q) :=
  m_metI hD ⟨rfl, by decide, by show _ = some 2; decide +kernel, q2347⟩ q2345 q2346 (Nat.le_of_ble_eq_true rfl) (fun κ Z h hR => mt_person h hR hw)
def mw_personTold_75 (X34 : Int64 → Int32 → Int32 → FS → Prop) (x2 : Int64) (x4 : Int32) (x5 : Int32) (σ : FS) (Q : FS → Prop) : Prop :=
  X34 x2 x4 (x5 + 1) σ
theorem mt_personTold_75 {κ : Cx} {S : Adr} {Z : State → Prop} {Q : FS → Prop} (h : MCx κ cX6_personTold S 6) (hR : RetV κ S Z cX6_personTold Q) {X34 : Int64 → Int32 → Int32 → FS → Prop} (hX34 : ∀ (x2 : Int64) (x4 : Int32) (x5 : Int32) (σ : FS), X34 x2 x4 x5 σ → MG κ S Z 34 σ [some (.ref (S.2.1 0)), none, some (.long x2), none, some (.int x4), some (.int x5), none] []) {x2 : Int64} {x4 : Int32} {x5 : Int32} {σ : FS} (hw : mw_personTold_75 X34 x2 x4 x5 σ Q) : MG κ S Z 75 σ [some (.ref (S.2.1 0)), none, some (.long x2), none, some (.int x4), some (.int x5), none] [] := by
  unfold mw_personTold_75 at hw
  refine g_iinc_5 75 (x5 + 1) (congrArg _ ic_1) h.1 rfl dX6_personTold_75 ?_
  refine g_goto 78 34 h.1 dX6_personTold_78 (by decide) ?_
  exact g_le (hX34 _ _ _ _ hw) ⟨rfl, rfl, rfl, rfl, trivial⟩
def mw_personTold_34 (x2 : Int64) (x4 : Int32) (x5 : Int32) (σ : FS) (Q : FS → Prop) : Prop :=
  ∀ X34 : Int64 → Int32 → Int32 → FS → Prop, (∀ (x2 : Int64) (x4 : Int32) (x5 : Int32) (σ : FS), (vp_in (1 : Int32) 6 ∧ (((fA σ 40 (Int32.toNatClampNeg (1 : Int32))) ≤ x5 → mw_needs 17 σ (fun σ8 => mw_number (0 : Int32) (9 : Int32) σ8 (fun r10 σ9 => (((fI σ9 0 5) = 0 → (vp_in (1 : Int32) 6 ∧ (vp_in (1 : Int32) 6 ∧ (vp_in ((8 : Int32) + (fA σ9 40 (Int32.toNatClampNeg (1 : Int32)))) 32 ∧ ∀ σ11, σ11 = sB σ9 41 (Int32.toNatClampNeg ((8 : Int32) + (fA σ9 40 (Int32.toNatClampNeg (1 : Int32))))) x2 → (vp_in ((3 : Int32) * (fA σ9 40 (Int32.toNatClampNeg (1 : Int32)))) 21 ∧ ∀ σ12, σ12 = sA σ11 43 (Int32.toNatClampNeg ((3 : Int32) * (fA σ9 40 (Int32.toNatClampNeg (1 : Int32))))) x4 → (vp_in (((3 : Int32) * (fA σ9 40 (Int32.toNatClampNeg (1 : Int32)))) + (1 : Int32)) 21 ∧ ∀ σ13, σ13 = sA σ12 43 (Int32.toNatClampNeg (((3 : Int32) * (fA σ9 40 (Int32.toNatClampNeg (1 : Int32)))) + (1 : Int32))) r10 → (vp_in (((3 : Int32) * (fA σ9 40 (Int32.toNatClampNeg (1 : Int32)))) + (2 : Int32)) 21 ∧ ∀ σ14, σ14 = sA σ13 43 (Int32.toNatClampNeg (((3 : Int32) * (fA σ9 40 (Int32.toNatClampNeg (1 : Int32)))) + (2 : Int32))) (0 : Int32) → (vp_in (1 : Int32) 6 ∧ (vp_in (1 : Int32) 6 ∧ ∀ σ15, σ15 = sA σ14 40 (Int32.toNatClampNeg (1 : Int32)) ((fA σ14 40 (Int32.toNatClampNeg (1 : Int32))) + (1 : Int32)) → Q σ15))))))))) ∧ (¬ (fI σ9 0 5) = 0 → Q σ9))))) ∧ (¬ (fA σ 40 (Int32.toNatClampNeg (1 : Int32))) ≤ x5 → ((¬ (fI σ 0 5) = 0 → mw_personTold_75 X34 x2 x4 x5 σ Q) ∧ ((fI σ 0 5) = 0 → (vp_in ((3 : Int32) * x5) 21 ∧ ((¬ (fA σ 43 (Int32.toNatClampNeg ((3 : Int32) * x5))) = x4 → mw_personTold_75 X34 x2 x4 x5 σ Q) ∧ ((fA σ 43 (Int32.toNatClampNeg ((3 : Int32) * x5))) = x4 → mw_fail (2 : Int32) (fI σ 0 10) σ (fun σ16 => mw_personTold_75 X34 x2 x4 x5 σ16 Q))))))))) → X34 x2 x4 x5 σ) → X34 x2 x4 x5 σ
theorem mt_personTold_34 {κ : Cx} {S : Adr} {Z : State → Prop} {Q : FS → Prop} (h : MCx κ cX6_personTold S 6) (hR : RetV κ S Z cX6_personTold Q) {x2 : Int64} {x4 : Int32} {x5 : Int32} {σ : FS} (hw : mw_personTold_34 x2 x4 x5 σ Q) : MG κ S Z 34 σ [some (.ref (S.2.1 0)), none, some (.long x2), none, some (.int x4), some (.int x5), none] [] := by
  refine hw (fun x2 x4 x5 σ => MG κ S Z 34 σ [some (.ref (S.2.1 0)), none, some (.long x2), none, some (.int x4), some (.int x5), none] []) ?_
  clear hw
  intro x2 x4 x5 σ hw
  have hX34 : ∀ (x2 : Int64) (x4 : Int32) (x5 : Int32) (σ : FS), MG κ S Z 34 σ [some (.ref (S.2.1 0)), none, some (.long x2), none, some (.int x4), some (.int x5), none] [] → MG κ S Z 34 σ [some (.ref (S.2.1 0)), none, some (.long x2), none, some (.int x4), some (.int x5), none] [] := fun _ _ _ _ hh => hh
  refine g_iload_5 34 h.1 dX6_personTold_34 ?_
  refine g_aload_0 36 h.1 dX6_personTold_36 ?_
  refine mg_40 37 h dX6_personTold_37 ?_
  refine g_iconstv 40 _ ic_1 h.1 dX6_personTold_40 ?_
  refine m_iald 41 rfl hw.1 h dX6_personTold_41 ?_
  have hw := hw.2
  refine g_icmp_ge 42 81 h.1 dX6_personTold_42 (by decide) (fun c => ?_) (fun c => ?_)
  · have hw := hw.1 c
    refine g_aload_0 81 h.1 dX6_personTold_81 ?_
    refine g_aload_0 82 h.1 dX6_personTold_82 ?_
    refine mg_17 83 h dX6_personTold_83 ?_
    refine m_callV_1 86 h (mm_needs h.2.2.1 hw) (by decide) q2117 (Nat.le_of_ble_eq_true rfl) dX6_personTold_86 (fun σ8 hw => ?_)
    refine g_aload_0 89 h.1 dX6_personTold_89 ?_
    refine g_iconstv 90 _ ic_0 h.1 dX6_personTold_90 ?_
    refine g_bipush 91 _ bp_9 h.1 dX6_personTold_91 ?_
    refine m_callI_2 93 h (mm_number h.2.2.1 hw) (by decide) q2140 (Nat.le_of_ble_eq_true rfl) dX6_personTold_93 (fun r10 σ9 hw => ?_)
    refine g_istore_5 96 h.1 rfl dX6_personTold_96 ?_
    refine g_aload_0 98 h.1 dX6_personTold_98 ?_
    refine mg_5 99 h dX6_personTold_99 ?_
    refine g_if_eq 102 106 h.1 dX6_personTold_102 (by decide) (fun c => ?_) (fun c => ?_)
    · have hw := hw.1 c
      refine g_iconstv 106 _ ic_3 h.1 dX6_personTold_106 ?_
      refine g_aload_0 107 h.1 dX6_personTold_107 ?_
      refine mg_40 108 h dX6_personTold_108 ?_
      refine g_iconstv 111 _ ic_1 h.1 dX6_personTold_111 ?_
      refine m_iald 112 rfl hw.1 h dX6_personTold_112 ?_
      have hw := hw.2
      refine g_imul 113 h.1 dX6_personTold_113 ?_
      refine g_istore_6 114 h.1 rfl dX6_personTold_114 ?_
      refine g_aload_0 116 h.1 dX6_personTold_116 ?_
      refine mg_41 117 h dX6_personTold_117 ?_
      refine g_bipush 120 _ bp_8 h.1 dX6_personTold_120 ?_
      refine g_aload_0 122 h.1 dX6_personTold_122 ?_
      refine mg_40 123 h dX6_personTold_123 ?_
      refine g_iconstv 126 _ ic_1 h.1 dX6_personTold_126 ?_
      refine m_iald 127 rfl hw.1 h dX6_personTold_127 ?_
      have hw := hw.2
      refine g_iadd 128 h.1 dX6_personTold_128 ?_
      refine g_lload_2 129 h.1 dX6_personTold_129 ?_
      refine m_last 130 rfl hw.1 h dX6_personTold_130 ?_
      have hw := hw.2 _ rfl
      refine g_aload_0 131 h.1 dX6_personTold_131 ?_
      refine mg_43 132 h dX6_personTold_132 ?_
      refine g_iload_6 135 h.1 dX6_personTold_135 ?_
      refine g_iload_4 137 h.1 dX6_personTold_137 ?_
      refine m_iast 139 rfl hw.1 h dX6_personTold_139 ?_
      have hw := hw.2 _ rfl
      refine g_aload_0 140 h.1 dX6_personTold_140 ?_
      refine mg_43 141 h dX6_personTold_141 ?_
      refine g_iload_6 144 h.1 dX6_personTold_144 ?_
      refine g_iconstv 146 _ ic_1 h.1 dX6_personTold_146 ?_
      refine g_iadd 147 h.1 dX6_personTold_147 ?_
      refine g_iload_5 148 h.1 dX6_personTold_148 ?_
      refine m_iast 150 rfl hw.1 h dX6_personTold_150 ?_
      have hw := hw.2 _ rfl
      refine g_aload_0 151 h.1 dX6_personTold_151 ?_
      refine mg_43 152 h dX6_personTold_152 ?_
      refine g_iload_6 155 h.1 dX6_personTold_155 ?_
      refine g_iconstv 157 _ ic_2 h.1 dX6_personTold_157 ?_
      refine g_iadd 158 h.1 dX6_personTold_158 ?_
      refine g_iconstv 159 _ ic_0 h.1 dX6_personTold_159 ?_
      refine m_iast 160 rfl hw.1 h dX6_personTold_160 ?_
      have hw := hw.2 _ rfl
      refine g_aload_0 161 h.1 dX6_personTold_161 ?_
      refine mg_40 162 h dX6_personTold_162 ?_
      refine g_iconstv 165 _ ic_1 h.1 dX6_personTold_165 ?_
      refine g_dup2 166 rfl rfl h.1 dX6_personTold_166 ?_
      refine m_iald 167 rfl hw.1 h dX6_personTold_167 ?_
      have hw := hw.2
      refine g_iconstv 168 _ ic_1 h.1 dX6_personTold_168 ?_
      refine g_iadd 169 h.1 dX6_personTold_169 ?_
      refine m_iast 170 rfl hw.1 h dX6_personTold_170 ?_
      have hw := hw.2 _ rfl
      exact hR 171 _ _ dX6_personTold_171 hw
    · have hw := hw.2 c
      exact hR 105 _ _ dX6_personTold_105 hw
  · have hw := hw.2 c
    refine g_aload_0 45 h.1 dX6_personTold_45 ?_
    refine mg_5 46 h dX6_personTold_46 ?_
    refine g_if_ne 49 75 h.1 dX6_personTold_49 (by decide) (fun c => ?_) (fun c => ?_)
    · have hw := hw.1 c
      exact g_le (mt_personTold_75 h hR hX34 hw) ⟨rfl, rfl, rfl, rfl, trivial⟩
    · have hw := hw.2 c
      refine g_aload_0 52 h.1 dX6_personTold_52 ?_
      refine mg_43 53 h dX6_personTold_53 ?_
      refine g_iconstv 56 _ ic_3 h.1 dX6_personTold_56 ?_
      refine g_iload_5 57 h.1 dX6_personTold_57 ?_
      refine g_imul 59 h.1 dX6_personTold_59 ?_
      refine m_iald 60 rfl hw.1 h dX6_personTold_60 ?_
      have hw := hw.2
      refine g_iload_4 61 h.1 dX6_personTold_61 ?_
      refine g_icmp_ne 63 75 h.1 dX6_personTold_63 (by decide) (fun c => ?_) (fun c => ?_)
      · have hw := hw.1 c
        exact g_le (mt_personTold_75 h hR hX34 hw) ⟨rfl, rfl, rfl, rfl, trivial⟩
      · have hw := hw.2 c
        refine g_aload_0 66 h.1 dX6_personTold_66 ?_
        refine g_iconstv 67 _ ic_2 h.1 dX6_personTold_67 ?_
        refine g_aload_0 68 h.1 dX6_personTold_68 ?_
        refine mg_10 69 h dX6_personTold_69 ?_
        refine m_callV_2 72 h (mm_fail h.2.2.1 hw) (by decide) q2136 (Nat.le_of_ble_eq_true rfl) dX6_personTold_72 (fun σ16 hw => ?_)
        exact g_le (mt_personTold_75 h hR hX34 hw) ⟨rfl, rfl, rfl, rfl, trivial⟩
def mw_personTold (x1 : Int32) (σ : FS) (Q : FS → Prop) : Prop :=
  mw_isFull (1 : Int32) (7 : Int32) x1 σ (fun r2 σ1 => ((r2 = 0 → mw_newName σ1 (fun r4 σ3 => mw_needs 16 σ3 (fun σ5 => mw_cellTold σ5 (fun r7 σ6 => mw_personTold_34 r4 r7 (0 : Int32) σ6 Q)))) ∧ (¬ r2 = 0 → Q σ1)))
theorem mt_personTold {κ : Cx} {S : Adr} {Z : State → Prop} {Q : FS → Prop} (h : MCx κ cX6_personTold S 6) (hR : RetV κ S Z cX6_personTold Q) {x1 : Int32} {σ : FS} (hw : mw_personTold x1 σ Q) : MG κ S Z 0 σ [some (.ref (S.2.1 0)), some (.int x1), none, none, none, none, none] [] := by
  unfold mw_personTold at hw
  refine g_aload_0 0 h.1 dX6_personTold_0 ?_
  refine g_iconstv 1 _ ic_1 h.1 dX6_personTold_1 ?_
  refine g_bipush 2 _ bp_7 h.1 dX6_personTold_2 ?_
  refine g_iload_1 4 h.1 dX6_personTold_4 ?_
  refine m_callI_3 5 h (mm_isFull h.2.2.1 hw) (by decide) q2174 (Nat.le_of_ble_eq_true rfl) dX6_personTold_5 (fun r2 σ1 hw => ?_)
  refine g_if_eq 8 12 h.1 dX6_personTold_8 (by decide) (fun c => ?_) (fun c => ?_)
  · have hw := hw.1 c
    refine g_aload_0 12 h.1 dX6_personTold_12 ?_
    refine m_callL_0 13 h (mm_newName h.2.2.1 hw) (by decide) q2178 (Nat.le_of_ble_eq_true rfl) dX6_personTold_13 (fun r4 σ3 hw => ?_)
    refine g_lstore_2 16 h.1 rfl dX6_personTold_16 ?_
    refine g_aload_0 17 h.1 dX6_personTold_17 ?_
    refine g_aload_0 18 h.1 dX6_personTold_18 ?_
    refine mg_16 19 h dX6_personTold_19 ?_
    refine m_callV_1 22 h (mm_needs h.2.2.1 hw) (by decide) q2117 (Nat.le_of_ble_eq_true rfl) dX6_personTold_22 (fun σ5 hw => ?_)
    refine g_aload_0 25 h.1 dX6_personTold_25 ?_
    refine m_callI_0 26 h (mm_cellTold h.2.2.1 hw) (by decide) q2166 (Nat.le_of_ble_eq_true rfl) dX6_personTold_26 (fun r7 σ6 hw => ?_)
    refine g_istore_4 29 h.1 rfl dX6_personTold_29 ?_
    refine g_iconstv 31 _ ic_0 h.1 dX6_personTold_31 ?_
    refine g_istore_5 32 h.1 rfl dX6_personTold_32 ?_
    exact g_le (mt_personTold_34 h hR hw) ⟨rfl, rfl, rfl, rfl, trivial⟩
  · have hw := hw.2 c
    exact hR 11 _ _ dX6_personTold_11 hw
theorem mm_personTold {l : Launch} {S : Adr} (hD : MD S) {x1 : Int32} {σ : FS} {Q : FS → Prop} (hw : mw_personTold x1 σ Q) : mMet l S 6 yX6_personTold [.int x1] σ (mQv S Q) :=
  m_metV hD ⟨rfl, by decide, by show _ = some 1; decide +kernel, q2195⟩ q2194 qs84 (Nat.le_of_ble_eq_true rfl) (fun κ Z h hR => mt_personTold h hR hw)
def mw_plainTold (σ : FS) (Q : FS → Prop) : Prop :=
  mw_needs 11 σ (fun σ1 => mw_number (3 : Int32) (7 : Int32) σ1 (fun r3 σ2 => (vp_in (0 : Int32) 6 ∧ ∀ σ4, σ4 = sA σ2 39 (Int32.toNatClampNeg (0 : Int32)) r3 → mw_needs 12 σ4 (fun σ5 => mw_number (3 : Int32) (7 : Int32) σ5 (fun r7 σ6 => (vp_in (1 : Int32) 6 ∧ ∀ σ8, σ8 = sA σ6 39 (Int32.toNatClampNeg (1 : Int32)) r7 → mw_asksSign (59 : Int32) σ8 (fun σ9 => Q σ9)))))))
theorem mt_plainTold {κ : Cx} {S : Adr} {Z : State → Prop} {Q : FS → Prop} (h : MCx κ cX6_plainTold S 5) (hR : RetV κ S Z cX6_plainTold Q) {σ : FS} (hw : mw_plainTold σ Q) : MG κ S Z 0 σ [some (.ref (S.2.1 0))] [] := by
  unfold mw_plainTold at hw
  refine g_aload_0 0 h.1 dX6_plainTold_0 ?_
  refine g_aload_0 1 h.1 dX6_plainTold_1 ?_
  refine mg_11 2 h dX6_plainTold_2 ?_
  refine m_callV_1 5 h (mm_needs h.2.2.1 hw) (by decide) q2117 (Nat.le_of_ble_eq_true rfl) dX6_plainTold_5 (fun σ1 hw => ?_)
  refine g_aload_0 8 h.1 dX6_plainTold_8 ?_
  refine mg_39 9 h dX6_plainTold_9 ?_
  refine g_iconstv 12 _ ic_0 h.1 dX6_plainTold_12 ?_
  refine g_aload_0 13 h.1 dX6_plainTold_13 ?_
  refine g_iconstv 14 _ ic_3 h.1 dX6_plainTold_14 ?_
  refine g_bipush 15 _ bp_7 h.1 dX6_plainTold_15 ?_
  refine m_callI_2 17 h (mm_number h.2.2.1 hw) (by decide) q2140 (Nat.le_of_ble_eq_true rfl) dX6_plainTold_17 (fun r3 σ2 hw => ?_)
  refine m_iast 20 rfl hw.1 h dX6_plainTold_20 ?_
  have hw := hw.2 _ rfl
  refine g_aload_0 21 h.1 dX6_plainTold_21 ?_
  refine g_aload_0 22 h.1 dX6_plainTold_22 ?_
  refine mg_12 23 h dX6_plainTold_23 ?_
  refine m_callV_1 26 h (mm_needs h.2.2.1 hw) (by decide) q2117 (Nat.le_of_ble_eq_true rfl) dX6_plainTold_26 (fun σ5 hw => ?_)
  refine g_aload_0 29 h.1 dX6_plainTold_29 ?_
  refine mg_39 30 h dX6_plainTold_30 ?_
  refine g_iconstv 33 _ ic_1 h.1 dX6_plainTold_33 ?_
  refine g_aload_0 34 h.1 dX6_plainTold_34 ?_
  refine g_iconstv 35 _ ic_3 h.1 dX6_plainTold_35 ?_
  refine g_bipush 36 _ bp_7 h.1 dX6_plainTold_36 ?_
  refine m_callI_2 38 h (mm_number h.2.2.1 hw) (by decide) q2140 (Nat.le_of_ble_eq_true rfl) dX6_plainTold_38 (fun r7 σ6 hw => ?_)
  refine m_iast 41 rfl hw.1 h dX6_plainTold_41 ?_
  have hw := hw.2 _ rfl
  refine g_aload_0 42 h.1 dX6_plainTold_42 ?_
  refine g_bipush 43 _ bp_59 h.1 dX6_plainTold_43 ?_
  refine m_callV_1 45 h (mm_asksSign h.2.2.1 hw) (by decide) q2150 (Nat.le_of_ble_eq_true rfl) dX6_plainTold_45 (fun σ9 hw => ?_)
  exact hR 48 _ _ dX6_plainTold_48 hw
theorem mm_plainTold {l : Launch} {S : Adr} (hD : MD S) {σ : FS} {Q : FS → Prop} (hw : mw_plainTold σ Q) : mMet l S 5 yX6_plainTold [] σ (mQv S Q) :=
  m_metV hD ⟨rfl, by decide, by show _ = some 0; decide +kernel, q2116⟩ q2115 qs67 (Nat.le_of_ble_eq_true rfl) (fun κ Z h hR => mt_plainTold h hR hw)
def mw_stands_216 (x1 : Int32) (σ : FS) (Q : FS → Prop) : Prop :=
  ∀ X216 : Int32 → FS → Prop, (∀ (x1 : Int32) (σ : FS), (vp_in (1 : Int32) 6 ∧ ((((3 : Int32) * (fA σ 40 (Int32.toNatClampNeg (1 : Int32)))) ≤ x1 → (∀ σ11, σ11 = sI σ 0 76 (0 : Int32) → (∀ σ12, σ12 = sI σ11 0 71 (0 : Int32) → Q σ12))) ∧ (¬ ((3 : Int32) * (fA σ 40 (Int32.toNatClampNeg (1 : Int32)))) ≤ x1 → (vp_in x1 21 ∧ (vp_in ((50 : Int32) + x1) 232 ∧ ∀ σ13, σ13 = sA σ 52 (Int32.toNatClampNeg ((50 : Int32) + x1)) (fA σ 43 (Int32.toNatClampNeg x1)) → X216 (x1 + 1) σ13))))) → X216 x1 σ) → X216 x1 σ
theorem mt_stands_216 {κ : Cx} {S : Adr} {Z : State → Prop} {Q : FS → Prop} (h : MCx κ cX6_stands S 1) (hR : RetV κ S Z cX6_stands Q) {x1 : Int32} {σ : FS} (hw : mw_stands_216 x1 σ Q) : MG κ S Z 216 σ [some (.ref (S.2.1 0)), some (.int x1)] [] := by
  refine hw (fun x1 σ => MG κ S Z 216 σ [some (.ref (S.2.1 0)), some (.int x1)] []) ?_
  clear hw
  intro x1 σ hw
  have hX216 : ∀ (x1 : Int32) (σ : FS), MG κ S Z 216 σ [some (.ref (S.2.1 0)), some (.int x1)] [] → MG κ S Z 216 σ [some (.ref (S.2.1 0)), some (.int x1)] [] := fun _ _ hh => hh
  refine g_iload_1 216 h.1 dX6_stands_216 ?_
  refine g_iconstv 217 _ ic_3 h.1 dX6_stands_217 ?_
  refine g_aload_0 218 h.1 dX6_stands_218 ?_
  refine mg_40 219 h dX6_stands_219 ?_
  refine g_iconstv 222 _ ic_1 h.1 dX6_stands_222 ?_
  refine m_iald 223 rfl hw.1 h dX6_stands_223 ?_
  have hw := hw.2
  refine g_imul 224 h.1 dX6_stands_224 ?_
  refine g_icmp_ge 225 249 h.1 dX6_stands_225 (by decide) (fun c => ?_) (fun c => ?_)
  · have hw := hw.1 c
    refine g_aload_0 249 h.1 dX6_stands_249 ?_
    refine g_iconstv 250 _ ic_0 h.1 dX6_stands_250 ?_
    refine mp_76 251 h dX6_stands_251 ?_
    have hw := hw _ rfl
    refine g_aload_0 254 h.1 dX6_stands_254 ?_
    refine g_iconstv 255 _ ic_0 h.1 dX6_stands_255 ?_
    refine mp_71 256 h dX6_stands_256 ?_
    have hw := hw _ rfl
    exact hR 259 _ _ dX6_stands_259 hw
  · have hw := hw.2 c
    refine g_aload_0 228 h.1 dX6_stands_228 ?_
    refine mg_52 229 h dX6_stands_229 ?_
    refine g_bipush 232 _ bp_50 h.1 dX6_stands_232 ?_
    refine g_iload_1 234 h.1 dX6_stands_234 ?_
    refine g_iadd 235 h.1 dX6_stands_235 ?_
    refine g_aload_0 236 h.1 dX6_stands_236 ?_
    refine mg_43 237 h dX6_stands_237 ?_
    refine g_iload_1 240 h.1 dX6_stands_240 ?_
    refine m_iald 241 rfl hw.1 h dX6_stands_241 ?_
    have hw := hw.2
    refine m_iast 242 rfl hw.1 h dX6_stands_242 ?_
    have hw := hw.2 _ rfl
    refine g_iinc_1 243 (x1 + 1) (congrArg _ ic_1) h.1 rfl dX6_stands_243 ?_
    refine g_goto 246 216 h.1 dX6_stands_246 (by decide) ?_
    exact g_le (hX216 _ _ hw) ⟨rfl, rfl, trivial⟩
def mw_stands_188 (x1 : Int32) (σ : FS) (Q : FS → Prop) : Prop :=
  ∀ X188 : Int32 → FS → Prop, (∀ (x1 : Int32) (σ : FS), (((49 : Int32) ≤ x1 → mw_stands_216 (0 : Int32) σ Q) ∧ (¬ (49 : Int32) ≤ x1 → (vp_in x1 49 ∧ (vp_in ((1 : Int32) + x1) 232 ∧ ∀ σ10, σ10 = sA σ 52 (Int32.toNatClampNeg ((1 : Int32) + x1)) (fA σ 42 (Int32.toNatClampNeg x1)) → X188 (x1 + 1) σ10)))) → X188 x1 σ) → X188 x1 σ
theorem mt_stands_188 {κ : Cx} {S : Adr} {Z : State → Prop} {Q : FS → Prop} (h : MCx κ cX6_stands S 1) (hR : RetV κ S Z cX6_stands Q) {x1 : Int32} {σ : FS} (hw : mw_stands_188 x1 σ Q) : MG κ S Z 188 σ [some (.ref (S.2.1 0)), some (.int x1)] [] := by
  refine hw (fun x1 σ => MG κ S Z 188 σ [some (.ref (S.2.1 0)), some (.int x1)] []) ?_
  clear hw
  intro x1 σ hw
  have hX188 : ∀ (x1 : Int32) (σ : FS), MG κ S Z 188 σ [some (.ref (S.2.1 0)), some (.int x1)] [] → MG κ S Z 188 σ [some (.ref (S.2.1 0)), some (.int x1)] [] := fun _ _ hh => hh
  refine g_iload_1 188 h.1 dX6_stands_188 ?_
  refine g_bipush 189 _ bp_49 h.1 dX6_stands_189 ?_
  refine g_icmp_ge 191 214 h.1 dX6_stands_191 (by decide) (fun c => ?_) (fun c => ?_)
  · have hw := hw.1 c
    refine g_iconstv 214 _ ic_0 h.1 dX6_stands_214 ?_
    refine g_istore_1 215 h.1 rfl dX6_stands_215 ?_
    exact g_le (mt_stands_216 h hR hw) ⟨rfl, rfl, trivial⟩
  · have hw := hw.2 c
    refine g_aload_0 194 h.1 dX6_stands_194 ?_
    refine mg_52 195 h dX6_stands_195 ?_
    refine g_iconstv 198 _ ic_1 h.1 dX6_stands_198 ?_
    refine g_iload_1 199 h.1 dX6_stands_199 ?_
    refine g_iadd 200 h.1 dX6_stands_200 ?_
    refine g_aload_0 201 h.1 dX6_stands_201 ?_
    refine mg_42 202 h dX6_stands_202 ?_
    refine g_iload_1 205 h.1 dX6_stands_205 ?_
    refine m_iald 206 rfl hw.1 h dX6_stands_206 ?_
    have hw := hw.2
    refine m_iast 207 rfl hw.1 h dX6_stands_207 ?_
    have hw := hw.2 _ rfl
    refine g_iinc_1 208 (x1 + 1) (congrArg _ ic_1) h.1 rfl dX6_stands_208 ?_
    refine g_goto 211 188 h.1 dX6_stands_211 (by decide) ?_
    exact g_le (hX188 _ _ hw) ⟨rfl, rfl, trivial⟩
def mw_stands_166 (x1 : Int32) (σ : FS) (Q : FS → Prop) : Prop :=
  ∀ X166 : Int32 → FS → Prop, (∀ (x1 : Int32) (σ : FS), (((232 : Int32) ≤ x1 → mw_stands_188 (0 : Int32) σ Q) ∧ (¬ (232 : Int32) ≤ x1 → (vp_in x1 232 ∧ ∀ σ9, σ9 = sA σ 52 (Int32.toNatClampNeg x1) (0 : Int32) → X166 (x1 + 1) σ9))) → X166 x1 σ) → X166 x1 σ
theorem mt_stands_166 {κ : Cx} {S : Adr} {Z : State → Prop} {Q : FS → Prop} (h : MCx κ cX6_stands S 1) (hR : RetV κ S Z cX6_stands Q) {x1 : Int32} {σ : FS} (hw : mw_stands_166 x1 σ Q) : MG κ S Z 166 σ [some (.ref (S.2.1 0)), some (.int x1)] [] := by
  refine hw (fun x1 σ => MG κ S Z 166 σ [some (.ref (S.2.1 0)), some (.int x1)] []) ?_
  clear hw
  intro x1 σ hw
  have hX166 : ∀ (x1 : Int32) (σ : FS), MG κ S Z 166 σ [some (.ref (S.2.1 0)), some (.int x1)] [] → MG κ S Z 166 σ [some (.ref (S.2.1 0)), some (.int x1)] [] := fun _ _ hh => hh
  refine g_iload_1 166 h.1 dX6_stands_166 ?_
  refine g_sipush 167 _ sp_232 h.1 dX6_stands_167 ?_
  refine g_icmp_ge 170 186 h.1 dX6_stands_170 (by decide) (fun c => ?_) (fun c => ?_)
  · have hw := hw.1 c
    refine g_iconstv 186 _ ic_0 h.1 dX6_stands_186 ?_
    refine g_istore_1 187 h.1 rfl dX6_stands_187 ?_
    exact g_le (mt_stands_188 h hR hw) ⟨rfl, rfl, trivial⟩
  · have hw := hw.2 c
    refine g_aload_0 173 h.1 dX6_stands_173 ?_
    refine mg_52 174 h dX6_stands_174 ?_
    refine g_iload_1 177 h.1 dX6_stands_177 ?_
    refine g_iconstv 178 _ ic_0 h.1 dX6_stands_178 ?_
    refine m_iast 179 rfl hw.1 h dX6_stands_179 ?_
    have hw := hw.2 _ rfl
    refine g_iinc_1 180 (x1 + 1) (congrArg _ ic_1) h.1 rfl dX6_stands_180 ?_
    refine g_goto 183 166 h.1 dX6_stands_183 (by decide) ?_
    exact g_le (hX166 _ _ hw) ⟨rfl, rfl, trivial⟩
def mw_stands_134 (x1 : Int32) (σ : FS) (Q : FS → Prop) : Prop :=
  ∀ X134 : Int32 → FS → Prop, (∀ (x1 : Int32) (σ : FS), (((fI σ 0 48) ≤ x1 → mw_stands_166 (0 : Int32) σ Q) ∧ (¬ (fI σ 0 48) ≤ x1 → (vp_in x1 3200 ∧ (vp_in ((1600 : Int32) + x1) 3200 ∧ ∀ σ8, σ8 = sA σ 47 (Int32.toNatClampNeg ((1600 : Int32) + x1)) (fA σ 47 (Int32.toNatClampNeg x1)) → X134 (x1 + 1) σ8)))) → X134 x1 σ) → X134 x1 σ
theorem mt_stands_134 {κ : Cx} {S : Adr} {Z : State → Prop} {Q : FS → Prop} (h : MCx κ cX6_stands S 1) (hR : RetV κ S Z cX6_stands Q) {x1 : Int32} {σ : FS} (hw : mw_stands_134 x1 σ Q) : MG κ S Z 134 σ [some (.ref (S.2.1 0)), some (.int x1)] [] := by
  refine hw (fun x1 σ => MG κ S Z 134 σ [some (.ref (S.2.1 0)), some (.int x1)] []) ?_
  clear hw
  intro x1 σ hw
  have hX134 : ∀ (x1 : Int32) (σ : FS), MG κ S Z 134 σ [some (.ref (S.2.1 0)), some (.int x1)] [] → MG κ S Z 134 σ [some (.ref (S.2.1 0)), some (.int x1)] [] := fun _ _ hh => hh
  refine g_iload_1 134 h.1 dX6_stands_134 ?_
  refine g_aload_0 135 h.1 dX6_stands_135 ?_
  refine mg_48 136 h dX6_stands_136 ?_
  refine g_icmp_ge 139 164 h.1 dX6_stands_139 (by decide) (fun c => ?_) (fun c => ?_)
  · have hw := hw.1 c
    refine g_iconstv 164 _ ic_0 h.1 dX6_stands_164 ?_
    refine g_istore_1 165 h.1 rfl dX6_stands_165 ?_
    exact g_le (mt_stands_166 h hR hw) ⟨rfl, rfl, trivial⟩
  · have hw := hw.2 c
    refine g_aload_0 142 h.1 dX6_stands_142 ?_
    refine mg_47 143 h dX6_stands_143 ?_
    refine g_sipush 146 _ sp_1600 h.1 dX6_stands_146 ?_
    refine g_iload_1 149 h.1 dX6_stands_149 ?_
    refine g_iadd 150 h.1 dX6_stands_150 ?_
    refine g_aload_0 151 h.1 dX6_stands_151 ?_
    refine mg_47 152 h dX6_stands_152 ?_
    refine g_iload_1 155 h.1 dX6_stands_155 ?_
    refine m_iald 156 rfl hw.1 h dX6_stands_156 ?_
    have hw := hw.2
    refine m_iast 157 rfl hw.1 h dX6_stands_157 ?_
    have hw := hw.2 _ rfl
    refine g_iinc_1 158 (x1 + 1) (congrArg _ ic_1) h.1 rfl dX6_stands_158 ?_
    refine g_goto 161 134 h.1 dX6_stands_161 (by decide) ?_
    exact g_le (hX134 _ _ hw) ⟨rfl, rfl, trivial⟩
def mw_stands_105 (x1 : Int32) (σ : FS) (Q : FS → Prop) : Prop :=
  ∀ X105 : Int32 → FS → Prop, (∀ (x1 : Int32) (σ : FS), (((24 : Int32) ≤ x1 → mw_stands_134 (0 : Int32) σ Q) ∧ (¬ (24 : Int32) ≤ x1 → (vp_in x1 48 ∧ (vp_in ((24 : Int32) + x1) 48 ∧ ∀ σ7, σ7 = sA σ 44 (Int32.toNatClampNeg ((24 : Int32) + x1)) (fA σ 44 (Int32.toNatClampNeg x1)) → X105 (x1 + 1) σ7)))) → X105 x1 σ) → X105 x1 σ
theorem mt_stands_105 {κ : Cx} {S : Adr} {Z : State → Prop} {Q : FS → Prop} (h : MCx κ cX6_stands S 1) (hR : RetV κ S Z cX6_stands Q) {x1 : Int32} {σ : FS} (hw : mw_stands_105 x1 σ Q) : MG κ S Z 105 σ [some (.ref (S.2.1 0)), some (.int x1)] [] := by
  refine hw (fun x1 σ => MG κ S Z 105 σ [some (.ref (S.2.1 0)), some (.int x1)] []) ?_
  clear hw
  intro x1 σ hw
  have hX105 : ∀ (x1 : Int32) (σ : FS), MG κ S Z 105 σ [some (.ref (S.2.1 0)), some (.int x1)] [] → MG κ S Z 105 σ [some (.ref (S.2.1 0)), some (.int x1)] [] := fun _ _ hh => hh
  refine g_iload_1 105 h.1 dX6_stands_105 ?_
  refine g_bipush 106 _ bp_24 h.1 dX6_stands_106 ?_
  refine g_icmp_ge 108 132 h.1 dX6_stands_108 (by decide) (fun c => ?_) (fun c => ?_)
  · have hw := hw.1 c
    refine g_iconstv 132 _ ic_0 h.1 dX6_stands_132 ?_
    refine g_istore_1 133 h.1 rfl dX6_stands_133 ?_
    exact g_le (mt_stands_134 h hR hw) ⟨rfl, rfl, trivial⟩
  · have hw := hw.2 c
    refine g_aload_0 111 h.1 dX6_stands_111 ?_
    refine mg_44 112 h dX6_stands_112 ?_
    refine g_bipush 115 _ bp_24 h.1 dX6_stands_115 ?_
    refine g_iload_1 117 h.1 dX6_stands_117 ?_
    refine g_iadd 118 h.1 dX6_stands_118 ?_
    refine g_aload_0 119 h.1 dX6_stands_119 ?_
    refine mg_44 120 h dX6_stands_120 ?_
    refine g_iload_1 123 h.1 dX6_stands_123 ?_
    refine m_iald 124 rfl hw.1 h dX6_stands_124 ?_
    have hw := hw.2
    refine m_iast 125 rfl hw.1 h dX6_stands_125 ?_
    have hw := hw.2 _ rfl
    refine g_iinc_1 126 (x1 + 1) (congrArg _ ic_1) h.1 rfl dX6_stands_126 ?_
    refine g_goto 129 105 h.1 dX6_stands_129 (by decide) ?_
    exact g_le (hX105 _ _ hw) ⟨rfl, rfl, trivial⟩
def mw_stands_76 (x1 : Int32) (σ : FS) (Q : FS → Prop) : Prop :=
  ∀ X76 : Int32 → FS → Prop, (∀ (x1 : Int32) (σ : FS), (((16 : Int32) ≤ x1 → mw_stands_105 (0 : Int32) σ Q) ∧ (¬ (16 : Int32) ≤ x1 → (vp_in x1 32 ∧ (vp_in ((16 : Int32) + x1) 32 ∧ ∀ σ6, σ6 = sB σ 41 (Int32.toNatClampNeg ((16 : Int32) + x1)) (fB σ 41 (Int32.toNatClampNeg x1)) → X76 (x1 + 1) σ6)))) → X76 x1 σ) → X76 x1 σ
theorem mt_stands_76 {κ : Cx} {S : Adr} {Z : State → Prop} {Q : FS → Prop} (h : MCx κ cX6_stands S 1) (hR : RetV κ S Z cX6_stands Q) {x1 : Int32} {σ : FS} (hw : mw_stands_76 x1 σ Q) : MG κ S Z 76 σ [some (.ref (S.2.1 0)), some (.int x1)] [] := by
  refine hw (fun x1 σ => MG κ S Z 76 σ [some (.ref (S.2.1 0)), some (.int x1)] []) ?_
  clear hw
  intro x1 σ hw
  have hX76 : ∀ (x1 : Int32) (σ : FS), MG κ S Z 76 σ [some (.ref (S.2.1 0)), some (.int x1)] [] → MG κ S Z 76 σ [some (.ref (S.2.1 0)), some (.int x1)] [] := fun _ _ hh => hh
  refine g_iload_1 76 h.1 dX6_stands_76 ?_
  refine g_bipush 77 _ bp_16 h.1 dX6_stands_77 ?_
  refine g_icmp_ge 79 103 h.1 dX6_stands_79 (by decide) (fun c => ?_) (fun c => ?_)
  · have hw := hw.1 c
    refine g_iconstv 103 _ ic_0 h.1 dX6_stands_103 ?_
    refine g_istore_1 104 h.1 rfl dX6_stands_104 ?_
    exact g_le (mt_stands_105 h hR hw) ⟨rfl, rfl, trivial⟩
  · have hw := hw.2 c
    refine g_aload_0 82 h.1 dX6_stands_82 ?_
    refine mg_41 83 h dX6_stands_83 ?_
    refine g_bipush 86 _ bp_16 h.1 dX6_stands_86 ?_
    refine g_iload_1 88 h.1 dX6_stands_88 ?_
    refine g_iadd 89 h.1 dX6_stands_89 ?_
    refine g_aload_0 90 h.1 dX6_stands_90 ?_
    refine mg_41 91 h dX6_stands_91 ?_
    refine g_iload_1 94 h.1 dX6_stands_94 ?_
    refine m_lald 95 rfl hw.1 h dX6_stands_95 ?_
    have hw := hw.2
    refine m_last 96 rfl hw.1 h dX6_stands_96 ?_
    have hw := hw.2 _ rfl
    refine g_iinc_1 97 (x1 + 1) (congrArg _ ic_1) h.1 rfl dX6_stands_97 ?_
    refine g_goto 100 76 h.1 dX6_stands_100 (by decide) ?_
    exact g_le (hX76 _ _ hw) ⟨rfl, rfl, trivial⟩
def mw_stands_7 (x1 : Int32) (σ : FS) (Q : FS → Prop) : Prop :=
  ∀ X7 : Int32 → FS → Prop, (∀ (x1 : Int32) (σ : FS), (((3 : Int32) ≤ x1 → mw_stands_76 (0 : Int32) σ Q) ∧ (¬ (3 : Int32) ≤ x1 → (vp_in x1 6 ∧ (vp_in ((3 : Int32) + x1) 6 ∧ ∀ σ2, σ2 = sA σ 39 (Int32.toNatClampNeg ((3 : Int32) + x1)) (fA σ 39 (Int32.toNatClampNeg x1)) → (vp_in x1 6 ∧ (vp_in ((3 : Int32) + x1) 6 ∧ ∀ σ3, σ3 = sA σ2 40 (Int32.toNatClampNeg ((3 : Int32) + x1)) (fA σ2 40 (Int32.toNatClampNeg x1)) → (vp_in x1 6 ∧ (vp_in ((3 : Int32) + x1) 6 ∧ ∀ σ4, σ4 = sA σ3 45 (Int32.toNatClampNeg ((3 : Int32) + x1)) (fA σ3 45 (Int32.toNatClampNeg x1)) → (vp_in x1 6 ∧ (vp_in ((3 : Int32) + x1) 6 ∧ ∀ σ5, σ5 = sA σ4 46 (Int32.toNatClampNeg ((3 : Int32) + x1)) (fA σ4 46 (Int32.toNatClampNeg x1)) → X7 (x1 + 1) σ5)))))))))) → X7 x1 σ) → X7 x1 σ
theorem mt_stands_7 {κ : Cx} {S : Adr} {Z : State → Prop} {Q : FS → Prop} (h : MCx κ cX6_stands S 1) (hR : RetV κ S Z cX6_stands Q) {x1 : Int32} {σ : FS} (hw : mw_stands_7 x1 σ Q) : MG κ S Z 7 σ [some (.ref (S.2.1 0)), some (.int x1)] [] := by
  refine hw (fun x1 σ => MG κ S Z 7 σ [some (.ref (S.2.1 0)), some (.int x1)] []) ?_
  clear hw
  intro x1 σ hw
  have hX7 : ∀ (x1 : Int32) (σ : FS), MG κ S Z 7 σ [some (.ref (S.2.1 0)), some (.int x1)] [] → MG κ S Z 7 σ [some (.ref (S.2.1 0)), some (.int x1)] [] := fun _ _ hh => hh
  refine g_iload_1 7 h.1 dX6_stands_7 ?_
  refine g_iconstv 8 _ ic_3 h.1 dX6_stands_8 ?_
  refine g_icmp_ge 9 74 h.1 dX6_stands_9 (by decide) (fun c => ?_) (fun c => ?_)
  · have hw := hw.1 c
    refine g_iconstv 74 _ ic_0 h.1 dX6_stands_74 ?_
    refine g_istore_1 75 h.1 rfl dX6_stands_75 ?_
    exact g_le (mt_stands_76 h hR hw) ⟨rfl, rfl, trivial⟩
  · have hw := hw.2 c
    refine g_aload_0 12 h.1 dX6_stands_12 ?_
    refine mg_39 13 h dX6_stands_13 ?_
    refine g_iconstv 16 _ ic_3 h.1 dX6_stands_16 ?_
    refine g_iload_1 17 h.1 dX6_stands_17 ?_
    refine g_iadd 18 h.1 dX6_stands_18 ?_
    refine g_aload_0 19 h.1 dX6_stands_19 ?_
    refine mg_39 20 h dX6_stands_20 ?_
    refine g_iload_1 23 h.1 dX6_stands_23 ?_
    refine m_iald 24 rfl hw.1 h dX6_stands_24 ?_
    have hw := hw.2
    refine m_iast 25 rfl hw.1 h dX6_stands_25 ?_
    have hw := hw.2 _ rfl
    refine g_aload_0 26 h.1 dX6_stands_26 ?_
    refine mg_40 27 h dX6_stands_27 ?_
    refine g_iconstv 30 _ ic_3 h.1 dX6_stands_30 ?_
    refine g_iload_1 31 h.1 dX6_stands_31 ?_
    refine g_iadd 32 h.1 dX6_stands_32 ?_
    refine g_aload_0 33 h.1 dX6_stands_33 ?_
    refine mg_40 34 h dX6_stands_34 ?_
    refine g_iload_1 37 h.1 dX6_stands_37 ?_
    refine m_iald 38 rfl hw.1 h dX6_stands_38 ?_
    have hw := hw.2
    refine m_iast 39 rfl hw.1 h dX6_stands_39 ?_
    have hw := hw.2 _ rfl
    refine g_aload_0 40 h.1 dX6_stands_40 ?_
    refine mg_45 41 h dX6_stands_41 ?_
    refine g_iconstv 44 _ ic_3 h.1 dX6_stands_44 ?_
    refine g_iload_1 45 h.1 dX6_stands_45 ?_
    refine g_iadd 46 h.1 dX6_stands_46 ?_
    refine g_aload_0 47 h.1 dX6_stands_47 ?_
    refine mg_45 48 h dX6_stands_48 ?_
    refine g_iload_1 51 h.1 dX6_stands_51 ?_
    refine m_iald 52 rfl hw.1 h dX6_stands_52 ?_
    have hw := hw.2
    refine m_iast 53 rfl hw.1 h dX6_stands_53 ?_
    have hw := hw.2 _ rfl
    refine g_aload_0 54 h.1 dX6_stands_54 ?_
    refine mg_46 55 h dX6_stands_55 ?_
    refine g_iconstv 58 _ ic_3 h.1 dX6_stands_58 ?_
    refine g_iload_1 59 h.1 dX6_stands_59 ?_
    refine g_iadd 60 h.1 dX6_stands_60 ?_
    refine g_aload_0 61 h.1 dX6_stands_61 ?_
    refine mg_46 62 h dX6_stands_62 ?_
    refine g_iload_1 65 h.1 dX6_stands_65 ?_
    refine m_iald 66 rfl hw.1 h dX6_stands_66 ?_
    have hw := hw.2
    refine m_iast 67 rfl hw.1 h dX6_stands_67 ?_
    have hw := hw.2 _ rfl
    refine g_iinc_1 68 (x1 + 1) (congrArg _ ic_1) h.1 rfl dX6_stands_68 ?_
    refine g_goto 71 7 h.1 dX6_stands_71 (by decide) ?_
    exact g_le (hX7 _ _ hw) ⟨rfl, rfl, trivial⟩
def mw_stands (σ : FS) (Q : FS → Prop) : Prop :=
  (∀ σ1, σ1 = sI σ 0 50 (1 : Int32) → mw_stands_7 (0 : Int32) σ1 Q)
theorem mt_stands {κ : Cx} {S : Adr} {Z : State → Prop} {Q : FS → Prop} (h : MCx κ cX6_stands S 1) (hR : RetV κ S Z cX6_stands Q) {σ : FS} (hw : mw_stands σ Q) : MG κ S Z 0 σ [some (.ref (S.2.1 0)), none] [] := by
  unfold mw_stands at hw
  refine g_aload_0 0 h.1 dX6_stands_0 ?_
  refine g_iconstv 1 _ ic_1 h.1 dX6_stands_1 ?_
  refine mp_50 2 rfl rfl h dX6_stands_2 ?_
  have hw := hw _ rfl
  refine g_iconstv 5 _ ic_0 h.1 dX6_stands_5 ?_
  refine g_istore_1 6 h.1 rfl dX6_stands_6 ?_
  exact g_le (mt_stands_7 h hR hw) ⟨rfl, rfl, trivial⟩
theorem mm_stands {l : Launch} {S : Adr} (hD : MD S) {σ : FS} {Q : FS → Prop} (hw : mw_stands σ Q) : mMet l S 1 yX6_stands [] σ (mQv S Q) :=
  m_metV hD ⟨rfl, by decide, by show _ = some 0; decide +kernel, q2294⟩ q2293 qs108 (Nat.le_of_ble_eq_true rfl) (fun κ Z h hR => mt_stands h hR hw)
