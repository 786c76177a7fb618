/-! THE REFERENCE, walked: for each cut point of each method its predicate and its walk (written by gen_w.py) -/
theorem bp_6 : (Int8.ofInt 6).toInt32 = 6 := by decide
theorem bp_7 : (Int8.ofInt 7).toInt32 = 7 := by decide
theorem bp_8 : (Int8.ofInt 8).toInt32 = 8 := by decide
theorem bp_9 : (Int8.ofInt 9).toInt32 = 9 := by decide
theorem bp_10 : (Int8.ofInt 10).toInt32 = 10 := by decide
theorem bp_11 : (Int8.ofInt 11).toInt32 = 11 := by decide
theorem bp_12 : (Int8.ofInt 12).toInt32 = 12 := by decide
theorem bp_13 : (Int8.ofInt 13).toInt32 = 13 := by decide
theorem bp_16 : (Int8.ofInt 16).toInt32 = 16 := by decide
theorem bp_20 : (Int8.ofInt 20).toInt32 = 20 := by decide
theorem bp_21 : (Int8.ofInt 21).toInt32 = 21 := by decide
theorem bp_22 : (Int8.ofInt 22).toInt32 = 22 := by decide
theorem bp_23 : (Int8.ofInt 23).toInt32 = 23 := by decide
theorem bp_24 : (Int8.ofInt 24).toInt32 = 24 := by decide
theorem bp_25 : (Int8.ofInt 25).toInt32 = 25 := by decide
theorem bp_30 : (Int8.ofInt 30).toInt32 = 30 := by decide
theorem bp_32 : (Int8.ofInt 32).toInt32 = 32 := by decide
theorem bp_40 : (Int8.ofInt 40).toInt32 = 40 := by decide
theorem bp_41 : (Int8.ofInt 41).toInt32 = 41 := by decide
theorem bp_42 : (Int8.ofInt 42).toInt32 = 42 := by decide
theorem bp_43 : (Int8.ofInt 43).toInt32 = 43 := by decide
theorem bp_44 : (Int8.ofInt 44).toInt32 = 44 := by decide
theorem bp_45 : (Int8.ofInt 45).toInt32 = 45 := by decide
theorem bp_47 : (Int8.ofInt 47).toInt32 = 47 := by decide
theorem bp_48 : (Int8.ofInt 48).toInt32 = 48 := by decide
theorem bp_49 : (Int8.ofInt 49).toInt32 = 49 := by decide
theorem bp_50 : (Int8.ofInt 50).toInt32 = 50 := by decide
theorem bp_51 : (Int8.ofInt 51).toInt32 = 51 := by decide
theorem bp_52 : (Int8.ofInt 52).toInt32 = 52 := by decide
theorem bp_57 : (Int8.ofInt 57).toInt32 = 57 := by decide
theorem bp_59 : (Int8.ofInt 59).toInt32 = 59 := by decide
theorem bp_60 : (Int8.ofInt 60).toInt32 = 60 := by decide
theorem bp_61 : (Int8.ofInt 61).toInt32 = 61 := by decide
theorem bp_62 : (Int8.ofInt 62).toInt32 = 62 := by decide
theorem bp_71 : (Int8.ofInt 71).toInt32 = 71 := by decide
theorem bp_72 : (Int8.ofInt 72).toInt32 = 72 := by decide
theorem bp_80 : (Int8.ofInt 80).toInt32 = 80 := by decide
theorem bp_91 : (Int8.ofInt 91).toInt32 = 91 := by decide
theorem bp_93 : (Int8.ofInt 93).toInt32 = 93 := by decide
theorem bp_97 : (Int8.ofInt 97).toInt32 = 97 := by decide
theorem bp_99 : (Int8.ofInt 99).toInt32 = 99 := by decide
theorem bp_100 : (Int8.ofInt 100).toInt32 = 100 := by decide
theorem bp_122 : (Int8.ofInt 122).toInt32 = 122 := by decide
theorem ic_m1 : Int32.ofInt (-1) = (-1) := by decide
theorem ic_0 : Int32.ofInt 0 = 0 := by decide
theorem ic_1 : Int32.ofInt 1 = 1 := by decide
theorem ic_2 : Int32.ofInt 2 = 2 := by decide
theorem ic_3 : Int32.ofInt 3 = 3 := by decide
theorem ic_4 : Int32.ofInt 4 = 4 := by decide
theorem ic_5 : Int32.ofInt 5 = 5 := by decide
theorem lc_0 : Int64.ofNat ((0 : Fin 2) : Nat) = 0 := by decide
theorem lc_1 : Int64.ofNat ((1 : Fin 2) : Nat) = 1 := by decide
theorem sp_227 : (Int16.ofInt 227).toInt32 = 227 := by decide
theorem sp_228 : (Int16.ofInt 228).toInt32 = 228 := by decide
theorem sp_232 : (Int16.ofInt 232).toInt32 = 232 := by decide
theorem sp_251 : (Int16.ofInt 251).toInt32 = 251 := by decide
theorem sp_255 : (Int16.ofInt 255).toInt32 = 255 := by decide
theorem sp_256 : (Int16.ofInt 256).toInt32 = 256 := by decide
theorem sp_999 : (Int16.ofInt 999).toInt32 = 999 := by decide
theorem sp_1000 : (Int16.ofInt 1000).toInt32 = 1000 := by decide
theorem sp_1519 : (Int16.ofInt 1519).toInt32 = 1519 := by decide
theorem sp_1600 : (Int16.ofInt 1600).toInt32 = 1600 := by decide
theorem sp_9999 : (Int16.ofInt 9999).toInt32 = 9999 := by decide
theorem tabOut_0_3 {x : Int32} (h0 : ¬ x = 0) (h1 : ¬ x = 1) (h2 : ¬ x = 2) (h3 : ¬ x = 3) : x.toInt < 0 ∨ 3 < x.toInt := by
  have e0 : ¬ x.toInt = 0 := fun e => h0 (Int32.toInt_inj.mp (e.trans (by decide))); have e1 : ¬ x.toInt = 1 := fun e => h1 (Int32.toInt_inj.mp (e.trans (by decide))); have e2 : ¬ x.toInt = 2 := fun e => h2 (Int32.toInt_inj.mp (e.trans (by decide))); have e3 : ¬ x.toInt = 3 := fun e => h3 (Int32.toInt_inj.mp (e.trans (by decide))); omega
theorem tabOut_0_7 {x : Int32} (h0 : ¬ x = 0) (h1 : ¬ x = 1) (h2 : ¬ x = 2) (h3 : ¬ x = 3) (h4 : ¬ x = 4) (h5 : ¬ x = 5) (h6 : ¬ x = 6) (h7 : ¬ x = 7) : x.toInt < 0 ∨ 7 < x.toInt := by
  have e0 : ¬ x.toInt = 0 := fun e => h0 (Int32.toInt_inj.mp (e.trans (by decide))); have e1 : ¬ x.toInt = 1 := fun e => h1 (Int32.toInt_inj.mp (e.trans (by decide))); have e2 : ¬ x.toInt = 2 := fun e => h2 (Int32.toInt_inj.mp (e.trans (by decide))); have e3 : ¬ x.toInt = 3 := fun e => h3 (Int32.toInt_inj.mp (e.trans (by decide))); have e4 : ¬ x.toInt = 4 := fun e => h4 (Int32.toInt_inj.mp (e.trans (by decide))); have e5 : ¬ x.toInt = 5 := fun e => h5 (Int32.toInt_inj.mp (e.trans (by decide))); have e6 : ¬ x.toInt = 6 := fun e => h6 (Int32.toInt_inj.mp (e.trans (by decide))); have e7 : ¬ x.toInt = 7 := fun e => h7 (Int32.toInt_inj.mp (e.trans (by decide))); omega
theorem tabOut_0_9 {x : Int32} (h0 : ¬ x = 0) (h1 : ¬ x = 1) (h2 : ¬ x = 2) (h3 : ¬ x = 3) (h4 : ¬ x = 4) (h5 : ¬ x = 5) (h6 : ¬ x = 6) (h7 : ¬ x = 7) (h8 : ¬ x = 8) (h9 : ¬ x = 9) : x.toInt < 0 ∨ 9 < x.toInt := by
  have e0 : ¬ x.toInt = 0 := fun e => h0 (Int32.toInt_inj.mp (e.trans (by decide))); have e1 : ¬ x.toInt = 1 := fun e => h1 (Int32.toInt_inj.mp (e.trans (by decide))); have e2 : ¬ x.toInt = 2 := fun e => h2 (Int32.toInt_inj.mp (e.trans (by decide))); have e3 : ¬ x.toInt = 3 := fun e => h3 (Int32.toInt_inj.mp (e.trans (by decide))); have e4 : ¬ x.toInt = 4 := fun e => h4 (Int32.toInt_inj.mp (e.trans (by decide))); have e5 : ¬ x.toInt = 5 := fun e => h5 (Int32.toInt_inj.mp (e.trans (by decide))); have e6 : ¬ x.toInt = 6 := fun e => h6 (Int32.toInt_inj.mp (e.trans (by decide))); have e7 : ¬ x.toInt = 7 := fun e => h7 (Int32.toInt_inj.mp (e.trans (by decide))); have e8 : ¬ x.toInt = 8 := fun e => h8 (Int32.toInt_inj.mp (e.trans (by decide))); have e9 : ¬ x.toInt = 9 := fun e => h9 (Int32.toInt_inj.mp (e.trans (by decide))); omega
theorem tabOut_1_10 {x : Int32} (h0 : ¬ x = 1) (h1 : ¬ x = 2) (h2 : ¬ x = 3) (h3 : ¬ x = 4) (h4 : ¬ x = 5) (h5 : ¬ x = 6) (h6 : ¬ x = 7) (h7 : ¬ x = 8) (h8 : ¬ x = 9) (h9 : ¬ x = 10) : x.toInt < 1 ∨ 10 < x.toInt := by
  have e0 : ¬ x.toInt = 1 := fun e => h0 (Int32.toInt_inj.mp (e.trans (by decide))); have e1 : ¬ x.toInt = 2 := fun e => h1 (Int32.toInt_inj.mp (e.trans (by decide))); have e2 : ¬ x.toInt = 3 := fun e => h2 (Int32.toInt_inj.mp (e.trans (by decide))); have e3 : ¬ x.toInt = 4 := fun e => h3 (Int32.toInt_inj.mp (e.trans (by decide))); have e4 : ¬ x.toInt = 5 := fun e => h4 (Int32.toInt_inj.mp (e.trans (by decide))); have e5 : ¬ x.toInt = 6 := fun e => h5 (Int32.toInt_inj.mp (e.trans (by decide))); have e6 : ¬ x.toInt = 7 := fun e => h6 (Int32.toInt_inj.mp (e.trans (by decide))); have e7 : ¬ x.toInt = 8 := fun e => h7 (Int32.toInt_inj.mp (e.trans (by decide))); have e8 : ¬ x.toInt = 9 := fun e => h8 (Int32.toInt_inj.mp (e.trans (by decide))); have e9 : ¬ x.toInt = 10 := fun e => h9 (Int32.toInt_inj.mp (e.trans (by decide))); omega
def mw_fail (x1 : Int32) (x2 : Int32) (σ : FS) (Q : FS → Prop) : Prop :=
  (((fI σ 0 5) = 0 → (∀ σ1, σ1 = sI σ 0 5 x1 → (∀ σ2, σ2 = sI σ1 0 6 x2 → Q σ2))) ∧ (¬ (fI σ 0 5) = 0 → Q σ))
theorem mt_fail {κ : Cx} {S : Adr} {Z : State → Prop} {Q : FS → Prop} (h : MCx κ cX6_fail S 1) (hR : RetV κ S Z cX6_fail Q) {x1 : Int32} {x2 : Int32} {σ : FS} (hw : mw_fail x1 x2 σ Q) : MG κ S Z 0 σ [some (.ref (S.2.1 0)), some (.int x1), some (.int x2)] [] := by
  unfold mw_fail at hw
  refine g_aload_0 0 h.1 dX6_fail_0 ?_
  refine mg_5 1 h dX6_fail_1 ?_
  refine g_if_eq 4 8 h.1 dX6_fail_4 (by decide) (fun c => ?_) (fun c => ?_)
  · have hw := hw.1 c
    refine g_aload_0 8 h.1 dX6_fail_8 ?_
    refine g_iload_1 9 h.1 dX6_fail_9 ?_
    refine mp_5 10 h dX6_fail_10 ?_
    have hw := hw _ rfl
    refine g_aload_0 13 h.1 dX6_fail_13 ?_
    refine g_iload_2 14 h.1 dX6_fail_14 ?_
    refine mp_6 15 h dX6_fail_15 ?_
    have hw := hw _ rfl
    exact hR 18 _ _ dX6_fail_18 hw
  · have hw := hw.2 c
    exact hR 7 _ _ dX6_fail_7 hw
theorem mm_fail {l : Launch} {S : Adr} (hD : MD S) {x1 : Int32} {x2 : Int32} {σ : FS} {Q : FS → Prop} (hw : mw_fail x1 x2 σ Q) : mMet l S 1 yX6_fail [.int x1, .int x2] σ (mQv S Q) :=
  m_metV hD ⟨rfl, by decide, by show _ = some 2; decide +kernel, q2139⟩ q2138 qs72 (Nat.le_of_ble_eq_true rfl) (fun κ Z h hR => mt_fail h hR hw)
def mw_cellOf (x1 : Int32) (σ : FS) (Q : Int32 → FS → Prop) : Prop :=
  (vp_in ((50 : Int32) + ((3 : Int32) * x1)) 232 ∧ Q (fA σ 52 (Int32.toNatClampNeg ((50 : Int32) + ((3 : Int32) * x1)))) σ)
theorem mt_cellOf {κ : Cx} {S : Adr} {Z : State → Prop} {Q : Int32 → FS → Prop} (h : MCx κ cX6_cellOf S 1) (hR : RetI κ S Z cX6_cellOf Q) {x1 : Int32} {σ : FS} (hw : mw_cellOf x1 σ Q) : MG κ S Z 0 σ [some (.ref (S.2.1 0)), some (.int x1)] [] := by
  unfold mw_cellOf at hw
  refine g_aload_0 0 h.1 dX6_cellOf_0 ?_
  refine mg_52 1 h dX6_cellOf_1 ?_
  refine g_bipush 4 _ bp_50 h.1 dX6_cellOf_4 ?_
  refine g_iconstv 6 _ ic_3 h.1 dX6_cellOf_6 ?_
  refine g_iload_1 7 h.1 dX6_cellOf_7 ?_
  refine g_imul 8 h.1 dX6_cellOf_8 ?_
  refine g_iadd 9 h.1 dX6_cellOf_9 ?_
  refine m_iald 10 rfl hw.1 h dX6_cellOf_10 ?_
  have hw := hw.2
  exact hR 11 _ _ _ dX6_cellOf_11 hw
theorem mm_cellOf {l : Launch} {S : Adr} (hD : MD S) {x1 : Int32} {σ : FS} {Q : Int32 → FS → Prop} (hw : mw_cellOf x1 σ Q) : mMet l S 1 yX6_cellOf [.int x1] σ (mQi S Q) :=
  m_metI hD ⟨rfl, by decide, by show _ = some 1; decide +kernel, q2355⟩ q2354 qs118 (Nat.le_of_ble_eq_true rfl) (fun κ Z h hR => mt_cellOf h hR hw)
def mw_qClip (x0 : Int64) (σ : FS) (Q : Int64 → FS → Prop) : Prop :=
  (((lg_cmp x0 (1000000 : Int64)) ≤ 0 → ((0 ≤ (lg_cmp x0 (-1000000 : Int64)) → Q x0 σ) ∧ (¬ 0 ≤ (lg_cmp x0 (-1000000 : Int64)) → Q (-1000000 : Int64) σ))) ∧ (¬ (lg_cmp x0 (1000000 : Int64)) ≤ 0 → Q (1000000 : Int64) σ))
theorem mt_qClip {κ : Cx} {S : Adr} {Z : State → Prop} {Q : Int64 → FS → Prop} (h : MCx κ cX6_qClip S 1) (hR : RetL κ S Z cX6_qClip Q) {x0 : Int64} {σ : FS} (hw : mw_qClip x0 σ Q) : MG κ S Z 0 σ [some (.long x0), none] [] := by
  unfold mw_qClip at hw
  refine g_lload_0 0 h.1 dX6_qClip_0 ?_
  refine g_ldc2 1 h.1 q2402 dX6_qClip_1 ?_
  refine g_lcmp 4 h.1 dX6_qClip_4 ?_
  refine g_if_le 5 14 h.1 dX6_qClip_5 (by decide) (fun c => ?_) (fun c => ?_)
  · have hw := hw.1 c
    refine g_lload_0 14 h.1 dX6_qClip_14 ?_
    refine g_ldc2 15 h.1 q2403 dX6_qClip_15 ?_
    refine g_lcmp 18 h.1 dX6_qClip_18 ?_
    refine g_if_ge 19 28 h.1 dX6_qClip_19 (by decide) (fun c => ?_) (fun c => ?_)
    · have hw := hw.1 c
      refine g_lload_0 28 h.1 dX6_qClip_28 ?_
      exact hR 29 _ _ _ dX6_qClip_29 hw
    · have hw := hw.2 c
      refine g_ldc2 22 h.1 q2403 dX6_qClip_22 ?_
      refine g_goto 25 29 h.1 dX6_qClip_25 (by decide) ?_
      exact hR 29 _ _ _ dX6_qClip_29 hw
  · have hw := hw.2 c
    refine g_ldc2 8 h.1 q2402 dX6_qClip_8 ?_
    refine g_goto 11 29 h.1 dX6_qClip_11 (by decide) ?_
    exact hR 29 _ _ _ dX6_qClip_29 hw
theorem mm_qClip {l : Launch} {S : Adr} (hD : MD S) {x0 : Int64} {σ : FS} {Q : Int64 → FS → Prop} (hw : mw_qClip x0 σ Q) : mMetS l S 1 yX6_qClip [.long x0] σ (mQl S Q) :=
  m_smetL hD ⟨rfl, by decide, by show _ = some 1; decide +kernel, q2401⟩ q2400 (Nat.le_of_ble_eq_true rfl) (fun κ Z h hR => mt_qClip h hR hw)
def mw_qFloor_43 (x4 : Int64) (y0 : Int32) (y1 : Int32) (σ : FS) (Q : Int64 → FS → Prop) : Prop :=
  ((y1 = y0 → Q x4 σ) ∧ (¬ y1 = y0 → Q (x4 - (1 : Int64)) σ))
theorem mt_qFloor_43 {κ : Cx} {S : Adr} {Z : State → Prop} {Q : Int64 → FS → Prop} (h : MCx κ cX6_qFloor S 1) (hR : RetL κ S Z cX6_qFloor Q) {x4 : Int64} {y0 : Int32} {y1 : Int32} {σ : FS} (hw : mw_qFloor_43 x4 y0 y1 σ Q) : MG κ S Z 43 σ [none, none, none, none, some (.long x4), none] [.int y0, .int y1] := by
  unfold mw_qFloor_43 at hw
  refine g_icmp_eq 43 53 h.1 dX6_qFloor_43 (by decide) (fun c => ?_) (fun c => ?_)
  · have hw := hw.1 c
    refine g_lload_4 53 h.1 dX6_qFloor_53 ?_
    exact hR 55 _ _ _ dX6_qFloor_55 hw
  · have hw := hw.2 c
    refine g_lload_4 46 h.1 dX6_qFloor_46 ?_
    refine g_lconst 48 _ lc_1 h.1 dX6_qFloor_48 ?_
    refine g_lsub 49 h.1 dX6_qFloor_49 ?_
    refine g_goto 50 55 h.1 dX6_qFloor_50 (by decide) ?_
    exact hR 55 _ _ _ dX6_qFloor_55 hw
def mw_qFloor_32 (x2 : Int64) (x4 : Int64) (y0 : Int32) (σ : FS) (Q : Int64 → FS → Prop) : Prop :=
  ((0 ≤ (lg_cmp x2 (0 : Int64)) → mw_qFloor_43 x4 (0 : Int32) y0 σ Q) ∧ (¬ 0 ≤ (lg_cmp x2 (0 : Int64)) → mw_qFloor_43 x4 (1 : Int32) y0 σ Q))
theorem mt_qFloor_32 {κ : Cx} {S : Adr} {Z : State → Prop} {Q : Int64 → FS → Prop} (h : MCx κ cX6_qFloor S 1) (hR : RetL κ S Z cX6_qFloor Q) {x2 : Int64} {x4 : Int64} {y0 : Int32} {σ : FS} (hw : mw_qFloor_32 x2 x4 y0 σ Q) : MG κ S Z 32 σ [none, none, some (.long x2), none, some (.long x4), none] [.int y0] := by
  unfold mw_qFloor_32 at hw
  refine g_lload_2 32 h.1 dX6_qFloor_32 ?_
  refine g_lconst 33 _ lc_0 h.1 dX6_qFloor_33 ?_
  refine g_lcmp 34 h.1 dX6_qFloor_34 ?_
  refine g_if_ge 35 42 h.1 dX6_qFloor_35 (by decide) (fun c => ?_) (fun c => ?_)
  · have hw := hw.1 c
    refine g_iconstv 42 _ ic_0 h.1 dX6_qFloor_42 ?_
    exact g_le (mt_qFloor_43 h hR hw) ⟨rfl, trivial⟩
  · have hw := hw.2 c
    refine g_iconstv 38 _ ic_1 h.1 dX6_qFloor_38 ?_
    refine g_goto 39 43 h.1 dX6_qFloor_39 (by decide) ?_
    exact g_le (mt_qFloor_43 h hR hw) ⟨rfl, trivial⟩
def mw_qFloor (x0 : Int64) (x2 : Int64) (σ : FS) (Q : Int64 → FS → Prop) : Prop :=
  ((¬ (lg_cmp x2 (0 : Int64)) = 0 → (¬ x2 = 0 ∧ (¬ x2 = 0 ∧ (((lg_cmp (x0 - x0 / x2 * x2) (0 : Int64)) = 0 → Q (x0 / x2) σ) ∧ (¬ (lg_cmp (x0 - x0 / x2 * x2) (0 : Int64)) = 0 → ((0 ≤ (lg_cmp x0 (0 : Int64)) → mw_qFloor_32 x2 (x0 / x2) (0 : Int32) σ Q) ∧ (¬ 0 ≤ (lg_cmp x0 (0 : Int64)) → mw_qFloor_32 x2 (x0 / x2) (1 : Int32) σ Q))))))) ∧ ((lg_cmp x2 (0 : Int64)) = 0 → Q (0 : Int64) σ))
theorem mt_qFloor {κ : Cx} {S : Adr} {Z : State → Prop} {Q : Int64 → FS → Prop} (h : MCx κ cX6_qFloor S 1) (hR : RetL κ S Z cX6_qFloor Q) {x0 : Int64} {x2 : Int64} {σ : FS} (hw : mw_qFloor x0 x2 σ Q) : MG κ S Z 0 σ [some (.long x0), none, some (.long x2), none, none, none] [] := by
  unfold mw_qFloor at hw
  refine g_lload_2 0 h.1 dX6_qFloor_0 ?_
  refine g_lconst 1 _ lc_0 h.1 dX6_qFloor_1 ?_
  refine g_lcmp 2 h.1 dX6_qFloor_2 ?_
  refine g_if_ne 3 8 h.1 dX6_qFloor_3 (by decide) (fun c => ?_) (fun c => ?_)
  · have hw := hw.1 c
    refine g_lload_0 8 h.1 dX6_qFloor_8 ?_
    refine g_lload_2 9 h.1 dX6_qFloor_9 ?_
    refine g_ldiv 10 hw.1 h.1 dX6_qFloor_10 ?_
    have hw := hw.2
    refine g_lstore_4 11 h.1 rfl dX6_qFloor_11 ?_
    refine g_lload_0 13 h.1 dX6_qFloor_13 ?_
    refine g_lload_2 14 h.1 dX6_qFloor_14 ?_
    refine g_lrem 15 hw.1 h.1 dX6_qFloor_15 ?_
    have hw := hw.2
    refine g_lconst 16 _ lc_0 h.1 dX6_qFloor_16 ?_
    refine g_lcmp 17 h.1 dX6_qFloor_17 ?_
    refine g_if_eq 18 53 h.1 dX6_qFloor_18 (by decide) (fun c => ?_) (fun c => ?_)
    · have hw := hw.1 c
      refine g_lload_4 53 h.1 dX6_qFloor_53 ?_
      exact hR 55 _ _ _ dX6_qFloor_55 hw
    · have hw := hw.2 c
      refine g_lload_0 21 h.1 dX6_qFloor_21 ?_
      refine g_lconst 22 _ lc_0 h.1 dX6_qFloor_22 ?_
      refine g_lcmp 23 h.1 dX6_qFloor_23 ?_
      refine g_if_ge 24 31 h.1 dX6_qFloor_24 (by decide) (fun c => ?_) (fun c => ?_)
      · have hw := hw.1 c
        refine g_iconstv 31 _ ic_0 h.1 dX6_qFloor_31 ?_
        exact g_le (mt_qFloor_32 h hR hw) ⟨rfl, rfl, trivial⟩
      · have hw := hw.2 c
        refine g_iconstv 27 _ ic_1 h.1 dX6_qFloor_27 ?_
        refine g_goto 28 32 h.1 dX6_qFloor_28 (by decide) ?_
        exact g_le (mt_qFloor_32 h hR hw) ⟨rfl, rfl, trivial⟩
  · have hw := hw.2 c
    refine g_lconst 6 _ lc_0 h.1 dX6_qFloor_6 ?_
    exact hR 7 _ _ _ dX6_qFloor_7 hw
theorem mm_qFloor {l : Launch} {S : Adr} (hD : MD S) {x0 : Int64} {x2 : Int64} {σ : FS} {Q : Int64 → FS → Prop} (hw : mw_qFloor x0 x2 σ Q) : mMetS l S 1 yX6_qFloor [.long x0, .long x2] σ (mQl S Q) :=
  m_smetL hD ⟨rfl, by decide, by show _ = some 2; decide +kernel, q2406⟩ q2405 (Nat.le_of_ble_eq_true rfl) (fun κ Z h hR => mt_qFloor h hR hw)
def mw_qPuts (x1 : Int64) (σ : FS) (Q : FS → Prop) : Prop :=
  (vp_in (fI σ 0 109) 1700 ∧ ∀ σ1, σ1 = sB σ 108 (Int32.toNatClampNeg (fI σ 0 109)) x1 → (∀ σ2, σ2 = sI σ1 0 109 ((fI σ1 0 109) + (1 : Int32)) → Q σ2))
theorem mt_qPuts {κ : Cx} {S : Adr} {Z : State → Prop} {Q : FS → Prop} (h : MCx κ cX6_qPuts S 1) (hR : RetV κ S Z cX6_qPuts Q) {x1 : Int64} {σ : FS} (hw : mw_qPuts x1 σ Q) : MG κ S Z 0 σ [some (.ref (S.2.1 0)), some (.long x1), none] [] := by
  unfold mw_qPuts at hw
  refine g_aload_0 0 h.1 dX6_qPuts_0 ?_
  refine mg_108 1 h dX6_qPuts_1 ?_
  refine g_aload_0 4 h.1 dX6_qPuts_4 ?_
  refine mg_109 5 h dX6_qPuts_5 ?_
  refine g_lload_1 8 h.1 dX6_qPuts_8 ?_
  refine m_last 9 rfl hw.1 h dX6_qPuts_9 ?_
  have hw := hw.2 _ rfl
  refine g_aload_0 10 h.1 dX6_qPuts_10 ?_
  refine g_dup 11 rfl h.1 dX6_qPuts_11 ?_
  refine mg_109 12 h dX6_qPuts_12 ?_
  refine g_iconstv 15 _ ic_1 h.1 dX6_qPuts_15 ?_
  refine g_iadd 16 h.1 dX6_qPuts_16 ?_
  refine mp_109 17 h dX6_qPuts_17 ?_
  have hw := hw _ rfl
  exact hR 20 _ _ dX6_qPuts_20 hw
theorem mm_qPuts {l : Launch} {S : Adr} (hD : MD S) {x1 : Int64} {σ : FS} {Q : FS → Prop} (hw : mw_qPuts x1 σ Q) : mMet l S 1 yX6_qPuts [.long x1] σ (mQv S Q) :=
  m_metV hD ⟨rfl, by decide, by show _ = some 1; decide +kernel, q2387⟩ q2386 qs124 (Nat.le_of_ble_eq_true rfl) (fun κ Z h hR => mt_qPuts h hR hw)
def mw_qJoins_161 (y0 : Int64) (σ : FS) (Q : FS → Prop) : Prop :=
  mw_qPuts y0 σ (fun σ15 => Q σ15)
theorem mt_qJoins_161 {κ : Cx} {S : Adr} {Z : State → Prop} {Q : FS → Prop} (h : MCx κ cX6_qJoins S 2) (hR : RetV κ S Z cX6_qJoins Q) {y0 : Int64} {σ : FS} (hw : mw_qJoins_161 y0 σ Q) : MG κ S Z 161 σ [none, none, none, none, none, none] [.long y0, .ref (S.2.1 0)] := by
  unfold mw_qJoins_161 at hw
  refine m_callV_1 161 h (mm_qPuts h.2.2.1 hw) (by decide) q2384 (Nat.le_of_ble_eq_true rfl) dX6_qJoins_161 (fun σ15 hw => ?_)
  refine g_goto 164 273 h.1 dX6_qJoins_164 (by decide) ?_
  exact hR 273 _ _ dX6_qJoins_273 hw
def mw_qJoins_181 (y0 : Int64) (σ : FS) (Q : FS → Prop) : Prop :=
  mw_qPuts y0 σ (fun σ16 => Q σ16)
theorem mt_qJoins_181 {κ : Cx} {S : Adr} {Z : State → Prop} {Q : FS → Prop} (h : MCx κ cX6_qJoins S 2) (hR : RetV κ S Z cX6_qJoins Q) {y0 : Int64} {σ : FS} (hw : mw_qJoins_181 y0 σ Q) : MG κ S Z 181 σ [none, none, none, none, none, none] [.long y0, .ref (S.2.1 0)] := by
  unfold mw_qJoins_181 at hw
  refine m_callV_1 181 h (mm_qPuts h.2.2.1 hw) (by decide) q2384 (Nat.le_of_ble_eq_true rfl) dX6_qJoins_181 (fun σ16 hw => ?_)
  refine g_goto 184 273 h.1 dX6_qJoins_184 (by decide) ?_
  exact hR 273 _ _ dX6_qJoins_273 hw
def mw_qJoins_200 (y0 : Int64) (σ : FS) (Q : FS → Prop) : Prop :=
  mw_qPuts y0 σ (fun σ17 => Q σ17)
theorem mt_qJoins_200 {κ : Cx} {S : Adr} {Z : State → Prop} {Q : FS → Prop} (h : MCx κ cX6_qJoins S 2) (hR : RetV κ S Z cX6_qJoins Q) {y0 : Int64} {σ : FS} (hw : mw_qJoins_200 y0 σ Q) : MG κ S Z 200 σ [none, none, none, none, none, none] [.long y0, .ref (S.2.1 0)] := by
  unfold mw_qJoins_200 at hw
  refine m_callV_1 200 h (mm_qPuts h.2.2.1 hw) (by decide) q2384 (Nat.le_of_ble_eq_true rfl) dX6_qJoins_200 (fun σ17 hw => ?_)
  refine g_goto 203 273 h.1 dX6_qJoins_203 (by decide) ?_
  exact hR 273 _ _ dX6_qJoins_273 hw
def mw_qJoins_219 (y0 : Int64) (σ : FS) (Q : FS → Prop) : Prop :=
  mw_qPuts y0 σ (fun σ18 => Q σ18)
theorem mt_qJoins_219 {κ : Cx} {S : Adr} {Z : State → Prop} {Q : FS → Prop} (h : MCx κ cX6_qJoins S 2) (hR : RetV κ S Z cX6_qJoins Q) {y0 : Int64} {σ : FS} (hw : mw_qJoins_219 y0 σ Q) : MG κ S Z 219 σ [none, none, none, none, none, none] [.long y0, .ref (S.2.1 0)] := by
  unfold mw_qJoins_219 at hw
  refine m_callV_1 219 h (mm_qPuts h.2.2.1 hw) (by decide) q2384 (Nat.le_of_ble_eq_true rfl) dX6_qJoins_219 (fun σ18 hw => ?_)
  refine g_goto 222 273 h.1 dX6_qJoins_222 (by decide) ?_
  exact hR 273 _ _ dX6_qJoins_273 hw
def mw_qJoins_238 (y0 : Int64) (σ : FS) (Q : FS → Prop) : Prop :=
  mw_qPuts y0 σ (fun σ19 => Q σ19)
theorem mt_qJoins_238 {κ : Cx} {S : Adr} {Z : State → Prop} {Q : FS → Prop} (h : MCx κ cX6_qJoins S 2) (hR : RetV κ S Z cX6_qJoins Q) {y0 : Int64} {σ : FS} (hw : mw_qJoins_238 y0 σ Q) : MG κ S Z 238 σ [none, none, none, none, none, none] [.long y0, .ref (S.2.1 0)] := by
  unfold mw_qJoins_238 at hw
  refine m_callV_1 238 h (mm_qPuts h.2.2.1 hw) (by decide) q2384 (Nat.le_of_ble_eq_true rfl) dX6_qJoins_238 (fun σ19 hw => ?_)
  refine g_goto 241 273 h.1 dX6_qJoins_241 (by decide) ?_
  exact hR 273 _ _ dX6_qJoins_273 hw
def mw_qJoins_270 (y0 : Int64) (σ : FS) (Q : FS → Prop) : Prop :=
  mw_qPuts y0 σ (fun σ20 => Q σ20)
theorem mt_qJoins_270 {κ : Cx} {S : Adr} {Z : State → Prop} {Q : FS → Prop} (h : MCx κ cX6_qJoins S 2) (hR : RetV κ S Z cX6_qJoins Q) {y0 : Int64} {σ : FS} (hw : mw_qJoins_270 y0 σ Q) : MG κ S Z 270 σ [none, none, none, none, none, none] [.long y0, .ref (S.2.1 0)] := by
  unfold mw_qJoins_270 at hw
  refine m_callV_1 270 h (mm_qPuts h.2.2.1 hw) (by decide) q2384 (Nat.le_of_ble_eq_true rfl) dX6_qJoins_270 (fun σ20 hw => ?_)
  exact hR 273 _ _ dX6_qJoins_273 hw
def mw_qJoins (x1 : Int32) (σ : FS) (Q : FS → Prop) : Prop :=
  (vp_in ((fI σ 0 109) - (1 : Int32)) 1700 ∧ (vp_in ((fI σ 0 109) - (2 : Int32)) 1700 ∧ (∀ σ1, σ1 = sI σ 0 109 ((fI σ 0 109) - (2 : Int32)) → ((x1 = 1 → mw_qClip ((fB σ 108 (Int32.toNatClampNeg ((fI σ 0 109) - (2 : Int32)))) + (fB σ 108 (Int32.toNatClampNeg ((fI σ 0 109) - (1 : Int32))))) σ1 (fun r3 σ2 => mw_qPuts r3 σ2 (fun σ4 => Q σ4))) ∧ (¬ x1 = 1 → ((x1 = 2 → mw_qClip ((fB σ 108 (Int32.toNatClampNeg ((fI σ 0 109) - (2 : Int32)))) - (fB σ 108 (Int32.toNatClampNeg ((fI σ 0 109) - (1 : Int32))))) σ1 (fun r6 σ5 => mw_qPuts r6 σ5 (fun σ7 => Q σ7))) ∧ (¬ x1 = 2 → ((x1 = 3 → mw_qClip ((fB σ 108 (Int32.toNatClampNeg ((fI σ 0 109) - (2 : Int32)))) * (fB σ 108 (Int32.toNatClampNeg ((fI σ 0 109) - (1 : Int32))))) σ1 (fun r9 σ8 => mw_qPuts r9 σ8 (fun σ10 => Q σ10))) ∧ (¬ x1 = 3 → ((x1 = 4 → mw_qFloor (fB σ 108 (Int32.toNatClampNeg ((fI σ 0 109) - (2 : Int32)))) (fB σ 108 (Int32.toNatClampNeg ((fI σ 0 109) - (1 : Int32)))) σ1 (fun r12 σ11 => mw_qPuts r12 σ11 (fun σ13 => Q σ13))) ∧ (¬ x1 = 4 → ((x1 = 5 → ((0 ≤ (lg_cmp (fB σ 108 (Int32.toNatClampNeg ((fI σ 0 109) - (2 : Int32)))) (fB σ 108 (Int32.toNatClampNeg ((fI σ 0 109) - (1 : Int32))))) → mw_qJoins_161 (fB σ 108 (Int32.toNatClampNeg ((fI σ 0 109) - (1 : Int32)))) σ1 Q) ∧ (¬ 0 ≤ (lg_cmp (fB σ 108 (Int32.toNatClampNeg ((fI σ 0 109) - (2 : Int32)))) (fB σ 108 (Int32.toNatClampNeg ((fI σ 0 109) - (1 : Int32))))) → mw_qJoins_161 (fB σ 108 (Int32.toNatClampNeg ((fI σ 0 109) - (2 : Int32)))) σ1 Q))) ∧ (¬ x1 = 5 → ((x1 = 6 → (((lg_cmp (fB σ 108 (Int32.toNatClampNeg ((fI σ 0 109) - (2 : Int32)))) (fB σ 108 (Int32.toNatClampNeg ((fI σ 0 109) - (1 : Int32))))) ≤ 0 → mw_qJoins_181 (fB σ 108 (Int32.toNatClampNeg ((fI σ 0 109) - (1 : Int32)))) σ1 Q) ∧ (¬ (lg_cmp (fB σ 108 (Int32.toNatClampNeg ((fI σ 0 109) - (2 : Int32)))) (fB σ 108 (Int32.toNatClampNeg ((fI σ 0 109) - (1 : Int32))))) ≤ 0 → mw_qJoins_181 (fB σ 108 (Int32.toNatClampNeg ((fI σ 0 109) - (2 : Int32)))) σ1 Q))) ∧ (¬ x1 = 6 → ((x1 = 7 → ((0 ≤ (lg_cmp (fB σ 108 (Int32.toNatClampNeg ((fI σ 0 109) - (2 : Int32)))) (fB σ 108 (Int32.toNatClampNeg ((fI σ 0 109) - (1 : Int32))))) → mw_qJoins_200 (0 : Int64) σ1 Q) ∧ (¬ 0 ≤ (lg_cmp (fB σ 108 (Int32.toNatClampNeg ((fI σ 0 109) - (2 : Int32)))) (fB σ 108 (Int32.toNatClampNeg ((fI σ 0 109) - (1 : Int32))))) → mw_qJoins_200 (1 : Int64) σ1 Q))) ∧ (¬ x1 = 7 → ((x1 = 8 → (((lg_cmp (fB σ 108 (Int32.toNatClampNeg ((fI σ 0 109) - (2 : Int32)))) (fB σ 108 (Int32.toNatClampNeg ((fI σ 0 109) - (1 : Int32))))) ≤ 0 → mw_qJoins_219 (0 : Int64) σ1 Q) ∧ (¬ (lg_cmp (fB σ 108 (Int32.toNatClampNeg ((fI σ 0 109) - (2 : Int32)))) (fB σ 108 (Int32.toNatClampNeg ((fI σ 0 109) - (1 : Int32))))) ≤ 0 → mw_qJoins_219 (1 : Int64) σ1 Q))) ∧ (¬ x1 = 8 → ((x1 = 9 → ((¬ (lg_cmp (fB σ 108 (Int32.toNatClampNeg ((fI σ 0 109) - (2 : Int32)))) (fB σ 108 (Int32.toNatClampNeg ((fI σ 0 109) - (1 : Int32))))) = 0 → mw_qJoins_238 (0 : Int64) σ1 Q) ∧ ((lg_cmp (fB σ 108 (Int32.toNatClampNeg ((fI σ 0 109) - (2 : Int32)))) (fB σ 108 (Int32.toNatClampNeg ((fI σ 0 109) - (1 : Int32))))) = 0 → mw_qJoins_238 (1 : Int64) σ1 Q))) ∧ (¬ x1 = 9 → ((x1 = 10 → mw_qPuts ((fB σ 108 (Int32.toNatClampNeg ((fI σ 0 109) - (2 : Int32)))) * (fB σ 108 (Int32.toNatClampNeg ((fI σ 0 109) - (1 : Int32))))) σ1 (fun σ14 => Q σ14)) ∧ (¬ x1 = 10 → (((lg_cmp ((fB σ 108 (Int32.toNatClampNeg ((fI σ 0 109) - (2 : Int32)))) + (fB σ 108 (Int32.toNatClampNeg ((fI σ 0 109) - (1 : Int32))))) (0 : Int64)) ≤ 0 → mw_qJoins_270 (0 : Int64) σ1 Q) ∧ (¬ (lg_cmp ((fB σ 108 (Int32.toNatClampNeg ((fI σ 0 109) - (2 : Int32)))) + (fB σ 108 (Int32.toNatClampNeg ((fI σ 0 109) - (1 : Int32))))) (0 : Int64)) ≤ 0 → mw_qJoins_270 (1 : Int64) σ1 Q)))))))))))))))))))))))))
theorem mt_qJoins {κ : Cx} {S : Adr} {Z : State → Prop} {Q : FS → Prop} (h : MCx κ cX6_qJoins S 2) (hR : RetV κ S Z cX6_qJoins Q) {x1 : Int32} {σ : FS} (hw : mw_qJoins x1 σ Q) : MG κ S Z 0 σ [some (.ref (S.2.1 0)), some (.int x1), none, none, none, none] [] := by
  unfold mw_qJoins at hw
  refine g_aload_0 0 h.1 dX6_qJoins_0 ?_
  refine mg_108 1 h dX6_qJoins_1 ?_
  refine g_aload_0 4 h.1 dX6_qJoins_4 ?_
  refine mg_109 5 h dX6_qJoins_5 ?_
  refine g_iconstv 8 _ ic_1 h.1 dX6_qJoins_8 ?_
  refine g_isub 9 h.1 dX6_qJoins_9 ?_
  refine m_lald 10 rfl hw.1 h dX6_qJoins_10 ?_
  have hw := hw.2
  refine g_lstore_2 11 h.1 rfl dX6_qJoins_11 ?_
  refine g_aload_0 12 h.1 dX6_qJoins_12 ?_
  refine mg_108 13 h dX6_qJoins_13 ?_
  refine g_aload_0 16 h.1 dX6_qJoins_16 ?_
  refine mg_109 17 h dX6_qJoins_17 ?_
  refine g_iconstv 20 _ ic_2 h.1 dX6_qJoins_20 ?_
  refine g_isub 21 h.1 dX6_qJoins_21 ?_
  refine m_lald 22 rfl hw.1 h dX6_qJoins_22 ?_
  have hw := hw.2
  refine g_lstore_4 23 h.1 rfl dX6_qJoins_23 ?_
  refine g_aload_0 25 h.1 dX6_qJoins_25 ?_
  refine g_dup 26 rfl h.1 dX6_qJoins_26 ?_
  refine mg_109 27 h dX6_qJoins_27 ?_
  refine g_iconstv 30 _ ic_2 h.1 dX6_qJoins_30 ?_
  refine g_isub 31 h.1 dX6_qJoins_31 ?_
  refine mp_109 32 h dX6_qJoins_32 ?_
  have hw := hw _ rfl
  refine g_iload_1 35 h.1 dX6_qJoins_35 ?_
  rcases Classical.em (x1 = 1) with c0 | c0
  · have hw := hw.1 c0
    refine g_tabIn 36 92 56 h.1 dX6_qJoins_36 (by rw [c0]; decide) (by rw [c0]; decide) (by rw [c0]; decide) (by decide) ?_
    refine g_aload_0 92 h.1 dX6_qJoins_92 ?_
    refine g_lload_4 93 h.1 dX6_qJoins_93 ?_
    refine g_lload_2 95 h.1 dX6_qJoins_95 ?_
    refine g_ladd 96 h.1 dX6_qJoins_96 ?_
    refine m_scallL_1 97 h (mm_qClip h.2.2.1 hw) (by decide) q2399 (Nat.le_of_ble_eq_true rfl) dX6_qJoins_97 (fun r3 σ2 hw => ?_)
    refine m_callV_1 100 h (mm_qPuts h.2.2.1 hw) (by decide) q2384 (Nat.le_of_ble_eq_true rfl) dX6_qJoins_100 (fun σ4 hw => ?_)
    refine g_goto 103 273 h.1 dX6_qJoins_103 (by decide) ?_
    exact hR 273 _ _ dX6_qJoins_273 hw
  · have hw := hw.2 c0
    rcases Classical.em (x1 = 2) with c1 | c1
    · have hw := hw.1 c1
      refine g_tabIn 36 106 70 h.1 dX6_qJoins_36 (by rw [c1]; decide) (by rw [c1]; decide) (by rw [c1]; decide) (by decide) ?_
      refine g_aload_0 106 h.1 dX6_qJoins_106 ?_
      refine g_lload_4 107 h.1 dX6_qJoins_107 ?_
      refine g_lload_2 109 h.1 dX6_qJoins_109 ?_
      refine g_lsub 110 h.1 dX6_qJoins_110 ?_
      refine m_scallL_1 111 h (mm_qClip h.2.2.1 hw) (by decide) q2399 (Nat.le_of_ble_eq_true rfl) dX6_qJoins_111 (fun r6 σ5 hw => ?_)
      refine m_callV_1 114 h (mm_qPuts h.2.2.1 hw) (by decide) q2384 (Nat.le_of_ble_eq_true rfl) dX6_qJoins_114 (fun σ7 hw => ?_)
      refine g_goto 117 273 h.1 dX6_qJoins_117 (by decide) ?_
      exact hR 273 _ _ dX6_qJoins_273 hw
    · have hw := hw.2 c1
      rcases Classical.em (x1 = 3) with c2 | c2
      · have hw := hw.1 c2
        refine g_tabIn 36 120 84 h.1 dX6_qJoins_36 (by rw [c2]; decide) (by rw [c2]; decide) (by rw [c2]; decide) (by decide) ?_
        refine g_aload_0 120 h.1 dX6_qJoins_120 ?_
        refine g_lload_4 121 h.1 dX6_qJoins_121 ?_
        refine g_lload_2 123 h.1 dX6_qJoins_123 ?_
        refine g_lmul 124 h.1 dX6_qJoins_124 ?_
        refine m_scallL_1 125 h (mm_qClip h.2.2.1 hw) (by decide) q2399 (Nat.le_of_ble_eq_true rfl) dX6_qJoins_125 (fun r9 σ8 hw => ?_)
        refine m_callV_1 128 h (mm_qPuts h.2.2.1 hw) (by decide) q2384 (Nat.le_of_ble_eq_true rfl) dX6_qJoins_128 (fun σ10 hw => ?_)
        refine g_goto 131 273 h.1 dX6_qJoins_131 (by decide) ?_
        exact hR 273 _ _ dX6_qJoins_273 hw
      · have hw := hw.2 c2
        rcases Classical.em (x1 = 4) with c3 | c3
        · have hw := hw.1 c3
          refine g_tabIn 36 134 98 h.1 dX6_qJoins_36 (by rw [c3]; decide) (by rw [c3]; decide) (by rw [c3]; decide) (by decide) ?_
          refine g_aload_0 134 h.1 dX6_qJoins_134 ?_
          refine g_lload_4 135 h.1 dX6_qJoins_135 ?_
          refine g_lload_2 137 h.1 dX6_qJoins_137 ?_
          refine m_scallL_2 138 h (mm_qFloor h.2.2.1 hw) (by decide) q2404 (Nat.le_of_ble_eq_true rfl) dX6_qJoins_138 (fun r12 σ11 hw => ?_)
          refine m_callV_1 141 h (mm_qPuts h.2.2.1 hw) (by decide) q2384 (Nat.le_of_ble_eq_true rfl) dX6_qJoins_141 (fun σ13 hw => ?_)
          refine g_goto 144 273 h.1 dX6_qJoins_144 (by decide) ?_
          exact hR 273 _ _ dX6_qJoins_273 hw
        · have hw := hw.2 c3
          rcases Classical.em (x1 = 5) with c4 | c4
          · have hw := hw.1 c4
            refine g_tabIn 36 147 111 h.1 dX6_qJoins_36 (by rw [c4]; decide) (by rw [c4]; decide) (by rw [c4]; decide) (by decide) ?_
            refine g_aload_0 147 h.1 dX6_qJoins_147 ?_
            refine g_lload_4 148 h.1 dX6_qJoins_148 ?_
            refine g_lload_2 150 h.1 dX6_qJoins_150 ?_
            refine g_lcmp 151 h.1 dX6_qJoins_151 ?_
            refine g_if_ge 152 160 h.1 dX6_qJoins_152 (by decide) (fun c => ?_) (fun c => ?_)
            · have hw := hw.1 c
              refine g_lload_2 160 h.1 dX6_qJoins_160 ?_
              exact g_le (mt_qJoins_161 h hR hw) trivial
            · have hw := hw.2 c
              refine g_lload_4 155 h.1 dX6_qJoins_155 ?_
              refine g_goto 157 161 h.1 dX6_qJoins_157 (by decide) ?_
              exact g_le (mt_qJoins_161 h hR hw) trivial
          · have hw := hw.2 c4
            rcases Classical.em (x1 = 6) with c5 | c5
            · have hw := hw.1 c5
              refine g_tabIn 36 167 131 h.1 dX6_qJoins_36 (by rw [c5]; decide) (by rw [c5]; decide) (by rw [c5]; decide) (by decide) ?_
              refine g_aload_0 167 h.1 dX6_qJoins_167 ?_
              refine g_lload_4 168 h.1 dX6_qJoins_168 ?_
              refine g_lload_2 170 h.1 dX6_qJoins_170 ?_
              refine g_lcmp 171 h.1 dX6_qJoins_171 ?_
              refine g_if_le 172 180 h.1 dX6_qJoins_172 (by decide) (fun c => ?_) (fun c => ?_)
              · have hw := hw.1 c
                refine g_lload_2 180 h.1 dX6_qJoins_180 ?_
                exact g_le (mt_qJoins_181 h hR hw) trivial
              · have hw := hw.2 c
                refine g_lload_4 175 h.1 dX6_qJoins_175 ?_
                refine g_goto 177 181 h.1 dX6_qJoins_177 (by decide) ?_
                exact g_le (mt_qJoins_181 h hR hw) trivial
            · have hw := hw.2 c5
              rcases Classical.em (x1 = 7) with c6 | c6
              · have hw := hw.1 c6
                refine g_tabIn 36 187 151 h.1 dX6_qJoins_36 (by rw [c6]; decide) (by rw [c6]; decide) (by rw [c6]; decide) (by decide) ?_
                refine g_aload_0 187 h.1 dX6_qJoins_187 ?_
                refine g_lload_4 188 h.1 dX6_qJoins_188 ?_
                refine g_lload_2 190 h.1 dX6_qJoins_190 ?_
                refine g_lcmp 191 h.1 dX6_qJoins_191 ?_
                refine g_if_ge 192 199 h.1 dX6_qJoins_192 (by decide) (fun c => ?_) (fun c => ?_)
                · have hw := hw.1 c
                  refine g_lconst 199 _ lc_0 h.1 dX6_qJoins_199 ?_
                  exact g_le (mt_qJoins_200 h hR hw) trivial
                · have hw := hw.2 c
                  refine g_lconst 195 _ lc_1 h.1 dX6_qJoins_195 ?_
                  refine g_goto 196 200 h.1 dX6_qJoins_196 (by decide) ?_
                  exact g_le (mt_qJoins_200 h hR hw) trivial
              · have hw := hw.2 c6
                rcases Classical.em (x1 = 8) with c7 | c7
                · have hw := hw.1 c7
                  refine g_tabIn 36 206 170 h.1 dX6_qJoins_36 (by rw [c7]; decide) (by rw [c7]; decide) (by rw [c7]; decide) (by decide) ?_
                  refine g_aload_0 206 h.1 dX6_qJoins_206 ?_
                  refine g_lload_4 207 h.1 dX6_qJoins_207 ?_
                  refine g_lload_2 209 h.1 dX6_qJoins_209 ?_
                  refine g_lcmp 210 h.1 dX6_qJoins_210 ?_
                  refine g_if_le 211 218 h.1 dX6_qJoins_211 (by decide) (fun c => ?_) (fun c => ?_)
                  · have hw := hw.1 c
                    refine g_lconst 218 _ lc_0 h.1 dX6_qJoins_218 ?_
                    exact g_le (mt_qJoins_219 h hR hw) trivial
                  · have hw := hw.2 c
                    refine g_lconst 214 _ lc_1 h.1 dX6_qJoins_214 ?_
                    refine g_goto 215 219 h.1 dX6_qJoins_215 (by decide) ?_
                    exact g_le (mt_qJoins_219 h hR hw) trivial
                · have hw := hw.2 c7
                  rcases Classical.em (x1 = 9) with c8 | c8
                  · have hw := hw.1 c8
                    refine g_tabIn 36 225 189 h.1 dX6_qJoins_36 (by rw [c8]; decide) (by rw [c8]; decide) (by rw [c8]; decide) (by decide) ?_
                    refine g_aload_0 225 h.1 dX6_qJoins_225 ?_
                    refine g_lload_4 226 h.1 dX6_qJoins_226 ?_
                    refine g_lload_2 228 h.1 dX6_qJoins_228 ?_
                    refine g_lcmp 229 h.1 dX6_qJoins_229 ?_
                    refine g_if_ne 230 237 h.1 dX6_qJoins_230 (by decide) (fun c => ?_) (fun c => ?_)
                    · have hw := hw.1 c
                      refine g_lconst 237 _ lc_0 h.1 dX6_qJoins_237 ?_
                      exact g_le (mt_qJoins_238 h hR hw) trivial
                    · have hw := hw.2 c
                      refine g_lconst 233 _ lc_1 h.1 dX6_qJoins_233 ?_
                      refine g_goto 234 238 h.1 dX6_qJoins_234 (by decide) ?_
                      exact g_le (mt_qJoins_238 h hR hw) trivial
                  · have hw := hw.2 c8
                    rcases Classical.em (x1 = 10) with c9 | c9
                    · have hw := hw.1 c9
                      refine g_tabIn 36 244 208 h.1 dX6_qJoins_36 (by rw [c9]; decide) (by rw [c9]; decide) (by rw [c9]; decide) (by decide) ?_
                      refine g_aload_0 244 h.1 dX6_qJoins_244 ?_
                      refine g_lload_4 245 h.1 dX6_qJoins_245 ?_
                      refine g_lload_2 247 h.1 dX6_qJoins_247 ?_
                      refine g_lmul 248 h.1 dX6_qJoins_248 ?_
                      refine m_callV_1 249 h (mm_qPuts h.2.2.1 hw) (by decide) q2384 (Nat.le_of_ble_eq_true rfl) dX6_qJoins_249 (fun σ14 hw => ?_)
                      refine g_goto 252 273 h.1 dX6_qJoins_252 (by decide) ?_
                      exact hR 273 _ _ dX6_qJoins_273 hw
                    · have hw := hw.2 c9
                      refine g_tabOut 36 255 h.1 dX6_qJoins_36 (tabOut_1_10 c0 c1 c2 c3 c4 c5 c6 c7 c8 c9) (by decide) ?_
                      refine g_aload_0 255 h.1 dX6_qJoins_255 ?_
                      refine g_lload_4 256 h.1 dX6_qJoins_256 ?_
                      refine g_lload_2 258 h.1 dX6_qJoins_258 ?_
                      refine g_ladd 259 h.1 dX6_qJoins_259 ?_
                      refine g_lconst 260 _ lc_0 h.1 dX6_qJoins_260 ?_
                      refine g_lcmp 261 h.1 dX6_qJoins_261 ?_
                      refine g_if_le 262 269 h.1 dX6_qJoins_262 (by decide) (fun c => ?_) (fun c => ?_)
                      · have hw := hw.1 c
                        refine g_lconst 269 _ lc_0 h.1 dX6_qJoins_269 ?_
                        exact g_le (mt_qJoins_270 h hR hw) trivial
                      · have hw := hw.2 c
                        refine g_lconst 265 _ lc_1 h.1 dX6_qJoins_265 ?_
                        refine g_goto 266 270 h.1 dX6_qJoins_266 (by decide) ?_
                        exact g_le (mt_qJoins_270 h hR hw) trivial
theorem mm_qJoins {l : Launch} {S : Adr} (hD : MD S) {x1 : Int32} {σ : FS} {Q : FS → Prop} (hw : mw_qJoins x1 σ Q) : mMet l S 2 yX6_qJoins [.int x1] σ (mQv S Q) :=
  m_metV hD ⟨rfl, by decide, by show _ = some 1; decide +kernel, q2398⟩ q2397 qs126 (Nat.le_of_ble_eq_true rfl) (fun κ Z h hR => mt_qJoins h hR hw)
def mw_bits_4 (x1 : Int32) (x2 : Int32) (σ : FS) (Q : Int32 → FS → Prop) : Prop :=
  ∀ X4 : Int32 → Int32 → FS → Prop, (∀ (x1 : Int32) (x2 : Int32) (σ : FS), ((x2 = 0 → Q x1 σ) ∧ (¬ x2 = 0 → X4 (x1 + 1) (x2 &&& (x2 - (1 : Int32))) σ)) → X4 x1 x2 σ) → X4 x1 x2 σ
theorem mt_bits_4 {κ : Cx} {S : Adr} {Z : State → Prop} {Q : Int32 → FS → Prop} (h : MCx κ cX6_bits S 1) (hR : RetI κ S Z cX6_bits Q) {x1 : Int32} {x2 : Int32} {σ : FS} (hw : mw_bits_4 x1 x2 σ Q) : MG κ S Z 4 σ [none, some (.int x1), some (.int x2)] [] := by
  refine hw (fun x1 x2 σ => MG κ S Z 4 σ [none, some (.int x1), some (.int x2)] []) ?_
  clear hw
  intro x1 x2 σ hw
  have hX4 : ∀ (x1 : Int32) (x2 : Int32) (σ : FS), MG κ S Z 4 σ [none, some (.int x1), some (.int x2)] [] → MG κ S Z 4 σ [none, some (.int x1), some (.int x2)] [] := fun _ _ _ hh => hh
  refine g_iload_2 4 h.1 dX6_bits_4 ?_
  refine g_if_eq 5 20 h.1 dX6_bits_5 (by decide) (fun c => ?_) (fun c => ?_)
  · have hw := hw.1 c
    refine g_iload_1 20 h.1 dX6_bits_20 ?_
    exact hR 21 _ _ _ dX6_bits_21 hw
  · have hw := hw.2 c
    refine g_iinc_1 8 (x1 + 1) (congrArg _ ic_1) h.1 rfl dX6_bits_8 ?_
    refine g_iload_2 11 h.1 dX6_bits_11 ?_
    refine g_iload_2 12 h.1 dX6_bits_12 ?_
    refine g_iconstv 13 _ ic_1 h.1 dX6_bits_13 ?_
    refine g_isub 14 h.1 dX6_bits_14 ?_
    refine g_iand 15 h.1 dX6_bits_15 ?_
    refine g_istore_2 16 h.1 rfl dX6_bits_16 ?_
    refine g_goto 17 4 h.1 dX6_bits_17 (by decide) ?_
    exact g_le (hX4 _ _ _ hw) ⟨rfl, rfl, trivial⟩
def mw_bits (x0 : Int32) (σ : FS) (Q : Int32 → FS → Prop) : Prop :=
  mw_bits_4 (0 : Int32) x0 σ Q
theorem mt_bits {κ : Cx} {S : Adr} {Z : State → Prop} {Q : Int32 → FS → Prop} (h : MCx κ cX6_bits S 1) (hR : RetI κ S Z cX6_bits Q) {x0 : Int32} {σ : FS} (hw : mw_bits x0 σ Q) : MG κ S Z 0 σ [some (.int x0), none, none] [] := by
  unfold mw_bits at hw
  refine g_iconstv 0 _ ic_0 h.1 dX6_bits_0 ?_
  refine g_istore_1 1 h.1 rfl dX6_bits_1 ?_
  refine g_iload_0 2 h.1 dX6_bits_2 ?_
  refine g_istore_2 3 h.1 rfl dX6_bits_3 ?_
  exact g_le (mt_bits_4 h hR hw) ⟨rfl, rfl, trivial⟩
theorem mm_bits {l : Launch} {S : Adr} (hD : MD S) {x0 : Int32} {σ : FS} {Q : Int32 → FS → Prop} (hw : mw_bits x0 σ Q) : mMetS l S 1 yX6_bits [.int x0] σ (mQi S Q) :=
  m_smetI hD ⟨rfl, by decide, by show _ = some 1; decide +kernel, q2394⟩ q2393 (Nat.le_of_ble_eq_true rfl) (fun κ Z h hR => mt_bits h hR hw)
def mw_heightOf (x1 : Int32) (σ : FS) (Q : Int32 → FS → Prop) : Prop :=
  (vp_in ((1 : Int32) + x1) 232 ∧ Q (fA σ 52 (Int32.toNatClampNeg ((1 : Int32) + x1))) σ)
theorem mt_heightOf {κ : Cx} {S : Adr} {Z : State → Prop} {Q : Int32 → FS → Prop} (h : MCx κ cX6_heightOf S 1) (hR : RetI κ S Z cX6_heightOf Q) {x1 : Int32} {σ : FS} (hw : mw_heightOf x1 σ Q) : MG κ S Z 0 σ [some (.ref (S.2.1 0)), some (.int x1)] [] := by
  unfold mw_heightOf at hw
  refine g_aload_0 0 h.1 dX6_heightOf_0 ?_
  refine mg_52 1 h dX6_heightOf_1 ?_
  refine g_iconstv 4 _ ic_1 h.1 dX6_heightOf_4 ?_
  refine g_iload_1 5 h.1 dX6_heightOf_5 ?_
  refine g_iadd 6 h.1 dX6_heightOf_6 ?_
  refine m_iald 7 rfl hw.1 h dX6_heightOf_7 ?_
  have hw := hw.2
  exact hR 8 _ _ _ dX6_heightOf_8 hw
theorem mm_heightOf {l : Launch} {S : Adr} (hD : MD S) {x1 : Int32} {σ : FS} {Q : Int32 → FS → Prop} (hw : mw_heightOf x1 σ Q) : mMet l S 1 yX6_heightOf [.int x1] σ (mQi S Q) :=
  m_metI hD ⟨rfl, by decide, by show _ = some 1; decide +kernel, q2330⟩ q2329 qs115 (Nat.le_of_ble_eq_true rfl) (fun κ Z h hR => mt_heightOf h hR hw)
def mw_knowsOf (x1 : Int32) (σ : FS) (Q : Int32 → FS → Prop) : Prop :=
  (vp_in ((52 : Int32) + ((3 : Int32) * x1)) 232 ∧ Q (fA σ 52 (Int32.toNatClampNeg ((52 : Int32) + ((3 : Int32) * x1)))) σ)
theorem mt_knowsOf {κ : Cx} {S : Adr} {Z : State → Prop} {Q : Int32 → FS → Prop} (h : MCx κ cX6_knowsOf S 1) (hR : RetI κ S Z cX6_knowsOf Q) {x1 : Int32} {σ : FS} (hw : mw_knowsOf x1 σ Q) : MG κ S Z 0 σ [some (.ref (S.2.1 0)), some (.int x1)] [] := by
  unfold mw_knowsOf at hw
  refine g_aload_0 0 h.1 dX6_knowsOf_0 ?_
  refine mg_52 1 h dX6_knowsOf_1 ?_
  refine g_bipush 4 _ bp_52 h.1 dX6_knowsOf_4 ?_
  refine g_iconstv 6 _ ic_3 h.1 dX6_knowsOf_6 ?_
  refine g_iload_1 7 h.1 dX6_knowsOf_7 ?_
  refine g_imul 8 h.1 dX6_knowsOf_8 ?_
  refine g_iadd 9 h.1 dX6_knowsOf_9 ?_
  refine m_iald 10 rfl hw.1 h dX6_knowsOf_10 ?_
  have hw := hw.2
  exact hR 11 _ _ _ dX6_knowsOf_11 hw
theorem mm_knowsOf {l : Launch} {S : Adr} (hD : MD S) {x1 : Int32} {σ : FS} {Q : Int32 → FS → Prop} (hw : mw_knowsOf x1 σ Q) : mMet l S 1 yX6_knowsOf [.int x1] σ (mQi S Q) :=
  m_metI hD ⟨rfl, by decide, by show _ = some 1; decide +kernel, q2363⟩ q2362 qs120 (Nat.le_of_ble_eq_true rfl) (fun κ Z h hR => mt_knowsOf h hR hw)
def mw_tiredOf (x1 : Int32) (σ : FS) (Q : Int32 → FS → Prop) : Prop :=
  (vp_in ((51 : Int32) + ((3 : Int32) * x1)) 232 ∧ Q (fA σ 52 (Int32.toNatClampNeg ((51 : Int32) + ((3 : Int32) * x1)))) σ)
theorem mt_tiredOf {κ : Cx} {S : Adr} {Z : State → Prop} {Q : Int32 → FS → Prop} (h : MCx κ cX6_tiredOf S 1) (hR : RetI κ S Z cX6_tiredOf Q) {x1 : Int32} {σ : FS} (hw : mw_tiredOf x1 σ Q) : MG κ S Z 0 σ [some (.ref (S.2.1 0)), some (.int x1)] [] := by
  unfold mw_tiredOf at hw
  refine g_aload_0 0 h.1 dX6_tiredOf_0 ?_
  refine mg_52 1 h dX6_tiredOf_1 ?_
  refine g_bipush 4 _ bp_51 h.1 dX6_tiredOf_4 ?_
  refine g_iconstv 6 _ ic_3 h.1 dX6_tiredOf_6 ?_
  refine g_iload_1 7 h.1 dX6_tiredOf_7 ?_
  refine g_imul 8 h.1 dX6_tiredOf_8 ?_
  refine g_iadd 9 h.1 dX6_tiredOf_9 ?_
  refine m_iald 10 rfl hw.1 h dX6_tiredOf_10 ?_
  have hw := hw.2
  exact hR 11 _ _ _ dX6_tiredOf_11 hw
theorem mm_tiredOf {l : Launch} {S : Adr} (hD : MD S) {x1 : Int32} {σ : FS} {Q : Int32 → FS → Prop} (hw : mw_tiredOf x1 σ Q) : mMet l S 1 yX6_tiredOf [.int x1] σ (mQi S Q) :=
  m_metI hD ⟨rfl, by decide, by show _ = some 1; decide +kernel, q2359⟩ q2358 qs119 (Nat.le_of_ble_eq_true rfl) (fun κ Z h hR => mt_tiredOf h hR hw)
def mw_qPartOf (x1 : Int32) (x2 : Int32) (σ : FS) (Q : Int64 → FS → Prop) : Prop :=
  ((x1 = 0 → mw_tiredOf (fI σ 0 54) σ (fun r2 σ1 => Q (Int32.toInt64 r2) σ1)) ∧ (¬ x1 = 0 → ((x1 = 1 → mw_cellOf (fI σ 0 54) σ (fun r4 σ3 => mw_heightOf r4 σ3 (fun r6 σ5 => Q (Int32.toInt64 r6) σ5))) ∧ (¬ x1 = 1 → ((x1 = 2 → mw_knowsOf (fI σ 0 54) σ (fun r8 σ7 => mw_bits r8 σ7 (fun r10 σ9 => Q (Int32.toInt64 r10) σ9))) ∧ (¬ x1 = 2 → ((x1 = 3 → (vp_in (0 : Int32) 232 ∧ Q (Int32.toInt64 (fA σ 52 (Int32.toNatClampNeg (0 : Int32)))) σ)) ∧ (¬ x1 = 3 → ((x1 = 4 → Q (Int32.toInt64 (fI σ 0 55)) σ) ∧ (¬ x1 = 4 → ((x1 = 5 → Q (Int32.toInt64 (fI σ 0 56)) σ) ∧ (¬ x1 = 5 → ((x1 = 6 → Q (Int32.toInt64 (fI σ 0 54)) σ) ∧ (¬ x1 = 6 → ((x1 = 7 → mw_cellOf (fI σ 0 54) σ (fun r12 σ11 => Q (Int32.toInt64 (r12 - r12 / (7 : Int32) * (7 : Int32))) σ11)) ∧ (¬ x1 = 7 → mw_cellOf (fI σ 0 54) σ (fun r14 σ13 => Q (Int32.toInt64 (r14 / (7 : Int32))) σ13)))))))))))))))))
theorem mt_qPartOf {κ : Cx} {S : Adr} {Z : State → Prop} {Q : Int64 → FS → Prop} (h : MCx κ cX6_qPartOf S 2) (hR : RetL κ S Z cX6_qPartOf Q) {x1 : Int32} {x2 : Int32} {σ : FS} (hw : mw_qPartOf x1 x2 σ Q) : MG κ S Z 0 σ [some (.ref (S.2.1 0)), some (.int x1), some (.int x2)] [] := by
  unfold mw_qPartOf at hw
  refine g_iload_1 0 h.1 dX6_qPartOf_0 ?_
  rcases Classical.em (x1 = 0) with c0 | c0
  · have hw := hw.1 c0
    refine g_tabIn 1 48 47 h.1 dX6_qPartOf_1 (by rw [c0]; decide) (by rw [c0]; decide) (by rw [c0]; decide) (by decide) ?_
    refine g_aload_0 48 h.1 dX6_qPartOf_48 ?_
    refine g_aload_0 49 h.1 dX6_qPartOf_49 ?_
    refine mg_54 50 h dX6_qPartOf_50 ?_
    refine m_callI_1 53 h (mm_tiredOf h.2.2.1 hw) (by decide) q2356 (Nat.le_of_ble_eq_true rfl) dX6_qPartOf_53 (fun r2 σ1 hw => ?_)
    refine g_i2l 56 h.1 dX6_qPartOf_56 ?_
    exact hR 57 _ _ _ dX6_qPartOf_57 hw
  · have hw := hw.2 c0
    rcases Classical.em (x1 = 1) with c1 | c1
    · have hw := hw.1 c1
      refine g_tabIn 1 58 57 h.1 dX6_qPartOf_1 (by rw [c1]; decide) (by rw [c1]; decide) (by rw [c1]; decide) (by decide) ?_
      refine g_aload_0 58 h.1 dX6_qPartOf_58 ?_
      refine g_aload_0 59 h.1 dX6_qPartOf_59 ?_
      refine g_aload_0 60 h.1 dX6_qPartOf_60 ?_
      refine mg_54 61 h dX6_qPartOf_61 ?_
      refine m_callI_1 64 h (mm_cellOf h.2.2.1 hw) (by decide) q2352 (Nat.le_of_ble_eq_true rfl) dX6_qPartOf_64 (fun r4 σ3 hw => ?_)
      refine m_callI_1 67 h (mm_heightOf h.2.2.1 hw) (by decide) q2327 (Nat.le_of_ble_eq_true rfl) dX6_qPartOf_67 (fun r6 σ5 hw => ?_)
      refine g_i2l 70 h.1 dX6_qPartOf_70 ?_
      exact hR 71 _ _ _ dX6_qPartOf_71 hw
    · have hw := hw.2 c1
      rcases Classical.em (x1 = 2) with c2 | c2
      · have hw := hw.1 c2
        refine g_tabIn 1 72 71 h.1 dX6_qPartOf_1 (by rw [c2]; decide) (by rw [c2]; decide) (by rw [c2]; decide) (by decide) ?_
        refine g_aload_0 72 h.1 dX6_qPartOf_72 ?_
        refine g_aload_0 73 h.1 dX6_qPartOf_73 ?_
        refine mg_54 74 h dX6_qPartOf_74 ?_
        refine m_callI_1 77 h (mm_knowsOf h.2.2.1 hw) (by decide) q2360 (Nat.le_of_ble_eq_true rfl) dX6_qPartOf_77 (fun r8 σ7 hw => ?_)
        refine m_scallI_1 80 h (mm_bits h.2.2.1 hw) (by decide) q2392 (Nat.le_of_ble_eq_true rfl) dX6_qPartOf_80 (fun r10 σ9 hw => ?_)
        refine g_i2l 83 h.1 dX6_qPartOf_83 ?_
        exact hR 84 _ _ _ dX6_qPartOf_84 hw
      · have hw := hw.2 c2
        rcases Classical.em (x1 = 3) with c3 | c3
        · have hw := hw.1 c3
          refine g_tabIn 1 85 84 h.1 dX6_qPartOf_1 (by rw [c3]; decide) (by rw [c3]; decide) (by rw [c3]; decide) (by decide) ?_
          refine g_aload_0 85 h.1 dX6_qPartOf_85 ?_
          refine mg_52 86 h dX6_qPartOf_86 ?_
          refine g_iconstv 89 _ ic_0 h.1 dX6_qPartOf_89 ?_
          refine m_iald 90 rfl hw.1 h dX6_qPartOf_90 ?_
          have hw := hw.2
          refine g_i2l 91 h.1 dX6_qPartOf_91 ?_
          exact hR 92 _ _ _ dX6_qPartOf_92 hw
        · have hw := hw.2 c3
          rcases Classical.em (x1 = 4) with c4 | c4
          · have hw := hw.1 c4
            refine g_tabIn 1 93 92 h.1 dX6_qPartOf_1 (by rw [c4]; decide) (by rw [c4]; decide) (by rw [c4]; decide) (by decide) ?_
            refine g_aload_0 93 h.1 dX6_qPartOf_93 ?_
            refine mg_55 94 h dX6_qPartOf_94 ?_
            refine g_i2l 97 h.1 dX6_qPartOf_97 ?_
            exact hR 98 _ _ _ dX6_qPartOf_98 hw
          · have hw := hw.2 c4
            rcases Classical.em (x1 = 5) with c5 | c5
            · have hw := hw.1 c5
              refine g_tabIn 1 99 98 h.1 dX6_qPartOf_1 (by rw [c5]; decide) (by rw [c5]; decide) (by rw [c5]; decide) (by decide) ?_
              refine g_aload_0 99 h.1 dX6_qPartOf_99 ?_
              refine mg_56 100 h dX6_qPartOf_100 ?_
              refine g_i2l 103 h.1 dX6_qPartOf_103 ?_
              exact hR 104 _ _ _ dX6_qPartOf_104 hw
            · have hw := hw.2 c5
              rcases Classical.em (x1 = 6) with c6 | c6
              · have hw := hw.1 c6
                refine g_tabIn 1 105 104 h.1 dX6_qPartOf_1 (by rw [c6]; decide) (by rw [c6]; decide) (by rw [c6]; decide) (by decide) ?_
                refine g_aload_0 105 h.1 dX6_qPartOf_105 ?_
                refine mg_54 106 h dX6_qPartOf_106 ?_
                refine g_i2l 109 h.1 dX6_qPartOf_109 ?_
                exact hR 110 _ _ _ dX6_qPartOf_110 hw
              · have hw := hw.2 c6
                rcases Classical.em (x1 = 7) with c7 | c7
                · have hw := hw.1 c7
                  refine g_tabIn 1 111 110 h.1 dX6_qPartOf_1 (by rw [c7]; decide) (by rw [c7]; decide) (by rw [c7]; decide) (by decide) ?_
                  refine g_aload_0 111 h.1 dX6_qPartOf_111 ?_
                  refine g_aload_0 112 h.1 dX6_qPartOf_112 ?_
                  refine mg_54 113 h dX6_qPartOf_113 ?_
                  refine m_callI_1 116 h (mm_cellOf h.2.2.1 hw) (by decide) q2352 (Nat.le_of_ble_eq_true rfl) dX6_qPartOf_116 (fun r12 σ11 hw => ?_)
                  refine g_bipush 119 _ bp_7 h.1 dX6_qPartOf_119 ?_
                  refine g_irem 121 (by decide) h.1 dX6_qPartOf_121 ?_
                  refine g_i2l 122 h.1 dX6_qPartOf_122 ?_
                  exact hR 123 _ _ _ dX6_qPartOf_123 hw
                · have hw := hw.2 c7
                  refine g_tabOut 1 124 h.1 dX6_qPartOf_1 (tabOut_0_7 c0 c1 c2 c3 c4 c5 c6 c7) (by decide) ?_
                  refine g_aload_0 124 h.1 dX6_qPartOf_124 ?_
                  refine g_aload_0 125 h.1 dX6_qPartOf_125 ?_
                  refine mg_54 126 h dX6_qPartOf_126 ?_
                  refine m_callI_1 129 h (mm_cellOf h.2.2.1 hw) (by decide) q2352 (Nat.le_of_ble_eq_true rfl) dX6_qPartOf_129 (fun r14 σ13 hw => ?_)
                  refine g_bipush 132 _ bp_7 h.1 dX6_qPartOf_132 ?_
                  refine g_idiv 134 (by decide) h.1 dX6_qPartOf_134 ?_
                  refine g_i2l 135 h.1 dX6_qPartOf_135 ?_
                  exact hR 136 _ _ _ dX6_qPartOf_136 hw
theorem mm_qPartOf {l : Launch} {S : Adr} (hD : MD S) {x1 : Int32} {x2 : Int32} {σ : FS} {Q : Int64 → FS → Prop} (hw : mw_qPartOf x1 x2 σ Q) : mMet l S 2 yX6_qPartOf [.int x1, .int x2] σ (mQl S Q) :=
  m_metL hD ⟨rfl, by decide, by show _ = some 2; decide +kernel, q2391⟩ q2390 qs125 (Nat.le_of_ble_eq_true rfl) (fun κ Z h hR => mt_qPartOf h hR hw)
def mw_codesTell_147 (X27 : Int32 → Int32 → FS → Prop) (x1 : Int32) (x2 : Int32) (σ : FS) (Q : Int64 → FS → Prop) : Prop :=
  X27 x1 (x2 + 1) σ
theorem mt_codesTell_147 {κ : Cx} {S : Adr} {Z : State → Prop} {Q : Int64 → FS → Prop} (h : MCx κ cX6_codesTell S 3) (hR : RetL κ S Z cX6_codesTell Q) {X27 : Int32 → Int32 → FS → Prop} (hX27 : ∀ (x1 : Int32) (x2 : Int32) (σ : FS), X27 x1 x2 σ → MG κ S Z 27 σ [some (.ref (S.2.1 0)), some (.int x1), some (.int x2), none] []) {x1 : Int32} {x2 : Int32} {σ : FS} (hw : mw_codesTell_147 X27 x1 x2 σ Q) : MG κ S Z 147 σ [some (.ref (S.2.1 0)), some (.int x1), some (.int x2), none] [] := by
  unfold mw_codesTell_147 at hw
  refine g_iinc_2 147 (x2 + 1) (congrArg _ ic_1) h.1 rfl dX6_codesTell_147 ?_
  refine g_goto 150 27 h.1 dX6_codesTell_150 (by decide) ?_
  exact g_le (hX27 _ _ _ hw) ⟨rfl, rfl, rfl, trivial⟩
def mw_codesTell_27 (x1 : Int32) (x2 : Int32) (σ : FS) (Q : Int64 → FS → Prop) : Prop :=
  ∀ X27 : Int32 → Int32 → FS → Prop, (∀ (x1 : Int32) (x2 : Int32) (σ : FS), (vp_in ((3 : Int32) + x1) 6 ∧ (((fA σ 46 (Int32.toNatClampNeg ((3 : Int32) + x1))) ≤ x2 → (vp_in (0 : Int32) 1700 ∧ Q (fB σ 108 (Int32.toNatClampNeg (0 : Int32))) σ)) ∧ (¬ (fA σ 46 (Int32.toNatClampNeg ((3 : Int32) + x1))) ≤ x2 → (vp_in ((1600 : Int32) + x2) 3200 ∧ (((fA σ 47 (Int32.toNatClampNeg ((1600 : Int32) + x2))) < (1000 : Int32) → (((fA σ 47 (Int32.toNatClampNeg ((1600 : Int32) + x2))) < (40 : Int32) → ((¬ (fA σ 47 (Int32.toNatClampNeg ((1600 : Int32) + x2))) = (13 : Int32) → ((¬ (fA σ 47 (Int32.toNatClampNeg ((1600 : Int32) + x2))) = (12 : Int32) → mw_qJoins (fA σ 47 (Int32.toNatClampNeg ((1600 : Int32) + x2))) σ (fun σ3 => mw_codesTell_147 X27 x1 x2 σ3 Q)) ∧ ((fA σ 47 (Int32.toNatClampNeg ((1600 : Int32) + x2))) = (12 : Int32) → (vp_in ((fI σ 0 109) - (1 : Int32)) 1700 ∧ (vp_in ((fI σ 0 109) - (1 : Int32)) 1700 ∧ ∀ σ4, σ4 = sB σ 108 (Int32.toNatClampNeg ((fI σ 0 109) - (1 : Int32))) ((1 : Int64) - (fB σ 108 (Int32.toNatClampNeg ((fI σ 0 109) - (1 : Int32))))) → mw_codesTell_147 X27 x1 x2 σ4 Q))))) ∧ ((fA σ 47 (Int32.toNatClampNeg ((1600 : Int32) + x2))) = (13 : Int32) → mw_qPuts (1 : Int64) σ (fun σ5 => mw_codesTell_147 X27 x1 x2 σ5 Q)))) ∧ (¬ (fA σ 47 (Int32.toNatClampNeg ((1600 : Int32) + x2))) < (40 : Int32) → mw_qPartOf ((fA σ 47 (Int32.toNatClampNeg ((1600 : Int32) + x2))) - (40 : Int32)) (fI σ 0 54) σ (fun r7 σ6 => mw_qPuts r7 σ6 (fun σ8 => mw_codesTell_147 X27 x1 x2 σ8 Q))))) ∧ (¬ (fA σ 47 (Int32.toNatClampNeg ((1600 : Int32) + x2))) < (1000 : Int32) → mw_qPuts (Int32.toInt64 ((fA σ 47 (Int32.toNatClampNeg ((1600 : Int32) + x2))) - (1000 : Int32))) σ (fun σ9 => mw_codesTell_147 X27 x1 x2 σ9 Q))))))) → X27 x1 x2 σ) → X27 x1 x2 σ
theorem mt_codesTell_27 {κ : Cx} {S : Adr} {Z : State → Prop} {Q : Int64 → FS → Prop} (h : MCx κ cX6_codesTell S 3) (hR : RetL κ S Z cX6_codesTell Q) {x1 : Int32} {x2 : Int32} {σ : FS} (hw : mw_codesTell_27 x1 x2 σ Q) : MG κ S Z 27 σ [some (.ref (S.2.1 0)), some (.int x1), some (.int x2), none] [] := by
  refine hw (fun x1 x2 σ => MG κ S Z 27 σ [some (.ref (S.2.1 0)), some (.int x1), some (.int x2), none] []) ?_
  clear hw
  intro x1 x2 σ hw
  have hX27 : ∀ (x1 : Int32) (x2 : Int32) (σ : FS), MG κ S Z 27 σ [some (.ref (S.2.1 0)), some (.int x1), some (.int x2), none] [] → MG κ S Z 27 σ [some (.ref (S.2.1 0)), some (.int x1), some (.int x2), none] [] := fun _ _ _ hh => hh
  refine g_iload_2 27 h.1 dX6_codesTell_27 ?_
  refine g_aload_0 28 h.1 dX6_codesTell_28 ?_
  refine mg_46 29 h dX6_codesTell_29 ?_
  refine g_iconstv 32 _ ic_3 h.1 dX6_codesTell_32 ?_
  refine g_iload_1 33 h.1 dX6_codesTell_33 ?_
  refine g_iadd 34 h.1 dX6_codesTell_34 ?_
  refine m_iald 35 rfl hw.1 h dX6_codesTell_35 ?_
  have hw := hw.2
  refine g_icmp_ge 36 153 h.1 dX6_codesTell_36 (by decide) (fun c => ?_) (fun c => ?_)
  · have hw := hw.1 c
    refine g_aload_0 153 h.1 dX6_codesTell_153 ?_
    refine mg_108 154 h dX6_codesTell_154 ?_
    refine g_iconstv 157 _ ic_0 h.1 dX6_codesTell_157 ?_
    refine m_lald 158 rfl hw.1 h dX6_codesTell_158 ?_
    have hw := hw.2
    exact hR 159 _ _ _ dX6_codesTell_159 hw
  · have hw := hw.2 c
    refine g_aload_0 39 h.1 dX6_codesTell_39 ?_
    refine mg_47 40 h dX6_codesTell_40 ?_
    refine g_sipush 43 _ sp_1600 h.1 dX6_codesTell_43 ?_
    refine g_iload_2 46 h.1 dX6_codesTell_46 ?_
    refine g_iadd 47 h.1 dX6_codesTell_47 ?_
    refine m_iald 48 rfl hw.1 h dX6_codesTell_48 ?_
    have hw := hw.2
    refine g_istore_3 49 h.1 rfl dX6_codesTell_49 ?_
    refine g_iload_3 50 h.1 dX6_codesTell_50 ?_
    refine g_sipush 51 _ sp_1000 h.1 dX6_codesTell_51 ?_
    refine g_icmp_lt 54 70 h.1 dX6_codesTell_54 (by decide) (fun c => ?_) (fun c => ?_)
    · have hw := hw.1 c
      refine g_iload_3 70 h.1 dX6_codesTell_70 ?_
      refine g_bipush 71 _ bp_40 h.1 dX6_codesTell_71 ?_
      refine g_icmp_lt 73 95 h.1 dX6_codesTell_73 (by decide) (fun c => ?_) (fun c => ?_)
      · have hw := hw.1 c
        refine g_iload_3 95 h.1 dX6_codesTell_95 ?_
        refine g_bipush 96 _ bp_13 h.1 dX6_codesTell_96 ?_
        refine g_icmp_ne 98 109 h.1 dX6_codesTell_98 (by decide) (fun c => ?_) (fun c => ?_)
        · have hw := hw.1 c
          refine g_iload_3 109 h.1 dX6_codesTell_109 ?_
          refine g_bipush 110 _ bp_12 h.1 dX6_codesTell_110 ?_
          refine g_icmp_ne 112 142 h.1 dX6_codesTell_112 (by decide) (fun c => ?_) (fun c => ?_)
          · have hw := hw.1 c
            refine g_aload_0 142 h.1 dX6_codesTell_142 ?_
            refine g_iload_3 143 h.1 dX6_codesTell_143 ?_
            refine m_callV_1 144 h (mm_qJoins h.2.2.1 hw) (by decide) q2395 (Nat.le_of_ble_eq_true rfl) dX6_codesTell_144 (fun σ3 hw => ?_)
            exact g_le (mt_codesTell_147 h hR hX27 hw) ⟨rfl, rfl, rfl, trivial⟩
          · have hw := hw.2 c
            refine g_aload_0 115 h.1 dX6_codesTell_115 ?_
            refine mg_108 116 h dX6_codesTell_116 ?_
            refine g_aload_0 119 h.1 dX6_codesTell_119 ?_
            refine mg_109 120 h dX6_codesTell_120 ?_
            refine g_iconstv 123 _ ic_1 h.1 dX6_codesTell_123 ?_
            refine g_isub 124 h.1 dX6_codesTell_124 ?_
            refine g_lconst 125 _ lc_1 h.1 dX6_codesTell_125 ?_
            refine g_aload_0 126 h.1 dX6_codesTell_126 ?_
            refine mg_108 127 h dX6_codesTell_127 ?_
            refine g_aload_0 130 h.1 dX6_codesTell_130 ?_
            refine mg_109 131 h dX6_codesTell_131 ?_
            refine g_iconstv 134 _ ic_1 h.1 dX6_codesTell_134 ?_
            refine g_isub 135 h.1 dX6_codesTell_135 ?_
            refine m_lald 136 rfl hw.1 h dX6_codesTell_136 ?_
            have hw := hw.2
            refine g_lsub 137 h.1 dX6_codesTell_137 ?_
            refine m_last 138 rfl hw.1 h dX6_codesTell_138 ?_
            have hw := hw.2 _ rfl
            refine g_goto 139 147 h.1 dX6_codesTell_139 (by decide) ?_
            exact g_le (mt_codesTell_147 h hR hX27 hw) ⟨rfl, rfl, rfl, trivial⟩
        · have hw := hw.2 c
          refine g_aload_0 101 h.1 dX6_codesTell_101 ?_
          refine g_lconst 102 _ lc_1 h.1 dX6_codesTell_102 ?_
          refine m_callV_1 103 h (mm_qPuts h.2.2.1 hw) (by decide) q2384 (Nat.le_of_ble_eq_true rfl) dX6_codesTell_103 (fun σ5 hw => ?_)
          refine g_goto 106 147 h.1 dX6_codesTell_106 (by decide) ?_
          exact g_le (mt_codesTell_147 h hR hX27 hw) ⟨rfl, rfl, rfl, trivial⟩
      · have hw := hw.2 c
        refine g_aload_0 76 h.1 dX6_codesTell_76 ?_
        refine g_aload_0 77 h.1 dX6_codesTell_77 ?_
        refine g_iload_3 78 h.1 dX6_codesTell_78 ?_
        refine g_bipush 79 _ bp_40 h.1 dX6_codesTell_79 ?_
        refine g_isub 81 h.1 dX6_codesTell_81 ?_
        refine g_aload_0 82 h.1 dX6_codesTell_82 ?_
        refine mg_54 83 h dX6_codesTell_83 ?_
        refine m_callL_2 86 h (mm_qPartOf h.2.2.1 hw) (by decide) q2388 (Nat.le_of_ble_eq_true rfl) dX6_codesTell_86 (fun r7 σ6 hw => ?_)
        refine m_callV_1 89 h (mm_qPuts h.2.2.1 hw) (by decide) q2384 (Nat.le_of_ble_eq_true rfl) dX6_codesTell_89 (fun σ8 hw => ?_)
        refine g_goto 92 147 h.1 dX6_codesTell_92 (by decide) ?_
        exact g_le (mt_codesTell_147 h hR hX27 hw) ⟨rfl, rfl, rfl, trivial⟩
    · have hw := hw.2 c
      refine g_aload_0 57 h.1 dX6_codesTell_57 ?_
      refine g_iload_3 58 h.1 dX6_codesTell_58 ?_
      refine g_sipush 59 _ sp_1000 h.1 dX6_codesTell_59 ?_
      refine g_isub 62 h.1 dX6_codesTell_62 ?_
      refine g_i2l 63 h.1 dX6_codesTell_63 ?_
      refine m_callV_1 64 h (mm_qPuts h.2.2.1 hw) (by decide) q2384 (Nat.le_of_ble_eq_true rfl) dX6_codesTell_64 (fun σ9 hw => ?_)
      refine g_goto 67 147 h.1 dX6_codesTell_67 (by decide) ?_
      exact g_le (mt_codesTell_147 h hR hX27 hw) ⟨rfl, rfl, rfl, trivial⟩
def mw_codesTell_10 (x1 : Int32) (y0 : Int32) (σ : FS) (Q : Int64 → FS → Prop) : Prop :=
  (∀ σ1, σ1 = sI σ 0 51 y0 → (∀ σ2, σ2 = sI σ1 0 109 (0 : Int32) → (vp_in ((3 : Int32) + x1) 6 ∧ mw_codesTell_27 x1 (fA σ2 45 (Int32.toNatClampNeg ((3 : Int32) + x1))) σ2 Q)))
theorem mt_codesTell_10 {κ : Cx} {S : Adr} {Z : State → Prop} {Q : Int64 → FS → Prop} (h : MCx κ cX6_codesTell S 3) (hR : RetL κ S Z cX6_codesTell Q) {x1 : Int32} {y0 : Int32} {σ : FS} (hw : mw_codesTell_10 x1 y0 σ Q) : MG κ S Z 10 σ [some (.ref (S.2.1 0)), some (.int x1), none, none] [.int y0, .ref (S.2.1 0)] := by
  unfold mw_codesTell_10 at hw
  refine mp_51 10 h dX6_codesTell_10 ?_
  have hw := hw _ rfl
  refine g_aload_0 13 h.1 dX6_codesTell_13 ?_
  refine g_iconstv 14 _ ic_0 h.1 dX6_codesTell_14 ?_
  refine mp_109 15 h dX6_codesTell_15 ?_
  have hw := hw _ rfl
  refine g_aload_0 18 h.1 dX6_codesTell_18 ?_
  refine mg_45 19 h dX6_codesTell_19 ?_
  refine g_iconstv 22 _ ic_3 h.1 dX6_codesTell_22 ?_
  refine g_iload_1 23 h.1 dX6_codesTell_23 ?_
  refine g_iadd 24 h.1 dX6_codesTell_24 ?_
  refine m_iald 25 rfl hw.1 h dX6_codesTell_25 ?_
  have hw := hw.2
  refine g_istore_2 26 h.1 rfl dX6_codesTell_26 ?_
  exact g_le (mt_codesTell_27 h hR hw) ⟨rfl, rfl, rfl, trivial⟩
def mw_codesTell (x1 : Int32) (σ : FS) (Q : Int64 → FS → Prop) : Prop :=
  ((¬ x1 = 0 → mw_codesTell_10 x1 (0 : Int32) σ Q) ∧ (x1 = 0 → mw_codesTell_10 x1 (1 : Int32) σ Q))
theorem mt_codesTell {κ : Cx} {S : Adr} {Z : State → Prop} {Q : Int64 → FS → Prop} (h : MCx κ cX6_codesTell S 3) (hR : RetL κ S Z cX6_codesTell Q) {x1 : Int32} {σ : FS} (hw : mw_codesTell x1 σ Q) : MG κ S Z 0 σ [some (.ref (S.2.1 0)), some (.int x1), none, none] [] := by
  unfold mw_codesTell at hw
  refine g_aload_0 0 h.1 dX6_codesTell_0 ?_
  refine g_iload_1 1 h.1 dX6_codesTell_1 ?_
  refine g_if_ne 2 9 h.1 dX6_codesTell_2 (by decide) (fun c => ?_) (fun c => ?_)
  · have hw := hw.1 c
    refine g_iconstv 9 _ ic_0 h.1 dX6_codesTell_9 ?_
    exact g_le (mt_codesTell_10 h hR hw) ⟨rfl, rfl, trivial⟩
  · have hw := hw.2 c
    refine g_iconstv 5 _ ic_1 h.1 dX6_codesTell_5 ?_
    refine g_goto 6 10 h.1 dX6_codesTell_6 (by decide) ?_
    exact g_le (mt_codesTell_10 h hR hw) ⟨rfl, rfl, trivial⟩
theorem mm_codesTell {l : Launch} {S : Adr} (hD : MD S) {x1 : Int32} {σ : FS} {Q : Int64 → FS → Prop} (hw : mw_codesTell x1 σ Q) : mMet l S 3 yX6_codesTell [.int x1] σ (mQl S Q) :=
  m_metL hD ⟨rfl, by decide, by show _ = some 1; decide +kernel, q2383⟩ q2382 qs123 (Nat.le_of_ble_eq_true rfl) (fun κ Z h hR => mt_codesTell h hR hw)
def mw_cut (x0 : Int64) (σ : FS) (Q : Int32 → FS → Prop) : Prop :=
  ((0 ≤ (lg_cmp x0 (0 : Int64)) → (((lg_cmp x0 (9 : Int64)) ≤ 0 → Q (Int64.toInt32 x0) σ) ∧ (¬ (lg_cmp x0 (9 : Int64)) ≤ 0 → Q (9 : Int32) σ))) ∧ (¬ 0 ≤ (lg_cmp x0 (0 : Int64)) → Q (0 : Int32) σ))
theorem mt_cut {κ : Cx} {S : Adr} {Z : State → Prop} {Q : Int32 → FS → Prop} (h : MCx κ cX6_cut S 1) (hR : RetI κ S Z cX6_cut Q) {x0 : Int64} {σ : FS} (hw : mw_cut x0 σ Q) : MG κ S Z 0 σ [some (.long x0), none] [] := by
  unfold mw_cut at hw
  refine g_lload_0 0 h.1 dX6_cut_0 ?_
  refine g_lconst 1 _ lc_0 h.1 dX6_cut_1 ?_
  refine g_lcmp 2 h.1 dX6_cut_2 ?_
  refine g_if_ge 3 10 h.1 dX6_cut_3 (by decide) (fun c => ?_) (fun c => ?_)
  · have hw := hw.1 c
    refine g_lload_0 10 h.1 dX6_cut_10 ?_
    refine g_ldc2 11 h.1 q2447 dX6_cut_11 ?_
    refine g_lcmp 14 h.1 dX6_cut_14 ?_
    refine g_if_le 15 23 h.1 dX6_cut_15 (by decide) (fun c => ?_) (fun c => ?_)
    · have hw := hw.1 c
      refine g_lload_0 23 h.1 dX6_cut_23 ?_
      refine g_l2i 24 h.1 dX6_cut_24 ?_
      exact hR 25 _ _ _ dX6_cut_25 hw
    · have hw := hw.2 c
      refine g_bipush 18 _ bp_9 h.1 dX6_cut_18 ?_
      refine g_goto 20 25 h.1 dX6_cut_20 (by decide) ?_
      exact hR 25 _ _ _ dX6_cut_25 hw
  · have hw := hw.2 c
    refine g_iconstv 6 _ ic_0 h.1 dX6_cut_6 ?_
    refine g_goto 7 25 h.1 dX6_cut_7 (by decide) ?_
    exact hR 25 _ _ _ dX6_cut_25 hw
theorem mm_cut {l : Launch} {S : Adr} (hD : MD S) {x0 : Int64} {σ : FS} {Q : Int32 → FS → Prop} (hw : mw_cut x0 σ Q) : mMetS l S 1 yX6_cut [.long x0] σ (mQi S Q) :=
  m_smetI hD ⟨rfl, by decide, by show _ = some 1; decide +kernel, q2446⟩ q2445 (Nat.le_of_ble_eq_true rfl) (fun κ Z h hR => mt_cut h hR hw)
def mw_isKept_64 (x1 : Int32) (x2 : Int32) (σ : FS) (Q : FS → Prop) : Prop :=
  (vp_in (71 : Int32) 232 ∧ (vp_in (0 : Int32) 232 ∧ (vp_in (((72 : Int32) + ((4 : Int32) * (fA σ 52 (Int32.toNatClampNeg (71 : Int32))))) - (4 : Int32)) 232 ∧ ∀ σ2, σ2 = sA σ 52 (Int32.toNatClampNeg (((72 : Int32) + ((4 : Int32) * (fA σ 52 (Int32.toNatClampNeg (71 : Int32))))) - (4 : Int32))) (fA σ 52 (Int32.toNatClampNeg (0 : Int32))) → (vp_in ((((72 : Int32) + ((4 : Int32) * (fA σ 52 (Int32.toNatClampNeg (71 : Int32))))) - (4 : Int32)) + (1 : Int32)) 232 ∧ ∀ σ3, σ3 = sA σ2 52 (Int32.toNatClampNeg ((((72 : Int32) + ((4 : Int32) * (fA σ 52 (Int32.toNatClampNeg (71 : Int32))))) - (4 : Int32)) + (1 : Int32))) x1 → (vp_in ((((72 : Int32) + ((4 : Int32) * (fA σ 52 (Int32.toNatClampNeg (71 : Int32))))) - (4 : Int32)) + (2 : Int32)) 232 ∧ ∀ σ4, σ4 = sA σ3 52 (Int32.toNatClampNeg ((((72 : Int32) + ((4 : Int32) * (fA σ 52 (Int32.toNatClampNeg (71 : Int32))))) - (4 : Int32)) + (2 : Int32))) x2 → (vp_in ((((72 : Int32) + ((4 : Int32) * (fA σ 52 (Int32.toNatClampNeg (71 : Int32))))) - (4 : Int32)) + (3 : Int32)) 232 ∧ ∀ σ5, σ5 = sA σ4 52 (Int32.toNatClampNeg ((((72 : Int32) + ((4 : Int32) * (fA σ 52 (Int32.toNatClampNeg (71 : Int32))))) - (4 : Int32)) + (3 : Int32))) (fI σ4 0 59) → Q σ5))))))
theorem mt_isKept_64 {κ : Cx} {S : Adr} {Z : State → Prop} {Q : FS → Prop} (h : MCx κ cX6_isKept S 1) (hR : RetV κ S Z cX6_isKept Q) {x1 : Int32} {x2 : Int32} {σ : FS} (hw : mw_isKept_64 x1 x2 σ Q) : MG κ S Z 64 σ [some (.ref (S.2.1 0)), some (.int x1), some (.int x2), none] [] := by
  unfold mw_isKept_64 at hw
  refine g_bipush 64 _ bp_72 h.1 dX6_isKept_64 ?_
  refine g_iconstv 66 _ ic_4 h.1 dX6_isKept_66 ?_
  refine g_aload_0 67 h.1 dX6_isKept_67 ?_
  refine mg_52 68 h dX6_isKept_68 ?_
  refine g_bipush 71 _ bp_71 h.1 dX6_isKept_71 ?_
  refine m_iald 73 rfl hw.1 h dX6_isKept_73 ?_
  have hw := hw.2
  refine g_imul 74 h.1 dX6_isKept_74 ?_
  refine g_iadd 75 h.1 dX6_isKept_75 ?_
  refine g_iconstv 76 _ ic_4 h.1 dX6_isKept_76 ?_
  refine g_isub 77 h.1 dX6_isKept_77 ?_
  refine g_istore_3 78 h.1 rfl dX6_isKept_78 ?_
  refine g_aload_0 79 h.1 dX6_isKept_79 ?_
  refine mg_52 80 h dX6_isKept_80 ?_
  refine g_iload_3 83 h.1 dX6_isKept_83 ?_
  refine g_aload_0 84 h.1 dX6_isKept_84 ?_
  refine mg_52 85 h dX6_isKept_85 ?_
  refine g_iconstv 88 _ ic_0 h.1 dX6_isKept_88 ?_
  refine m_iald 89 rfl hw.1 h dX6_isKept_89 ?_
  have hw := hw.2
  refine m_iast 90 rfl hw.1 h dX6_isKept_90 ?_
  have hw := hw.2 _ rfl
  refine g_aload_0 91 h.1 dX6_isKept_91 ?_
  refine mg_52 92 h dX6_isKept_92 ?_
  refine g_iload_3 95 h.1 dX6_isKept_95 ?_
  refine g_iconstv 96 _ ic_1 h.1 dX6_isKept_96 ?_
  refine g_iadd 97 h.1 dX6_isKept_97 ?_
  refine g_iload_1 98 h.1 dX6_isKept_98 ?_
  refine m_iast 99 rfl hw.1 h dX6_isKept_99 ?_
  have hw := hw.2 _ rfl
  refine g_aload_0 100 h.1 dX6_isKept_100 ?_
  refine mg_52 101 h dX6_isKept_101 ?_
  refine g_iload_3 104 h.1 dX6_isKept_104 ?_
  refine g_iconstv 105 _ ic_2 h.1 dX6_isKept_105 ?_
  refine g_iadd 106 h.1 dX6_isKept_106 ?_
  refine g_iload_2 107 h.1 dX6_isKept_107 ?_
  refine m_iast 108 rfl hw.1 h dX6_isKept_108 ?_
  have hw := hw.2 _ rfl
  refine g_aload_0 109 h.1 dX6_isKept_109 ?_
  refine mg_52 110 h dX6_isKept_110 ?_
  refine g_iload_3 113 h.1 dX6_isKept_113 ?_
  refine g_iconstv 114 _ ic_3 h.1 dX6_isKept_114 ?_
  refine g_iadd 115 h.1 dX6_isKept_115 ?_
  refine g_aload_0 116 h.1 dX6_isKept_116 ?_
  refine mg_59 117 h dX6_isKept_117 ?_
  refine m_iast 120 rfl hw.1 h dX6_isKept_120 ?_
  have hw := hw.2 _ rfl
  exact hR 121 _ _ dX6_isKept_121 hw
def mw_isKept_23 (x1 : Int32) (x2 : Int32) (x3 : Int32) (σ : FS) (Q : FS → Prop) : Prop :=
  ∀ X23 : Int32 → Int32 → Int32 → FS → Prop, (∀ (x1 : Int32) (x2 : Int32) (x3 : Int32) (σ : FS), (((228 : Int32) ≤ x3 → mw_isKept_64 x1 x2 σ Q) ∧ (¬ (228 : Int32) ≤ x3 → (vp_in (x3 + (4 : Int32)) 232 ∧ (vp_in x3 232 ∧ ∀ σ6, σ6 = sA σ 52 (Int32.toNatClampNeg x3) (fA σ 52 (Int32.toNatClampNeg (x3 + (4 : Int32)))) → X23 x1 x2 (x3 + 1) σ6)))) → X23 x1 x2 x3 σ) → X23 x1 x2 x3 σ
theorem mt_isKept_23 {κ : Cx} {S : Adr} {Z : State → Prop} {Q : FS → Prop} (h : MCx κ cX6_isKept S 1) (hR : RetV κ S Z cX6_isKept Q) {x1 : Int32} {x2 : Int32} {x3 : Int32} {σ : FS} (hw : mw_isKept_23 x1 x2 x3 σ Q) : MG κ S Z 23 σ [some (.ref (S.2.1 0)), some (.int x1), some (.int x2), some (.int x3)] [] := by
  refine hw (fun x1 x2 x3 σ => MG κ S Z 23 σ [some (.ref (S.2.1 0)), some (.int x1), some (.int x2), some (.int x3)] []) ?_
  clear hw
  intro x1 x2 x3 σ hw
  have hX23 : ∀ (x1 : Int32) (x2 : Int32) (x3 : Int32) (σ : FS), MG κ S Z 23 σ [some (.ref (S.2.1 0)), some (.int x1), some (.int x2), some (.int x3)] [] → MG κ S Z 23 σ [some (.ref (S.2.1 0)), some (.int x1), some (.int x2), some (.int x3)] [] := fun _ _ _ _ hh => hh
  refine g_iload_3 23 h.1 dX6_isKept_23 ?_
  refine g_sipush 24 _ sp_228 h.1 dX6_isKept_24 ?_
  refine g_icmp_ge 27 50 h.1 dX6_isKept_27 (by decide) (fun c => ?_) (fun c => ?_)
  · have hw := hw.1 c
    refine g_goto 50 64 h.1 dX6_isKept_50 (by decide) ?_
    exact g_le (mt_isKept_64 h hR hw) ⟨rfl, rfl, rfl, trivial⟩
  · have hw := hw.2 c
    refine g_aload_0 30 h.1 dX6_isKept_30 ?_
    refine mg_52 31 h dX6_isKept_31 ?_
    refine g_iload_3 34 h.1 dX6_isKept_34 ?_
    refine g_aload_0 35 h.1 dX6_isKept_35 ?_
    refine mg_52 36 h dX6_isKept_36 ?_
    refine g_iload_3 39 h.1 dX6_isKept_39 ?_
    refine g_iconstv 40 _ ic_4 h.1 dX6_isKept_40 ?_
    refine g_iadd 41 h.1 dX6_isKept_41 ?_
    refine m_iald 42 rfl hw.1 h dX6_isKept_42 ?_
    have hw := hw.2
    refine m_iast 43 rfl hw.1 h dX6_isKept_43 ?_
    have hw := hw.2 _ rfl
    refine g_iinc_3 44 (x3 + 1) (congrArg _ ic_1) h.1 rfl dX6_isKept_44 ?_
    refine g_goto 47 23 h.1 dX6_isKept_47 (by decide) ?_
    exact g_le (hX23 _ _ _ _ hw) ⟨rfl, rfl, rfl, rfl, trivial⟩
def mw_isKept (x1 : Int32) (x2 : Int32) (σ : FS) (Q : FS → Prop) : Prop :=
  (((fI σ 0 57) = 0 → (vp_in (71 : Int32) 232 ∧ ((¬ (fA σ 52 (Int32.toNatClampNeg (71 : Int32))) = (40 : Int32) → (vp_in (71 : Int32) 232 ∧ (vp_in (71 : Int32) 232 ∧ ∀ σ1, σ1 = sA σ 52 (Int32.toNatClampNeg (71 : Int32)) ((fA σ 52 (Int32.toNatClampNeg (71 : Int32))) + (1 : Int32)) → mw_isKept_64 x1 x2 σ1 Q))) ∧ ((fA σ 52 (Int32.toNatClampNeg (71 : Int32))) = (40 : Int32) → mw_isKept_23 x1 x2 (72 : Int32) σ Q)))) ∧ (¬ (fI σ 0 57) = 0 → Q σ))
theorem mt_isKept {κ : Cx} {S : Adr} {Z : State → Prop} {Q : FS → Prop} (h : MCx κ cX6_isKept S 1) (hR : RetV κ S Z cX6_isKept Q) {x1 : Int32} {x2 : Int32} {σ : FS} (hw : mw_isKept x1 x2 σ Q) : MG κ S Z 0 σ [some (.ref (S.2.1 0)), some (.int x1), some (.int x2), none] [] := by
  unfold mw_isKept at hw
  refine g_aload_0 0 h.1 dX6_isKept_0 ?_
  refine mg_57 1 h dX6_isKept_1 ?_
  refine g_if_eq 4 8 h.1 dX6_isKept_4 (by decide) (fun c => ?_) (fun c => ?_)
  · have hw := hw.1 c
    refine g_aload_0 8 h.1 dX6_isKept_8 ?_
    refine mg_52 9 h dX6_isKept_9 ?_
    refine g_bipush 12 _ bp_71 h.1 dX6_isKept_12 ?_
    refine m_iald 14 rfl hw.1 h dX6_isKept_14 ?_
    have hw := hw.2
    refine g_bipush 15 _ bp_40 h.1 dX6_isKept_15 ?_
    refine g_icmp_ne 17 53 h.1 dX6_isKept_17 (by decide) (fun c => ?_) (fun c => ?_)
    · have hw := hw.1 c
      refine g_aload_0 53 h.1 dX6_isKept_53 ?_
      refine mg_52 54 h dX6_isKept_54 ?_
      refine g_bipush 57 _ bp_71 h.1 dX6_isKept_57 ?_
      refine g_dup2 59 rfl rfl h.1 dX6_isKept_59 ?_
      refine m_iald 60 rfl hw.1 h dX6_isKept_60 ?_
      have hw := hw.2
      refine g_iconstv 61 _ ic_1 h.1 dX6_isKept_61 ?_
      refine g_iadd 62 h.1 dX6_isKept_62 ?_
      refine m_iast 63 rfl hw.1 h dX6_isKept_63 ?_
      have hw := hw.2 _ rfl
      exact g_le (mt_isKept_64 h hR hw) ⟨rfl, rfl, rfl, trivial⟩
    · have hw := hw.2 c
      refine g_bipush 20 _ bp_72 h.1 dX6_isKept_20 ?_
      refine g_istore_3 22 h.1 rfl dX6_isKept_22 ?_
      exact g_le (mt_isKept_23 h hR hw) ⟨rfl, rfl, rfl, rfl, trivial⟩
  · have hw := hw.2 c
    exact hR 7 _ _ dX6_isKept_7 hw
theorem mm_isKept {l : Launch} {S : Adr} (hD : MD S) {x1 : Int32} {x2 : Int32} {σ : FS} {Q : FS → Prop} (hw : mw_isKept x1 x2 σ Q) : mMet l S 1 yX6_isKept [.int x1, .int x2] σ (mQv S Q) :=
  m_metV hD ⟨rfl, by decide, by show _ = some 2; decide +kernel, q2455⟩ q2454 qs135 (Nat.le_of_ble_eq_true rfl) (fun κ Z h hR => mt_isKept h hR hw)
def mw_cellMany (σ : FS) (Q : Int32 → FS → Prop) : Prop :=
  (vp_in (3 : Int32) 6 ∧ (vp_in (4 : Int32) 6 ∧ Q ((fA σ 39 (Int32.toNatClampNeg (3 : Int32))) * (fA σ 39 (Int32.toNatClampNeg (4 : Int32)))) σ))
theorem mt_cellMany {κ : Cx} {S : Adr} {Z : State → Prop} {Q : Int32 → FS → Prop} (h : MCx κ cX6_cellMany S 1) (hR : RetI κ S Z cX6_cellMany Q) {σ : FS} (hw : mw_cellMany σ Q) : MG κ S Z 0 σ [some (.ref (S.2.1 0))] [] := by
  unfold mw_cellMany at hw
  refine g_aload_0 0 h.1 dX6_cellMany_0 ?_
  refine mg_39 1 h dX6_cellMany_1 ?_
  refine g_iconstv 4 _ ic_3 h.1 dX6_cellMany_4 ?_
  refine m_iald 5 rfl hw.1 h dX6_cellMany_5 ?_
  have hw := hw.2
  refine g_aload_0 6 h.1 dX6_cellMany_6 ?_
  refine mg_39 7 h dX6_cellMany_7 ?_
  refine g_iconstv 10 _ ic_4 h.1 dX6_cellMany_10 ?_
  refine m_iald 11 rfl hw.1 h dX6_cellMany_11 ?_
  have hw := hw.2
  refine g_imul 12 h.1 dX6_cellMany_12 ?_
  exact hR 13 _ _ _ dX6_cellMany_13 hw
theorem mm_cellMany {l : Launch} {S : Adr} (hD : MD S) {σ : FS} {Q : Int32 → FS → Prop} (hw : mw_cellMany σ Q) : mMet l S 1 yX6_cellMany [] σ (mQi S Q) :=
  m_metI hD ⟨rfl, by decide, by show _ = some 0; decide +kernel, q2322⟩ q2321 qs113 (Nat.le_of_ble_eq_true rfl) (fun κ Z h hR => mt_cellMany h hR hw)
def mw_cellOrder (x1 : Int32) (σ : FS) (Q : Int32 → FS → Prop) : Prop :=
  (vp_in (3 : Int32) 6 ∧ (¬ (fA σ 39 (Int32.toNatClampNeg (3 : Int32))) = 0 ∧ (vp_in (3 : Int32) 6 ∧ (¬ (fA σ 39 (Int32.toNatClampNeg (3 : Int32))) = 0 ∧ Q ((x1 - x1 / (fA σ 39 (Int32.toNatClampNeg (3 : Int32))) * (fA σ 39 (Int32.toNatClampNeg (3 : Int32)))) + ((7 : Int32) * (x1 / (fA σ 39 (Int32.toNatClampNeg (3 : Int32)))))) σ))))
theorem mt_cellOrder {κ : Cx} {S : Adr} {Z : State → Prop} {Q : Int32 → FS → Prop} (h : MCx κ cX6_cellOrder S 1) (hR : RetI κ S Z cX6_cellOrder Q) {x1 : Int32} {σ : FS} (hw : mw_cellOrder x1 σ Q) : MG κ S Z 0 σ [some (.ref (S.2.1 0)), some (.int x1)] [] := by
  unfold mw_cellOrder at hw
  refine g_iload_1 0 h.1 dX6_cellOrder_0 ?_
  refine g_aload_0 1 h.1 dX6_cellOrder_1 ?_
  refine mg_39 2 h dX6_cellOrder_2 ?_
  refine g_iconstv 5 _ ic_3 h.1 dX6_cellOrder_5 ?_
  refine m_iald 6 rfl hw.1 h dX6_cellOrder_6 ?_
  have hw := hw.2
  refine g_irem 7 hw.1 h.1 dX6_cellOrder_7 ?_
  have hw := hw.2
  refine g_bipush 8 _ bp_7 h.1 dX6_cellOrder_8 ?_
  refine g_iload_1 10 h.1 dX6_cellOrder_10 ?_
  refine g_aload_0 11 h.1 dX6_cellOrder_11 ?_
  refine mg_39 12 h dX6_cellOrder_12 ?_
  refine g_iconstv 15 _ ic_3 h.1 dX6_cellOrder_15 ?_
  refine m_iald 16 rfl hw.1 h dX6_cellOrder_16 ?_
  have hw := hw.2
  refine g_idiv 17 hw.1 h.1 dX6_cellOrder_17 ?_
  have hw := hw.2
  refine g_imul 18 h.1 dX6_cellOrder_18 ?_
  refine g_iadd 19 h.1 dX6_cellOrder_19 ?_
  exact hR 20 _ _ _ dX6_cellOrder_20 hw
theorem mm_cellOrder {l : Launch} {S : Adr} (hD : MD S) {x1 : Int32} {σ : FS} {Q : Int32 → FS → Prop} (hw : mw_cellOrder x1 σ Q) : mMet l S 1 yX6_cellOrder [.int x1] σ (mQi S Q) :=
  m_metI hD ⟨rfl, by decide, by show _ = some 1; decide +kernel, q2326⟩ q2325 qs114 (Nat.le_of_ble_eq_true rfl) (fun κ Z h hR => mt_cellOrder h hR hw)
def mw_highestBut_69 (X6 : Int32 → Int32 → Int32 → Int32 → Int32 → FS → Prop) (x1 : Int32) (x2 : Int32) (x3 : Int32) (x4 : Int32) (x5 : Int32) (σ : FS) (Q : Int32 → FS → Prop) : Prop :=
  X6 x1 x2 x3 x4 (x5 + 1) σ
theorem mt_highestBut_69 {κ : Cx} {S : Adr} {Z : State → Prop} {Q : Int32 → FS → Prop} (h : MCx κ cX6_highestBut S 2) (hR : RetI κ S Z cX6_highestBut Q) {X6 : Int32 → Int32 → Int32 → Int32 → Int32 → FS → Prop} (hX6 : ∀ (x1 : Int32) (x2 : Int32) (x3 : Int32) (x4 : Int32) (x5 : Int32) (σ : FS), X6 x1 x2 x3 x4 x5 σ → MG κ S Z 6 σ [some (.ref (S.2.1 0)), some (.int x1), some (.int x2), some (.int x3), some (.int x4), some (.int x5), none] []) {x1 : Int32} {x2 : Int32} {x3 : Int32} {x4 : Int32} {x5 : Int32} {σ : FS} (hw : mw_highestBut_69 X6 x1 x2 x3 x4 x5 σ Q) : MG κ S Z 69 σ [some (.ref (S.2.1 0)), some (.int x1), some (.int x2), some (.int x3), some (.int x4), some (.int x5), none] [] := by
  unfold mw_highestBut_69 at hw
  refine g_iinc_5 69 (x5 + 1) (congrArg _ ic_1) h.1 rfl dX6_highestBut_69 ?_
  refine g_goto 72 6 h.1 dX6_highestBut_72 (by decide) ?_
  exact g_le (hX6 _ _ _ _ _ _ hw) ⟨rfl, rfl, rfl, rfl, rfl, rfl, trivial⟩
def mw_highestBut_65 (X6 : Int32 → Int32 → Int32 → Int32 → Int32 → FS → Prop) (x1 : Int32) (x2 : Int32) (x3 : Int32) (x5 : Int32) (x6 : Int32) (σ : FS) (Q : Int32 → FS → Prop) : Prop :=
  mw_highestBut_69 X6 x1 x2 x3 x6 x5 σ Q
theorem mt_highestBut_65 {κ : Cx} {S : Adr} {Z : State → Prop} {Q : Int32 → FS → Prop} (h : MCx κ cX6_highestBut S 2) (hR : RetI κ S Z cX6_highestBut Q) {X6 : Int32 → Int32 → Int32 → Int32 → Int32 → FS → Prop} (hX6 : ∀ (x1 : Int32) (x2 : Int32) (x3 : Int32) (x4 : Int32) (x5 : Int32) (σ : FS), X6 x1 x2 x3 x4 x5 σ → MG κ S Z 6 σ [some (.ref (S.2.1 0)), some (.int x1), some (.int x2), some (.int x3), some (.int x4), some (.int x5), none] []) {x1 : Int32} {x2 : Int32} {x3 : Int32} {x5 : Int32} {x6 : Int32} {σ : FS} (hw : mw_highestBut_65 X6 x1 x2 x3 x5 x6 σ Q) : MG κ S Z 65 σ [some (.ref (S.2.1 0)), some (.int x1), some (.int x2), some (.int x3), none, some (.int x5), some (.int x6)] [] := by
  unfold mw_highestBut_65 at hw
  refine g_iload_6 65 h.1 dX6_highestBut_65 ?_
  refine g_istore_4 67 h.1 rfl dX6_highestBut_67 ?_
  exact g_le (mt_highestBut_69 h hR hX6 hw) ⟨rfl, rfl, rfl, rfl, rfl, rfl, trivial⟩
def mw_highestBut_6 (x1 : Int32) (x2 : Int32) (x3 : Int32) (x4 : Int32) (x5 : Int32) (σ : FS) (Q : Int32 → FS → Prop) : Prop :=
  ∀ X6 : Int32 → Int32 → Int32 → Int32 → Int32 → FS → Prop, (∀ (x1 : Int32) (x2 : Int32) (x3 : Int32) (x4 : Int32) (x5 : Int32) (σ : FS), mw_cellMany σ (fun r2 σ1 => ((r2 ≤ x5 → Q x4 σ1) ∧ (¬ r2 ≤ x5 → mw_cellOrder x5 σ1 (fun r4 σ3 => ((r4 = x1 → mw_highestBut_69 X6 x1 x2 x3 x4 x5 σ3 Q) ∧ (¬ r4 = x1 → ((r4 = x2 → mw_highestBut_69 X6 x1 x2 x3 x4 x5 σ3 Q) ∧ (¬ r4 = x2 → ((¬ r4 = x3 → ((x4 = (-1 : Int32) → mw_highestBut_65 X6 x1 x2 x3 x5 r4 σ3 Q) ∧ (¬ x4 = (-1 : Int32) → mw_heightOf r4 σ3 (fun r6 σ5 => mw_heightOf x4 σ5 (fun r8 σ7 => ((r6 ≤ r8 → mw_highestBut_69 X6 x1 x2 x3 x4 x5 σ7 Q) ∧ (¬ r6 ≤ r8 → mw_highestBut_65 X6 x1 x2 x3 x5 r4 σ7 Q))))))) ∧ (r4 = x3 → mw_highestBut_69 X6 x1 x2 x3 x4 x5 σ3 Q)))))))))) → X6 x1 x2 x3 x4 x5 σ) → X6 x1 x2 x3 x4 x5 σ
theorem mt_highestBut_6 {κ : Cx} {S : Adr} {Z : State → Prop} {Q : Int32 → FS → Prop} (h : MCx κ cX6_highestBut S 2) (hR : RetI κ S Z cX6_highestBut Q) {x1 : Int32} {x2 : Int32} {x3 : Int32} {x4 : Int32} {x5 : Int32} {σ : FS} (hw : mw_highestBut_6 x1 x2 x3 x4 x5 σ Q) : MG κ S Z 6 σ [some (.ref (S.2.1 0)), some (.int x1), some (.int x2), some (.int x3), some (.int x4), some (.int x5), none] [] := by
  refine hw (fun x1 x2 x3 x4 x5 σ => MG κ S Z 6 σ [some (.ref (S.2.1 0)), some (.int x1), some (.int x2), some (.int x3), some (.int x4), some (.int x5), none] []) ?_
  clear hw
  intro x1 x2 x3 x4 x5 σ hw
  have hX6 : ∀ (x1 : Int32) (x2 : Int32) (x3 : Int32) (x4 : Int32) (x5 : Int32) (σ : FS), MG κ S Z 6 σ [some (.ref (S.2.1 0)), some (.int x1), some (.int x2), some (.int x3), some (.int x4), some (.int x5), none] [] → MG κ S Z 6 σ [some (.ref (S.2.1 0)), some (.int x1), some (.int x2), some (.int x3), some (.int x4), some (.int x5), none] [] := fun _ _ _ _ _ _ hh => hh
  refine g_iload_5 6 h.1 dX6_highestBut_6 ?_
  refine g_aload_0 8 h.1 dX6_highestBut_8 ?_
  refine m_callI_0 9 h (mm_cellMany h.2.2.1 hw) (by decide) q2319 (Nat.le_of_ble_eq_true rfl) dX6_highestBut_9 (fun r2 σ1 hw => ?_)
  refine g_icmp_ge 12 75 h.1 dX6_highestBut_12 (by decide) (fun c => ?_) (fun c => ?_)
  · have hw := hw.1 c
    refine g_iload_4 75 h.1 dX6_highestBut_75 ?_
    exact hR 77 _ _ _ dX6_highestBut_77 hw
  · have hw := hw.2 c
    refine g_aload_0 15 h.1 dX6_highestBut_15 ?_
    refine g_iload_5 16 h.1 dX6_highestBut_16 ?_
    refine m_callI_1 18 h (mm_cellOrder h.2.2.1 hw) (by decide) q2323 (Nat.le_of_ble_eq_true rfl) dX6_highestBut_18 (fun r4 σ3 hw => ?_)
    refine g_istore_6 21 h.1 rfl dX6_highestBut_21 ?_
    refine g_iload_6 23 h.1 dX6_highestBut_23 ?_
    refine g_iload_1 25 h.1 dX6_highestBut_25 ?_
    refine g_icmp_eq 26 69 h.1 dX6_highestBut_26 (by decide) (fun c => ?_) (fun c => ?_)
    · have hw := hw.1 c
      exact g_le (mt_highestBut_69 h hR hX6 hw) ⟨rfl, rfl, rfl, rfl, rfl, rfl, trivial⟩
    · have hw := hw.2 c
      refine g_iload_6 29 h.1 dX6_highestBut_29 ?_
      refine g_iload_2 31 h.1 dX6_highestBut_31 ?_
      refine g_icmp_eq 32 69 h.1 dX6_highestBut_32 (by decide) (fun c => ?_) (fun c => ?_)
      · have hw := hw.1 c
        exact g_le (mt_highestBut_69 h hR hX6 hw) ⟨rfl, rfl, rfl, rfl, rfl, rfl, trivial⟩
      · have hw := hw.2 c
        refine g_iload_6 35 h.1 dX6_highestBut_35 ?_
        refine g_iload_3 37 h.1 dX6_highestBut_37 ?_
        refine g_icmp_ne 38 44 h.1 dX6_highestBut_38 (by decide) (fun c => ?_) (fun c => ?_)
        · have hw := hw.1 c
          refine g_iload_4 44 h.1 dX6_highestBut_44 ?_
          refine g_iconstv 46 _ ic_m1 h.1 dX6_highestBut_46 ?_
          refine g_icmp_eq 47 65 h.1 dX6_highestBut_47 (by decide) (fun c => ?_) (fun c => ?_)
          · have hw := hw.1 c
            exact g_le (mt_highestBut_65 h hR hX6 hw) ⟨rfl, rfl, rfl, rfl, rfl, rfl, trivial⟩
          · have hw := hw.2 c
            refine g_aload_0 50 h.1 dX6_highestBut_50 ?_
            refine g_iload_6 51 h.1 dX6_highestBut_51 ?_
            refine m_callI_1 53 h (mm_heightOf h.2.2.1 hw) (by decide) q2327 (Nat.le_of_ble_eq_true rfl) dX6_highestBut_53 (fun r6 σ5 hw => ?_)
            refine g_aload_0 56 h.1 dX6_highestBut_56 ?_
            refine g_iload_4 57 h.1 dX6_highestBut_57 ?_
            refine m_callI_1 59 h (mm_heightOf h.2.2.1 hw) (by decide) q2327 (Nat.le_of_ble_eq_true rfl) dX6_highestBut_59 (fun r8 σ7 hw => ?_)
            refine g_icmp_le 62 69 h.1 dX6_highestBut_62 (by decide) (fun c => ?_) (fun c => ?_)
            · have hw := hw.1 c
              exact g_le (mt_highestBut_69 h hR hX6 hw) ⟨rfl, rfl, rfl, rfl, rfl, rfl, trivial⟩
            · have hw := hw.2 c
              exact g_le (mt_highestBut_65 h hR hX6 hw) ⟨rfl, rfl, rfl, rfl, rfl, rfl, trivial⟩
        · have hw := hw.2 c
          refine g_goto 41 69 h.1 dX6_highestBut_41 (by decide) ?_
          exact g_le (mt_highestBut_69 h hR hX6 hw) ⟨rfl, rfl, rfl, rfl, rfl, rfl, trivial⟩
def mw_highestBut (x1 : Int32) (x2 : Int32) (x3 : Int32) (σ : FS) (Q : Int32 → FS → Prop) : Prop :=
  mw_highestBut_6 x1 x2 x3 (-1 : Int32) (0 : Int32) σ Q
theorem mt_highestBut {κ : Cx} {S : Adr} {Z : State → Prop} {Q : Int32 → FS → Prop} (h : MCx κ cX6_highestBut S 2) (hR : RetI κ S Z cX6_highestBut Q) {x1 : Int32} {x2 : Int32} {x3 : Int32} {σ : FS} (hw : mw_highestBut x1 x2 x3 σ Q) : MG κ S Z 0 σ [some (.ref (S.2.1 0)), some (.int x1), some (.int x2), some (.int x3), none, none, none] [] := by
  unfold mw_highestBut at hw
  refine g_iconstv 0 _ ic_m1 h.1 dX6_highestBut_0 ?_
  refine g_istore_4 1 h.1 rfl dX6_highestBut_1 ?_
  refine g_iconstv 3 _ ic_0 h.1 dX6_highestBut_3 ?_
  refine g_istore_5 4 h.1 rfl dX6_highestBut_4 ?_
  exact g_le (mt_highestBut_6 h hR hw) ⟨rfl, rfl, rfl, rfl, rfl, rfl, trivial⟩
theorem mm_highestBut {l : Launch} {S : Adr} (hD : MD S) {x1 : Int32} {x2 : Int32} {x3 : Int32} {σ : FS} {Q : Int32 → FS → Prop} (hw : mw_highestBut x1 x2 x3 σ Q) : mMet l S 2 yX6_highestBut [.int x1, .int x2, .int x3] σ (mQi S Q) :=
  m_metI hD ⟨rfl, by decide, by show _ = some 3; decide +kernel, q2451⟩ q2450 qs134 (Nat.le_of_ble_eq_true rfl) (fun κ Z h hR => mt_highestBut h hR hw)
def mw_liftedBy (x1 : Int32) (σ : FS) (Q : Int32 → FS → Prop) : Prop :=
  (vp_in (3 : Int32) 6 ∧ ((¬ (fA σ 45 (Int32.toNatClampNeg (3 : Int32))) = (-1 : Int32) → mw_heightOf x1 σ (fun r2 σ1 => (∀ σ3, σ3 = sI σ1 0 56 r2 → mw_codesTell (0 : Int32) σ3 (fun r5 σ4 => mw_cut r5 σ4 (fun r7 σ6 => Q r7 σ6))))) ∧ ((fA σ 45 (Int32.toNatClampNeg (3 : Int32))) = (-1 : Int32) → Q (3 : Int32) σ)))
theorem mt_liftedBy {κ : Cx} {S : Adr} {Z : State → Prop} {Q : Int32 → FS → Prop} (h : MCx κ cX6_liftedBy S 4) (hR : RetI κ S Z cX6_liftedBy Q) {x1 : Int32} {σ : FS} (hw : mw_liftedBy x1 σ Q) : MG κ S Z 0 σ [some (.ref (S.2.1 0)), some (.int x1)] [] := by
  unfold mw_liftedBy at hw
  refine g_aload_0 0 h.1 dX6_liftedBy_0 ?_
  refine mg_45 1 h dX6_liftedBy_1 ?_
  refine g_iconstv 4 _ ic_3 h.1 dX6_liftedBy_4 ?_
  refine m_iald 5 rfl hw.1 h dX6_liftedBy_5 ?_
  have hw := hw.2
  refine g_iconstv 6 _ ic_m1 h.1 dX6_liftedBy_6 ?_
  refine g_icmp_ne 7 12 h.1 dX6_liftedBy_7 (by decide) (fun c => ?_) (fun c => ?_)
  · have hw := hw.1 c
    refine g_aload_0 12 h.1 dX6_liftedBy_12 ?_
    refine g_aload_0 13 h.1 dX6_liftedBy_13 ?_
    refine g_iload_1 14 h.1 dX6_liftedBy_14 ?_
    refine m_callI_1 15 h (mm_heightOf h.2.2.1 hw) (by decide) q2327 (Nat.le_of_ble_eq_true rfl) dX6_liftedBy_15 (fun r2 σ1 hw => ?_)
    refine mp_56 18 h dX6_liftedBy_18 ?_
    have hw := hw _ rfl
    refine g_aload_0 21 h.1 dX6_liftedBy_21 ?_
    refine g_iconstv 22 _ ic_0 h.1 dX6_liftedBy_22 ?_
    refine m_callL_1 23 h (mm_codesTell h.2.2.1 hw) (by decide) q2380 (Nat.le_of_ble_eq_true rfl) dX6_liftedBy_23 (fun r5 σ4 hw => ?_)
    refine m_scallI_1 26 h (mm_cut h.2.2.1 hw) (by decide) q2444 (Nat.le_of_ble_eq_true rfl) dX6_liftedBy_26 (fun r7 σ6 hw => ?_)
    exact hR 29 _ _ _ dX6_liftedBy_29 hw
  · have hw := hw.2 c
    refine g_iconstv 10 _ ic_3 h.1 dX6_liftedBy_10 ?_
    exact hR 11 _ _ _ dX6_liftedBy_11 hw
theorem mm_liftedBy {l : Launch} {S : Adr} (hD : MD S) {x1 : Int32} {σ : FS} {Q : Int32 → FS → Prop} (hw : mw_liftedBy x1 σ Q) : mMet l S 4 yX6_liftedBy [.int x1] σ (mQi S Q) :=
  m_metI hD ⟨rfl, by decide, by show _ = some 1; decide +kernel, q2443⟩ q2442 qs133 (Nat.le_of_ble_eq_true rfl) (fun κ Z h hR => mt_liftedBy h hR hw)
def mw_lifts_10 (x1 : Int32) (x2 : Int32) (x3 : Int32) (x4 : Int32) (x5 : Int32) (σ : FS) (Q : FS → Prop) : Prop :=
  ∀ X10 : Int32 → Int32 → Int32 → Int32 → Int32 → FS → Prop, (∀ (x1 : Int32) (x2 : Int32) (x3 : Int32) (x4 : Int32) (x5 : Int32) (σ : FS), ((x4 ≤ x5 → Q σ) ∧ (¬ x4 ≤ x5 → mw_highestBut x1 x2 x3 σ (fun r4 σ3 => mw_heightOf r4 σ3 (fun r6 σ5 => ((r6 = 0 → Q σ5) ∧ (¬ r6 = 0 → mw_heightOf x1 σ5 (fun r8 σ7 => ((¬ r8 = (99 : Int32) → (vp_in ((1 : Int32) + r4) 232 ∧ (vp_in ((1 : Int32) + r4) 232 ∧ ∀ σ9, σ9 = sA σ7 52 (Int32.toNatClampNeg ((1 : Int32) + r4)) ((fA σ7 52 (Int32.toNatClampNeg ((1 : Int32) + r4))) - (1 : Int32)) → (vp_in ((1 : Int32) + x1) 232 ∧ (vp_in ((1 : Int32) + x1) 232 ∧ ∀ σ10, σ10 = sA σ9 52 (Int32.toNatClampNeg ((1 : Int32) + x1)) ((fA σ9 52 (Int32.toNatClampNeg ((1 : Int32) + x1))) + (1 : Int32)) → (∀ σ11, σ11 = sI σ10 0 59 ((fI σ10 0 59) + (1 : Int32)) → X10 x1 x2 x3 x4 (x5 + 1) σ11)))))) ∧ (r8 = (99 : Int32) → Q σ7))))))))) → X10 x1 x2 x3 x4 x5 σ) → X10 x1 x2 x3 x4 x5 σ
theorem mt_lifts_10 {κ : Cx} {S : Adr} {Z : State → Prop} {Q : FS → Prop} (h : MCx κ cX6_lifts S 5) (hR : RetV κ S Z cX6_lifts Q) {x1 : Int32} {x2 : Int32} {x3 : Int32} {x4 : Int32} {x5 : Int32} {σ : FS} (hw : mw_lifts_10 x1 x2 x3 x4 x5 σ Q) : MG κ S Z 10 σ [some (.ref (S.2.1 0)), some (.int x1), some (.int x2), some (.int x3), some (.int x4), some (.int x5), none] [] := by
  refine hw (fun x1 x2 x3 x4 x5 σ => MG κ S Z 10 σ [some (.ref (S.2.1 0)), some (.int x1), some (.int x2), some (.int x3), some (.int x4), some (.int x5), none] []) ?_
  clear hw
  intro x1 x2 x3 x4 x5 σ hw
  have hX10 : ∀ (x1 : Int32) (x2 : Int32) (x3 : Int32) (x4 : Int32) (x5 : Int32) (σ : FS), MG κ S Z 10 σ [some (.ref (S.2.1 0)), some (.int x1), some (.int x2), some (.int x3), some (.int x4), some (.int x5), none] [] → MG κ S Z 10 σ [some (.ref (S.2.1 0)), some (.int x1), some (.int x2), some (.int x3), some (.int x4), some (.int x5), none] [] := fun _ _ _ _ _ _ hh => hh
  refine g_iload_5 10 h.1 dX6_lifts_10 ?_
  refine g_iload_4 12 h.1 dX6_lifts_12 ?_
  refine g_icmp_ge 14 87 h.1 dX6_lifts_14 (by decide) (fun c => ?_) (fun c => ?_)
  · have hw := hw.1 c
    exact hR 87 _ _ dX6_lifts_87 hw
  · have hw := hw.2 c
    refine g_aload_0 17 h.1 dX6_lifts_17 ?_
    refine g_iload_1 18 h.1 dX6_lifts_18 ?_
    refine g_iload_2 19 h.1 dX6_lifts_19 ?_
    refine g_iload_3 20 h.1 dX6_lifts_20 ?_
    refine m_callI_3 21 h (mm_highestBut h.2.2.1 hw) (by decide) q2448 (Nat.le_of_ble_eq_true rfl) dX6_lifts_21 (fun r4 σ3 hw => ?_)
    refine g_istore_6 24 h.1 rfl dX6_lifts_24 ?_
    refine g_aload_0 26 h.1 dX6_lifts_26 ?_
    refine g_iload_6 27 h.1 dX6_lifts_27 ?_
    refine m_callI_1 29 h (mm_heightOf h.2.2.1 hw) (by decide) q2327 (Nat.le_of_ble_eq_true rfl) dX6_lifts_29 (fun r6 σ5 hw => ?_)
    refine g_if_eq 32 45 h.1 dX6_lifts_32 (by decide) (fun c => ?_) (fun c => ?_)
    · have hw := hw.1 c
      exact hR 45 _ _ dX6_lifts_45 hw
    · have hw := hw.2 c
      refine g_aload_0 35 h.1 dX6_lifts_35 ?_
      refine g_iload_1 36 h.1 dX6_lifts_36 ?_
      refine m_callI_1 37 h (mm_heightOf h.2.2.1 hw) (by decide) q2327 (Nat.le_of_ble_eq_true rfl) dX6_lifts_37 (fun r8 σ7 hw => ?_)
      refine g_bipush 40 _ bp_99 h.1 dX6_lifts_40 ?_
      refine g_icmp_ne 42 46 h.1 dX6_lifts_42 (by decide) (fun c => ?_) (fun c => ?_)
      · have hw := hw.1 c
        refine g_aload_0 46 h.1 dX6_lifts_46 ?_
        refine mg_52 47 h dX6_lifts_47 ?_
        refine g_iconstv 50 _ ic_1 h.1 dX6_lifts_50 ?_
        refine g_iload_6 51 h.1 dX6_lifts_51 ?_
        refine g_iadd 53 h.1 dX6_lifts_53 ?_
        refine g_dup2 54 rfl rfl h.1 dX6_lifts_54 ?_
        refine m_iald 55 rfl hw.1 h dX6_lifts_55 ?_
        have hw := hw.2
        refine g_iconstv 56 _ ic_1 h.1 dX6_lifts_56 ?_
        refine g_isub 57 h.1 dX6_lifts_57 ?_
        refine m_iast 58 rfl hw.1 h dX6_lifts_58 ?_
        have hw := hw.2 _ rfl
        refine g_aload_0 59 h.1 dX6_lifts_59 ?_
        refine mg_52 60 h dX6_lifts_60 ?_
        refine g_iconstv 63 _ ic_1 h.1 dX6_lifts_63 ?_
        refine g_iload_1 64 h.1 dX6_lifts_64 ?_
        refine g_iadd 65 h.1 dX6_lifts_65 ?_
        refine g_dup2 66 rfl rfl h.1 dX6_lifts_66 ?_
        refine m_iald 67 rfl hw.1 h dX6_lifts_67 ?_
        have hw := hw.2
        refine g_iconstv 68 _ ic_1 h.1 dX6_lifts_68 ?_
        refine g_iadd 69 h.1 dX6_lifts_69 ?_
        refine m_iast 70 rfl hw.1 h dX6_lifts_70 ?_
        have hw := hw.2 _ rfl
        refine g_aload_0 71 h.1 dX6_lifts_71 ?_
        refine g_dup 72 rfl h.1 dX6_lifts_72 ?_
        refine mg_59 73 h dX6_lifts_73 ?_
        refine g_iconstv 76 _ ic_1 h.1 dX6_lifts_76 ?_
        refine g_iadd 77 h.1 dX6_lifts_77 ?_
        refine mp_59 78 h dX6_lifts_78 ?_
        have hw := hw _ rfl
        refine g_iinc_5 81 (x5 + 1) (congrArg _ ic_1) h.1 rfl dX6_lifts_81 ?_
        refine g_goto 84 10 h.1 dX6_lifts_84 (by decide) ?_
        exact g_le (hX10 _ _ _ _ _ _ hw) ⟨rfl, rfl, rfl, rfl, rfl, rfl, trivial⟩
      · have hw := hw.2 c
        exact hR 45 _ _ dX6_lifts_45 hw
def mw_lifts (x1 : Int32) (x2 : Int32) (x3 : Int32) (σ : FS) (Q : FS → Prop) : Prop :=
  mw_liftedBy x1 σ (fun r2 σ1 => mw_lifts_10 x1 x2 x3 r2 (0 : Int32) σ1 Q)
theorem mt_lifts {κ : Cx} {S : Adr} {Z : State → Prop} {Q : FS → Prop} (h : MCx κ cX6_lifts S 5) (hR : RetV κ S Z cX6_lifts Q) {x1 : Int32} {x2 : Int32} {x3 : Int32} {σ : FS} (hw : mw_lifts x1 x2 x3 σ Q) : MG κ S Z 0 σ [some (.ref (S.2.1 0)), some (.int x1), some (.int x2), some (.int x3), none, none, none] [] := by
  unfold mw_lifts at hw
  refine g_aload_0 0 h.1 dX6_lifts_0 ?_
  refine g_iload_1 1 h.1 dX6_lifts_1 ?_
  refine m_callI_1 2 h (mm_liftedBy h.2.2.1 hw) (by decide) q2440 (Nat.le_of_ble_eq_true rfl) dX6_lifts_2 (fun r2 σ1 hw => ?_)
  refine g_istore_4 5 h.1 rfl dX6_lifts_5 ?_
  refine g_iconstv 7 _ ic_0 h.1 dX6_lifts_7 ?_
  refine g_istore_5 8 h.1 rfl dX6_lifts_8 ?_
  exact g_le (mt_lifts_10 h hR hw) ⟨rfl, rfl, rfl, rfl, rfl, rfl, trivial⟩
theorem mm_lifts {l : Launch} {S : Adr} (hD : MD S) {x1 : Int32} {x2 : Int32} {x3 : Int32} {σ : FS} {Q : FS → Prop} (hw : mw_lifts x1 x2 x3 σ Q) : mMet l S 5 yX6_lifts [.int x1, .int x2, .int x3] σ (mQv S Q) :=
  m_metV hD ⟨rfl, by decide, by show _ = some 3; decide +kernel, q2439⟩ q2438 qs132 (Nat.le_of_ble_eq_true rfl) (fun κ Z h hR => mt_lifts h hR hw)
def mw_wouldDo (x1 : Int32) (x2 : Int32) (σ : FS) (Q : Int32 → FS → Prop) : Prop :=
  mw_knowsOf x1 σ (fun r2 σ1 => ((¬ ((r2 >>> (x2 &&& 31)) &&& (1 : Int32)) = (1 : Int32) → (∀ σ3, σ3 = sI σ1 0 54 x1 → (∀ σ4, σ4 = sI σ3 0 55 x2 → (vp_in (5 : Int32) 6 ∧ (((fA σ4 45 (Int32.toNatClampNeg (5 : Int32))) = (-1 : Int32) → Q (2 : Int32) σ4) ∧ (¬ (fA σ4 45 (Int32.toNatClampNeg (5 : Int32))) = (-1 : Int32) → mw_codesTell (2 : Int32) σ4 (fun r6 σ5 => ((¬ (lg_cmp r6 (1 : Int64)) = 0 → Q (2 : Int32) σ5) ∧ ((lg_cmp r6 (1 : Int64)) = 0 → Q (1 : Int32) σ5))))))))) ∧ (((r2 >>> (x2 &&& 31)) &&& (1 : Int32)) = (1 : Int32) → Q (0 : Int32) σ1)))
theorem mt_wouldDo {κ : Cx} {S : Adr} {Z : State → Prop} {Q : Int32 → FS → Prop} (h : MCx κ cX6_wouldDo S 4) (hR : RetI κ S Z cX6_wouldDo Q) {x1 : Int32} {x2 : Int32} {σ : FS} (hw : mw_wouldDo x1 x2 σ Q) : MG κ S Z 0 σ [some (.ref (S.2.1 0)), some (.int x1), some (.int x2)] [] := by
  unfold mw_wouldDo at hw
  refine g_aload_0 0 h.1 dX6_wouldDo_0 ?_
  refine g_iload_1 1 h.1 dX6_wouldDo_1 ?_
  refine m_callI_1 2 h (mm_knowsOf h.2.2.1 hw) (by decide) q2360 (Nat.le_of_ble_eq_true rfl) dX6_wouldDo_2 (fun r2 σ1 hw => ?_)
  refine g_iload_2 5 h.1 dX6_wouldDo_5 ?_
  refine g_ishr 6 h.1 dX6_wouldDo_6 ?_
  refine g_iconstv 7 _ ic_1 h.1 dX6_wouldDo_7 ?_
  refine g_iand 8 h.1 dX6_wouldDo_8 ?_
  refine g_iconstv 9 _ ic_1 h.1 dX6_wouldDo_9 ?_
  refine g_icmp_ne 10 15 h.1 dX6_wouldDo_10 (by decide) (fun c => ?_) (fun c => ?_)
  · have hw := hw.1 c
    refine g_aload_0 15 h.1 dX6_wouldDo_15 ?_
    refine g_iload_1 16 h.1 dX6_wouldDo_16 ?_
    refine mp_54 17 h dX6_wouldDo_17 ?_
    have hw := hw _ rfl
    refine g_aload_0 20 h.1 dX6_wouldDo_20 ?_
    refine g_iload_2 21 h.1 dX6_wouldDo_21 ?_
    refine mp_55 22 h dX6_wouldDo_22 ?_
    have hw := hw _ rfl
    refine g_aload_0 25 h.1 dX6_wouldDo_25 ?_
    refine mg_45 26 h dX6_wouldDo_26 ?_
    refine g_iconstv 29 _ ic_5 h.1 dX6_wouldDo_29 ?_
    refine m_iald 30 rfl hw.1 h dX6_wouldDo_30 ?_
    have hw := hw.2
    refine g_iconstv 31 _ ic_m1 h.1 dX6_wouldDo_31 ?_
    refine g_icmp_eq 32 49 h.1 dX6_wouldDo_32 (by decide) (fun c => ?_) (fun c => ?_)
    · have hw := hw.1 c
      refine g_iconstv 49 _ ic_2 h.1 dX6_wouldDo_49 ?_
      exact hR 50 _ _ _ dX6_wouldDo_50 hw
    · have hw := hw.2 c
      refine g_aload_0 35 h.1 dX6_wouldDo_35 ?_
      refine g_iconstv 36 _ ic_2 h.1 dX6_wouldDo_36 ?_
      refine m_callL_1 37 h (mm_codesTell h.2.2.1 hw) (by decide) q2380 (Nat.le_of_ble_eq_true rfl) dX6_wouldDo_37 (fun r6 σ5 hw => ?_)
      refine g_lconst 40 _ lc_1 h.1 dX6_wouldDo_40 ?_
      refine g_lcmp 41 h.1 dX6_wouldDo_41 ?_
      refine g_if_ne 42 49 h.1 dX6_wouldDo_42 (by decide) (fun c => ?_) (fun c => ?_)
      · have hw := hw.1 c
        refine g_iconstv 49 _ ic_2 h.1 dX6_wouldDo_49 ?_
        exact hR 50 _ _ _ dX6_wouldDo_50 hw
      · have hw := hw.2 c
        refine g_iconstv 45 _ ic_1 h.1 dX6_wouldDo_45 ?_
        refine g_goto 46 50 h.1 dX6_wouldDo_46 (by decide) ?_
        exact hR 50 _ _ _ dX6_wouldDo_50 hw
  · have hw := hw.2 c
    refine g_iconstv 13 _ ic_0 h.1 dX6_wouldDo_13 ?_
    exact hR 14 _ _ _ dX6_wouldDo_14 hw
theorem mm_wouldDo {l : Launch} {S : Adr} (hD : MD S) {x1 : Int32} {x2 : Int32} {σ : FS} {Q : Int32 → FS → Prop} (hw : mw_wouldDo x1 x2 σ Q) : mMet l S 4 yX6_wouldDo [.int x1, .int x2] σ (mQi S Q) :=
  m_metI hD ⟨rfl, by decide, by show _ = some 2; decide +kernel, q2379⟩ q2378 qs122 (Nat.le_of_ble_eq_true rfl) (fun κ Z h hR => mt_wouldDo h hR hw)
def mw_isAsked_158 (x1 : Int32) (x2 : Int32) (x3 : Int32) (y0 : Int32) (y1 : Int32) (σ : FS) (Q : Int32 → FS → Prop) : Prop :=
  (vp_in y1 232 ∧ ∀ σ16, σ16 = sA σ 52 (Int32.toNatClampNeg y1) y0 → (∀ σ17, σ17 = sI σ16 0 58 ((fI σ16 0 58) + (1 : Int32)) → mw_isKept x1 x2 σ17 (fun σ18 => Q x3 σ18)))
theorem mt_isAsked_158 {κ : Cx} {S : Adr} {Z : State → Prop} {Q : Int32 → FS → Prop} (h : MCx κ cX6_isAsked S 6) (hR : RetI κ S Z cX6_isAsked Q) {x1 : Int32} {x2 : Int32} {x3 : Int32} {y0 : Int32} {y1 : Int32} {σ : FS} (hw : mw_isAsked_158 x1 x2 x3 y0 y1 σ Q) : MG κ S Z 158 σ [some (.ref (S.2.1 0)), some (.int x1), some (.int x2), some (.int x3), none, none, none] [.int y0, .int y1, .ref (S.2.2.1 52)] := by
  unfold mw_isAsked_158 at hw
  refine m_iast 158 rfl hw.1 h dX6_isAsked_158 ?_
  have hw := hw.2 _ rfl
  refine g_aload_0 159 h.1 dX6_isAsked_159 ?_
  refine g_dup 160 rfl h.1 dX6_isAsked_160 ?_
  refine mg_58 161 h dX6_isAsked_161 ?_
  refine g_iconstv 164 _ ic_1 h.1 dX6_isAsked_164 ?_
  refine g_iadd 165 h.1 dX6_isAsked_165 ?_
  refine mp_58 166 h dX6_isAsked_166 ?_
  have hw := hw _ rfl
  refine g_aload_0 169 h.1 dX6_isAsked_169 ?_
  refine g_iload_1 170 h.1 dX6_isAsked_170 ?_
  refine g_iload_2 171 h.1 dX6_isAsked_171 ?_
  refine m_callV_2 172 h (mm_isKept h.2.2.1 hw) (by decide) q2452 (Nat.le_of_ble_eq_true rfl) dX6_isAsked_172 (fun σ18 hw => ?_)
  refine g_iload_3 175 h.1 dX6_isAsked_175 ?_
  exact hR 176 _ _ _ dX6_isAsked_176 hw
def mw_isAsked_116 (x1 : Int32) (x2 : Int32) (x3 : Int32) (σ : FS) (Q : Int32 → FS → Prop) : Prop :=
  (vp_in (4 : Int32) 6 ∧ ((¬ (fA σ 45 (Int32.toNatClampNeg (4 : Int32))) = (-1 : Int32) → mw_codesTell (1 : Int32) σ (fun r9 σ8 => mw_cut r9 σ8 (fun r11 σ10 => mw_isAsked_158 x1 x2 x3 r11 ((51 : Int32) + ((3 : Int32) * x1)) σ10 Q))) ∧ ((fA σ 45 (Int32.toNatClampNeg (4 : Int32))) = (-1 : Int32) → mw_tiredOf x1 σ (fun r13 σ12 => mw_cut (Int32.toInt64 (r13 + (1 : Int32))) σ12 (fun r15 σ14 => mw_isAsked_158 x1 x2 x3 r15 ((51 : Int32) + ((3 : Int32) * x1)) σ14 Q)))))
theorem mt_isAsked_116 {κ : Cx} {S : Adr} {Z : State → Prop} {Q : Int32 → FS → Prop} (h : MCx κ cX6_isAsked S 6) (hR : RetI κ S Z cX6_isAsked Q) {x1 : Int32} {x2 : Int32} {x3 : Int32} {σ : FS} (hw : mw_isAsked_116 x1 x2 x3 σ Q) : MG κ S Z 116 σ [some (.ref (S.2.1 0)), some (.int x1), some (.int x2), some (.int x3), none, none, none] [] := by
  unfold mw_isAsked_116 at hw
  refine g_aload_0 116 h.1 dX6_isAsked_116 ?_
  refine mg_52 117 h dX6_isAsked_117 ?_
  refine g_bipush 120 _ bp_51 h.1 dX6_isAsked_120 ?_
  refine g_iconstv 122 _ ic_3 h.1 dX6_isAsked_122 ?_
  refine g_iload_1 123 h.1 dX6_isAsked_123 ?_
  refine g_imul 124 h.1 dX6_isAsked_124 ?_
  refine g_iadd 125 h.1 dX6_isAsked_125 ?_
  refine g_aload_0 126 h.1 dX6_isAsked_126 ?_
  refine mg_45 127 h dX6_isAsked_127 ?_
  refine g_iconstv 130 _ ic_4 h.1 dX6_isAsked_130 ?_
  refine m_iald 131 rfl hw.1 h dX6_isAsked_131 ?_
  have hw := hw.2
  refine g_iconstv 132 _ ic_m1 h.1 dX6_isAsked_132 ?_
  refine g_icmp_ne 133 150 h.1 dX6_isAsked_133 (by decide) (fun c => ?_) (fun c => ?_)
  · have hw := hw.1 c
    refine g_aload_0 150 h.1 dX6_isAsked_150 ?_
    refine g_iconstv 151 _ ic_1 h.1 dX6_isAsked_151 ?_
    refine m_callL_1 152 h (mm_codesTell h.2.2.1 hw) (by decide) q2380 (Nat.le_of_ble_eq_true rfl) dX6_isAsked_152 (fun r9 σ8 hw => ?_)
    refine m_scallI_1 155 h (mm_cut h.2.2.1 hw) (by decide) q2444 (Nat.le_of_ble_eq_true rfl) dX6_isAsked_155 (fun r11 σ10 hw => ?_)
    exact g_le (mt_isAsked_158 h hR hw) ⟨rfl, rfl, rfl, rfl, trivial⟩
  · have hw := hw.2 c
    refine g_aload_0 136 h.1 dX6_isAsked_136 ?_
    refine g_iload_1 137 h.1 dX6_isAsked_137 ?_
    refine m_callI_1 138 h (mm_tiredOf h.2.2.1 hw) (by decide) q2356 (Nat.le_of_ble_eq_true rfl) dX6_isAsked_138 (fun r13 σ12 hw => ?_)
    refine g_iconstv 141 _ ic_1 h.1 dX6_isAsked_141 ?_
    refine g_iadd 142 h.1 dX6_isAsked_142 ?_
    refine g_i2l 143 h.1 dX6_isAsked_143 ?_
    refine m_scallI_1 144 h (mm_cut h.2.2.1 hw) (by decide) q2444 (Nat.le_of_ble_eq_true rfl) dX6_isAsked_144 (fun r15 σ14 hw => ?_)
    refine g_goto 147 158 h.1 dX6_isAsked_147 (by decide) ?_
    exact g_le (mt_isAsked_158 h hR hw) ⟨rfl, rfl, rfl, rfl, trivial⟩
def mw_isAsked_100 (x1 : Int32) (x2 : Int32) (x3 : Int32) (x4 : Int32) (x5 : Int32) (x6 : Int32) (σ : FS) (Q : Int32 → FS → Prop) : Prop :=
  ((x6 = (-1 : Int32) → mw_isAsked_116 x1 x2 x3 σ Q) ∧ (¬ x6 = (-1 : Int32) → mw_lifts x6 x4 x5 σ (fun σ7 => mw_isAsked_116 x1 x2 x3 σ7 Q)))
theorem mt_isAsked_100 {κ : Cx} {S : Adr} {Z : State → Prop} {Q : Int32 → FS → Prop} (h : MCx κ cX6_isAsked S 6) (hR : RetI κ S Z cX6_isAsked Q) {x1 : Int32} {x2 : Int32} {x3 : Int32} {x4 : Int32} {x5 : Int32} {x6 : Int32} {σ : FS} (hw : mw_isAsked_100 x1 x2 x3 x4 x5 x6 σ Q) : MG κ S Z 100 σ [some (.ref (S.2.1 0)), some (.int x1), some (.int x2), some (.int x3), some (.int x4), some (.int x5), some (.int x6)] [] := by
  unfold mw_isAsked_100 at hw
  refine g_iload_6 100 h.1 dX6_isAsked_100 ?_
  refine g_iconstv 102 _ ic_m1 h.1 dX6_isAsked_102 ?_
  refine g_icmp_eq 103 116 h.1 dX6_isAsked_103 (by decide) (fun c => ?_) (fun c => ?_)
  · have hw := hw.1 c
    exact g_le (mt_isAsked_116 h hR hw) ⟨rfl, rfl, rfl, rfl, trivial⟩
  · have hw := hw.2 c
    refine g_aload_0 106 h.1 dX6_isAsked_106 ?_
    refine g_iload_6 107 h.1 dX6_isAsked_107 ?_
    refine g_iload_4 109 h.1 dX6_isAsked_109 ?_
    refine g_iload_5 111 h.1 dX6_isAsked_111 ?_
    refine m_callV_3 113 h (mm_lifts h.2.2.1 hw) (by decide) q2436 (Nat.le_of_ble_eq_true rfl) dX6_isAsked_113 (fun σ7 hw => ?_)
    exact g_le (mt_isAsked_116 h hR hw) ⟨rfl, rfl, rfl, rfl, trivial⟩
def mw_isAsked_82 (x1 : Int32) (x2 : Int32) (x3 : Int32) (x4 : Int32) (x5 : Int32) (y0 : Int32) (σ : FS) (Q : Int32 → FS → Prop) : Prop :=
  ((x5 = (-1 : Int32) → mw_isAsked_100 x1 x2 x3 x4 x5 y0 σ Q) ∧ (¬ x5 = (-1 : Int32) → mw_lifts x5 x4 y0 σ (fun σ6 => mw_isAsked_100 x1 x2 x3 x4 x5 y0 σ6 Q)))
theorem mt_isAsked_82 {κ : Cx} {S : Adr} {Z : State → Prop} {Q : Int32 → FS → Prop} (h : MCx κ cX6_isAsked S 6) (hR : RetI κ S Z cX6_isAsked Q) {x1 : Int32} {x2 : Int32} {x3 : Int32} {x4 : Int32} {x5 : Int32} {y0 : Int32} {σ : FS} (hw : mw_isAsked_82 x1 x2 x3 x4 x5 y0 σ Q) : MG κ S Z 82 σ [some (.ref (S.2.1 0)), some (.int x1), some (.int x2), some (.int x3), some (.int x4), some (.int x5), none] [.int y0] := by
  unfold mw_isAsked_82 at hw
  refine g_istore_6 82 h.1 rfl dX6_isAsked_82 ?_
  refine g_iload_5 84 h.1 dX6_isAsked_84 ?_
  refine g_iconstv 86 _ ic_m1 h.1 dX6_isAsked_86 ?_
  refine g_icmp_eq 87 100 h.1 dX6_isAsked_87 (by decide) (fun c => ?_) (fun c => ?_)
  · have hw := hw.1 c
    exact g_le (mt_isAsked_100 h hR hw) ⟨rfl, rfl, rfl, rfl, rfl, rfl, rfl, trivial⟩
  · have hw := hw.2 c
    refine g_aload_0 90 h.1 dX6_isAsked_90 ?_
    refine g_iload_5 91 h.1 dX6_isAsked_91 ?_
    refine g_iload_4 93 h.1 dX6_isAsked_93 ?_
    refine g_iload_6 95 h.1 dX6_isAsked_95 ?_
    refine m_callV_3 97 h (mm_lifts h.2.2.1 hw) (by decide) q2436 (Nat.le_of_ble_eq_true rfl) dX6_isAsked_97 (fun σ6 hw => ?_)
    exact g_le (mt_isAsked_100 h hR hw) ⟨rfl, rfl, rfl, rfl, rfl, rfl, rfl, trivial⟩
def mw_isAsked_56 (x1 : Int32) (x2 : Int32) (x3 : Int32) (x4 : Int32) (y0 : Int32) (σ : FS) (Q : Int32 → FS → Prop) : Prop :=
  (vp_in (3 : Int32) 6 ∧ ((((fA σ 39 (Int32.toNatClampNeg (3 : Int32))) - (1 : Int32)) ≤ (x4 - x4 / (7 : Int32) * (7 : Int32)) → mw_isAsked_82 x1 x2 x3 x4 y0 (-1 : Int32) σ Q) ∧ (¬ ((fA σ 39 (Int32.toNatClampNeg (3 : Int32))) - (1 : Int32)) ≤ (x4 - x4 / (7 : Int32) * (7 : Int32)) → mw_isAsked_82 x1 x2 x3 x4 y0 (x4 + (1 : Int32)) σ Q)))
theorem mt_isAsked_56 {κ : Cx} {S : Adr} {Z : State → Prop} {Q : Int32 → FS → Prop} (h : MCx κ cX6_isAsked S 6) (hR : RetI κ S Z cX6_isAsked Q) {x1 : Int32} {x2 : Int32} {x3 : Int32} {x4 : Int32} {y0 : Int32} {σ : FS} (hw : mw_isAsked_56 x1 x2 x3 x4 y0 σ Q) : MG κ S Z 56 σ [some (.ref (S.2.1 0)), some (.int x1), some (.int x2), some (.int x3), some (.int x4), none, none] [.int y0] := by
  unfold mw_isAsked_56 at hw
  refine g_istore_5 56 h.1 rfl dX6_isAsked_56 ?_
  refine g_iload_4 58 h.1 dX6_isAsked_58 ?_
  refine g_bipush 60 _ bp_7 h.1 dX6_isAsked_60 ?_
  refine g_irem 62 (by decide) h.1 dX6_isAsked_62 ?_
  refine g_aload_0 63 h.1 dX6_isAsked_63 ?_
  refine mg_39 64 h dX6_isAsked_64 ?_
  refine g_iconstv 67 _ ic_3 h.1 dX6_isAsked_67 ?_
  refine m_iald 68 rfl hw.1 h dX6_isAsked_68 ?_
  have hw := hw.2
  refine g_iconstv 69 _ ic_1 h.1 dX6_isAsked_69 ?_
  refine g_isub 70 h.1 dX6_isAsked_70 ?_
  refine g_icmp_ge 71 81 h.1 dX6_isAsked_71 (by decide) (fun c => ?_) (fun c => ?_)
  · have hw := hw.1 c
    refine g_iconstv 81 _ ic_m1 h.1 dX6_isAsked_81 ?_
    exact g_le (mt_isAsked_82 h hR hw) ⟨rfl, rfl, rfl, rfl, rfl, rfl, trivial⟩
  · have hw := hw.2 c
    refine g_iload_4 74 h.1 dX6_isAsked_74 ?_
    refine g_iconstv 76 _ ic_1 h.1 dX6_isAsked_76 ?_
    refine g_iadd 77 h.1 dX6_isAsked_77 ?_
    refine g_goto 78 82 h.1 dX6_isAsked_78 (by decide) ?_
    exact g_le (mt_isAsked_82 h hR hw) ⟨rfl, rfl, rfl, rfl, rfl, rfl, trivial⟩
def mw_isAsked (x1 : Int32) (x2 : Int32) (σ : FS) (Q : Int32 → FS → Prop) : Prop :=
  (∀ σ1, σ1 = sI σ 0 59 (0 : Int32) → ((¬ (((fI σ1 0 60) >>> (x1 &&& 31)) &&& (1 : Int32)) = (1 : Int32) → mw_wouldDo x1 x2 σ1 (fun r3 σ2 => (((2 : Int32) ≤ r3 → mw_cellOf x1 σ2 (fun r5 σ4 => (((r5 - r5 / (7 : Int32) * (7 : Int32)) ≤ 0 → mw_isAsked_56 x1 x2 r3 r5 (-1 : Int32) σ4 Q) ∧ (¬ (r5 - r5 / (7 : Int32) * (7 : Int32)) ≤ 0 → mw_isAsked_56 x1 x2 r3 r5 (r5 - (1 : Int32)) σ4 Q)))) ∧ (¬ (2 : Int32) ≤ r3 → Q r3 σ2)))) ∧ ((((fI σ1 0 60) >>> (x1 &&& 31)) &&& (1 : Int32)) = (1 : Int32) → Q (0 : Int32) σ1)))
theorem mt_isAsked {κ : Cx} {S : Adr} {Z : State → Prop} {Q : Int32 → FS → Prop} (h : MCx κ cX6_isAsked S 6) (hR : RetI κ S Z cX6_isAsked Q) {x1 : Int32} {x2 : Int32} {σ : FS} (hw : mw_isAsked x1 x2 σ Q) : MG κ S Z 0 σ [some (.ref (S.2.1 0)), some (.int x1), some (.int x2), none, none, none, none] [] := by
  unfold mw_isAsked at hw
  refine g_aload_0 0 h.1 dX6_isAsked_0 ?_
  refine g_iconstv 1 _ ic_0 h.1 dX6_isAsked_1 ?_
  refine mp_59 2 h dX6_isAsked_2 ?_
  have hw := hw _ rfl
  refine g_aload_0 5 h.1 dX6_isAsked_5 ?_
  refine mg_60 6 h dX6_isAsked_6 ?_
  refine g_iload_1 9 h.1 dX6_isAsked_9 ?_
  refine g_ishr 10 h.1 dX6_isAsked_10 ?_
  refine g_iconstv 11 _ ic_1 h.1 dX6_isAsked_11 ?_
  refine g_iand 12 h.1 dX6_isAsked_12 ?_
  refine g_iconstv 13 _ ic_1 h.1 dX6_isAsked_13 ?_
  refine g_icmp_ne 14 19 h.1 dX6_isAsked_14 (by decide) (fun c => ?_) (fun c => ?_)
  · have hw := hw.1 c
    refine g_aload_0 19 h.1 dX6_isAsked_19 ?_
    refine g_iload_1 20 h.1 dX6_isAsked_20 ?_
    refine g_iload_2 21 h.1 dX6_isAsked_21 ?_
    refine m_callI_2 22 h (mm_wouldDo h.2.2.1 hw) (by decide) q2376 (Nat.le_of_ble_eq_true rfl) dX6_isAsked_22 (fun r3 σ2 hw => ?_)
    refine g_istore_3 25 h.1 rfl dX6_isAsked_25 ?_
    refine g_iload_3 26 h.1 dX6_isAsked_26 ?_
    refine g_iconstv 27 _ ic_2 h.1 dX6_isAsked_27 ?_
    refine g_icmp_ge 28 33 h.1 dX6_isAsked_28 (by decide) (fun c => ?_) (fun c => ?_)
    · have hw := hw.1 c
      refine g_aload_0 33 h.1 dX6_isAsked_33 ?_
      refine g_iload_1 34 h.1 dX6_isAsked_34 ?_
      refine m_callI_1 35 h (mm_cellOf h.2.2.1 hw) (by decide) q2352 (Nat.le_of_ble_eq_true rfl) dX6_isAsked_35 (fun r5 σ4 hw => ?_)
      refine g_istore_4 38 h.1 rfl dX6_isAsked_38 ?_
      refine g_iload_4 40 h.1 dX6_isAsked_40 ?_
      refine g_bipush 42 _ bp_7 h.1 dX6_isAsked_42 ?_
      refine g_irem 44 (by decide) h.1 dX6_isAsked_44 ?_
      refine g_if_le 45 55 h.1 dX6_isAsked_45 (by decide) (fun c => ?_) (fun c => ?_)
      · have hw := hw.1 c
        refine g_iconstv 55 _ ic_m1 h.1 dX6_isAsked_55 ?_
        exact g_le (mt_isAsked_56 h hR hw) ⟨rfl, rfl, rfl, rfl, rfl, trivial⟩
      · have hw := hw.2 c
        refine g_iload_4 48 h.1 dX6_isAsked_48 ?_
        refine g_iconstv 50 _ ic_1 h.1 dX6_isAsked_50 ?_
        refine g_isub 51 h.1 dX6_isAsked_51 ?_
        refine g_goto 52 56 h.1 dX6_isAsked_52 (by decide) ?_
        exact g_le (mt_isAsked_56 h hR hw) ⟨rfl, rfl, rfl, rfl, rfl, trivial⟩
    · have hw := hw.2 c
      refine g_iload_3 31 h.1 dX6_isAsked_31 ?_
      exact hR 32 _ _ _ dX6_isAsked_32 hw
  · have hw := hw.2 c
    refine g_iconstv 17 _ ic_0 h.1 dX6_isAsked_17 ?_
    exact hR 18 _ _ _ dX6_isAsked_18 hw
theorem mm_isAsked {l : Launch} {S : Adr} (hD : MD S) {x1 : Int32} {x2 : Int32} {σ : FS} {Q : Int32 → FS → Prop} (hw : mw_isAsked x1 x2 σ Q) : mMet l S 6 yX6_isAsked [.int x1, .int x2] σ (mQi S Q) :=
  m_metI hD ⟨rfl, by decide, by show _ = some 2; decide +kernel, q2435⟩ q2434 qs131 (Nat.le_of_ble_eq_true rfl) (fun κ Z h hR => mt_isAsked h hR hw)
def mw_personMany (σ : FS) (Q : Int32 → FS → Prop) : Prop :=
  (vp_in (4 : Int32) 6 ∧ Q (fA σ 40 (Int32.toNatClampNeg (4 : Int32))) σ)
theorem mt_personMany {κ : Cx} {S : Adr} {Z : State → Prop} {Q : Int32 → FS → Prop} (h : MCx κ cX6_personMany S 1) (hR : RetI κ S Z cX6_personMany Q) {σ : FS} (hw : mw_personMany σ Q) : MG κ S Z 0 σ [some (.ref (S.2.1 0))] [] := by
  unfold mw_personMany at hw
  refine g_aload_0 0 h.1 dX6_personMany_0 ?_
  refine mg_40 1 h dX6_personMany_1 ?_
  refine g_iconstv 4 _ ic_4 h.1 dX6_personMany_4 ?_
  refine m_iald 5 rfl hw.1 h dX6_personMany_5 ?_
  have hw := hw.2
  exact hR 6 _ _ _ dX6_personMany_6 hw
theorem mm_personMany {l : Launch} {S : Adr} (hD : MD S) {σ : FS} {Q : Int32 → FS → Prop} (hw : mw_personMany σ Q) : mMet l S 1 yX6_personMany [] σ (mQi S Q) :=
  m_metI hD ⟨rfl, by decide, by show _ = some 0; decide +kernel, q2310⟩ q2309 qs110 (Nat.le_of_ble_eq_true rfl) (fun κ Z h hR => mt_personMany h hR hw)
def mw_putsAside_7 (x1 : Int32) (σ : FS) (Q : FS → Prop) : Prop :=
  ∀ X7 : Int32 → FS → Prop, (∀ (x1 : Int32) (σ : FS), (((71 : Int32) ≤ x1 → Q σ) ∧ (¬ (71 : Int32) ≤ x1 → (vp_in x1 232 ∧ (vp_in x1 71 ∧ ∀ σ2, σ2 = sA σ 53 (Int32.toNatClampNeg x1) (fA σ 52 (Int32.toNatClampNeg x1)) → X7 (x1 + 1) σ2)))) → X7 x1 σ) → X7 x1 σ
theorem mt_putsAside_7 {κ : Cx} {S : Adr} {Z : State → Prop} {Q : FS → Prop} (h : MCx κ cX6_putsAside S 1) (hR : RetV κ S Z cX6_putsAside Q) {x1 : Int32} {σ : FS} (hw : mw_putsAside_7 x1 σ Q) : MG κ S Z 7 σ [some (.ref (S.2.1 0)), some (.int x1)] [] := by
  refine hw (fun x1 σ => MG κ S Z 7 σ [some (.ref (S.2.1 0)), some (.int x1)] []) ?_
  clear hw
  intro x1 σ hw
  have hX7 : ∀ (x1 : Int32) (σ : FS), MG κ S Z 7 σ [some (.ref (S.2.1 0)), some (.int x1)] [] → MG κ S Z 7 σ [some (.ref (S.2.1 0)), some (.int x1)] [] := fun _ _ hh => hh
  refine g_iload_1 7 h.1 dX6_putsAside_7 ?_
  refine g_bipush 8 _ bp_71 h.1 dX6_putsAside_8 ?_
  refine g_icmp_ge 10 31 h.1 dX6_putsAside_10 (by decide) (fun c => ?_) (fun c => ?_)
  · have hw := hw.1 c
    exact hR 31 _ _ dX6_putsAside_31 hw
  · have hw := hw.2 c
    refine g_aload_0 13 h.1 dX6_putsAside_13 ?_
    refine mg_53 14 h dX6_putsAside_14 ?_
    refine g_iload_1 17 h.1 dX6_putsAside_17 ?_
    refine g_aload_0 18 h.1 dX6_putsAside_18 ?_
    refine mg_52 19 h dX6_putsAside_19 ?_
    refine g_iload_1 22 h.1 dX6_putsAside_22 ?_
    refine m_iald 23 rfl hw.1 h dX6_putsAside_23 ?_
    have hw := hw.2
    refine m_iast 24 rfl hw.1 h dX6_putsAside_24 ?_
    have hw := hw.2 _ rfl
    refine g_iinc_1 25 (x1 + 1) (congrArg _ ic_1) h.1 rfl dX6_putsAside_25 ?_
    refine g_goto 28 7 h.1 dX6_putsAside_28 (by decide) ?_
    exact g_le (hX7 _ _ hw) ⟨rfl, rfl, trivial⟩
def mw_putsAside (σ : FS) (Q : FS → Prop) : Prop :=
  (∀ σ1, σ1 = sI σ 0 57 (1 : Int32) → mw_putsAside_7 (0 : Int32) σ1 Q)
theorem mt_putsAside {κ : Cx} {S : Adr} {Z : State → Prop} {Q : FS → Prop} (h : MCx κ cX6_putsAside S 1) (hR : RetV κ S Z cX6_putsAside Q) {σ : FS} (hw : mw_putsAside σ Q) : MG κ S Z 0 σ [some (.ref (S.2.1 0)), none] [] := by
  unfold mw_putsAside at hw
  refine g_aload_0 0 h.1 dX6_putsAside_0 ?_
  refine g_iconstv 1 _ ic_1 h.1 dX6_putsAside_1 ?_
  refine mp_57 2 rfl rfl h dX6_putsAside_2 ?_
  have hw := hw _ rfl
  refine g_iconstv 5 _ ic_0 h.1 dX6_putsAside_5 ?_
  refine g_istore_1 6 h.1 rfl dX6_putsAside_6 ?_
  exact g_le (mt_putsAside_7 h hR hw) ⟨rfl, rfl, trivial⟩
theorem mm_putsAside {l : Launch} {S : Adr} (hD : MD S) {σ : FS} {Q : FS → Prop} (hw : mw_putsAside σ Q) : mMet l S 1 yX6_putsAside [] σ (mQv S Q) :=
  m_metV hD ⟨rfl, by decide, by show _ = some 0; decide +kernel, q2423⟩ q2422 qs128 (Nat.le_of_ble_eq_true rfl) (fun κ Z h hR => mt_putsAside h hR hw)
def mw_triesAnew_2 (x1 : Int32) (σ : FS) (Q : FS → Prop) : Prop :=
  ∀ X2 : Int32 → FS → Prop, (∀ (x1 : Int32) (σ : FS), (((71 : Int32) ≤ x1 → Q σ) ∧ (¬ (71 : Int32) ≤ x1 → (vp_in x1 71 ∧ (vp_in x1 232 ∧ ∀ σ1, σ1 = sA σ 52 (Int32.toNatClampNeg x1) (fA σ 53 (Int32.toNatClampNeg x1)) → X2 (x1 + 1) σ1)))) → X2 x1 σ) → X2 x1 σ
theorem mt_triesAnew_2 {κ : Cx} {S : Adr} {Z : State → Prop} {Q : FS → Prop} (h : MCx κ cX6_triesAnew S 1) (hR : RetV κ S Z cX6_triesAnew Q) {x1 : Int32} {σ : FS} (hw : mw_triesAnew_2 x1 σ Q) : MG κ S Z 2 σ [some (.ref (S.2.1 0)), some (.int x1)] [] := by
  refine hw (fun x1 σ => MG κ S Z 2 σ [some (.ref (S.2.1 0)), some (.int x1)] []) ?_
  clear hw
  intro x1 σ hw
  have hX2 : ∀ (x1 : Int32) (σ : FS), MG κ S Z 2 σ [some (.ref (S.2.1 0)), some (.int x1)] [] → MG κ S Z 2 σ [some (.ref (S.2.1 0)), some (.int x1)] [] := fun _ _ hh => hh
  refine g_iload_1 2 h.1 dX6_triesAnew_2 ?_
  refine g_bipush 3 _ bp_71 h.1 dX6_triesAnew_3 ?_
  refine g_icmp_ge 5 26 h.1 dX6_triesAnew_5 (by decide) (fun c => ?_) (fun c => ?_)
  · have hw := hw.1 c
    exact hR 26 _ _ dX6_triesAnew_26 hw
  · have hw := hw.2 c
    refine g_aload_0 8 h.1 dX6_triesAnew_8 ?_
    refine mg_52 9 h dX6_triesAnew_9 ?_
    refine g_iload_1 12 h.1 dX6_triesAnew_12 ?_
    refine g_aload_0 13 h.1 dX6_triesAnew_13 ?_
    refine mg_53 14 h dX6_triesAnew_14 ?_
    refine g_iload_1 17 h.1 dX6_triesAnew_17 ?_
    refine m_iald 18 rfl hw.1 h dX6_triesAnew_18 ?_
    have hw := hw.2
    refine m_iast 19 rfl hw.1 h dX6_triesAnew_19 ?_
    have hw := hw.2 _ rfl
    refine g_iinc_1 20 (x1 + 1) (congrArg _ ic_1) h.1 rfl dX6_triesAnew_20 ?_
    refine g_goto 23 2 h.1 dX6_triesAnew_23 (by decide) ?_
    exact g_le (hX2 _ _ hw) ⟨rfl, rfl, trivial⟩
def mw_triesAnew (σ : FS) (Q : FS → Prop) : Prop :=
  mw_triesAnew_2 (0 : Int32) σ Q
theorem mt_triesAnew {κ : Cx} {S : Adr} {Z : State → Prop} {Q : FS → Prop} (h : MCx κ cX6_triesAnew S 1) (hR : RetV κ S Z cX6_triesAnew Q) {σ : FS} (hw : mw_triesAnew σ Q) : MG κ S Z 0 σ [some (.ref (S.2.1 0)), none] [] := by
  unfold mw_triesAnew at hw
  refine g_iconstv 0 _ ic_0 h.1 dX6_triesAnew_0 ?_
  refine g_istore_1 1 h.1 rfl dX6_triesAnew_1 ?_
  exact g_le (mt_triesAnew_2 h hR hw) ⟨rfl, rfl, trivial⟩
theorem mm_triesAnew {l : Launch} {S : Adr} (hD : MD S) {σ : FS} {Q : FS → Prop} (hw : mw_triesAnew σ Q) : mMet l S 1 yX6_triesAnew [] σ (mQv S Q) :=
  m_metV hD ⟨rfl, by decide, by show _ = some 0; decide +kernel, q2463⟩ q2462 qs137 (Nat.le_of_ble_eq_true rfl) (fun κ Z h hR => mt_triesAnew h hR hw)
def mw_takesBack (σ : FS) (Q : FS → Prop) : Prop :=
  mw_triesAnew σ (fun σ1 => (∀ σ2, σ2 = sI σ1 0 60 (0 : Int32) → (∀ σ3, σ3 = sI σ2 0 57 (0 : Int32) → Q σ3)))
theorem mt_takesBack {κ : Cx} {S : Adr} {Z : State → Prop} {Q : FS → Prop} (h : MCx κ cX6_takesBack S 2) (hR : RetV κ S Z cX6_takesBack Q) {σ : FS} (hw : mw_takesBack σ Q) : MG κ S Z 0 σ [some (.ref (S.2.1 0))] [] := by
  unfold mw_takesBack at hw
  refine g_aload_0 0 h.1 dX6_takesBack_0 ?_
  refine m_callV_0 1 h (mm_triesAnew h.2.2.1 hw) (by decide) q2460 (Nat.le_of_ble_eq_true rfl) dX6_takesBack_1 (fun σ1 hw => ?_)
  refine g_aload_0 4 h.1 dX6_takesBack_4 ?_
  refine g_iconstv 5 _ ic_0 h.1 dX6_takesBack_5 ?_
  refine mp_60 6 h dX6_takesBack_6 ?_
  have hw := hw _ rfl
  refine g_aload_0 9 h.1 dX6_takesBack_9 ?_
  refine g_iconstv 10 _ ic_0 h.1 dX6_takesBack_10 ?_
  refine mp_57 11 rfl rfl h dX6_takesBack_11 ?_
  have hw := hw _ rfl
  exact hR 14 _ _ dX6_takesBack_14 hw
theorem mm_takesBack {l : Launch} {S : Adr} (hD : MD S) {σ : FS} {Q : FS → Prop} (hw : mw_takesBack σ Q) : mMet l S 2 yX6_takesBack [] σ (mQv S Q) :=
  m_metV hD ⟨rfl, by decide, by show _ = some 0; decide +kernel, q2459⟩ q2458 qs136 (Nat.le_of_ble_eq_true rfl) (fun κ Z h hR => mt_takesBack h hR hw)
def mw_topicMany (σ : FS) (Q : Int32 → FS → Prop) : Prop :=
  (vp_in (3 : Int32) 6 ∧ Q (fA σ 40 (Int32.toNatClampNeg (3 : Int32))) σ)
theorem mt_topicMany {κ : Cx} {S : Adr} {Z : State → Prop} {Q : Int32 → FS → Prop} (h : MCx κ cX6_topicMany S 1) (hR : RetI κ S Z cX6_topicMany Q) {σ : FS} (hw : mw_topicMany σ Q) : MG κ S Z 0 σ [some (.ref (S.2.1 0))] [] := by
  unfold mw_topicMany at hw
  refine g_aload_0 0 h.1 dX6_topicMany_0 ?_
  refine mg_40 1 h dX6_topicMany_1 ?_
  refine g_iconstv 4 _ ic_3 h.1 dX6_topicMany_4 ?_
  refine m_iald 5 rfl hw.1 h dX6_topicMany_5 ?_
  have hw := hw.2
  exact hR 6 _ _ _ dX6_topicMany_6 hw
theorem mm_topicMany {l : Launch} {S : Adr} (hD : MD S) {σ : FS} {Q : Int32 → FS → Prop} (hw : mw_topicMany σ Q) : mMet l S 1 yX6_topicMany [] σ (mQi S Q) :=
  m_metI hD ⟨rfl, by decide, by show _ = some 0; decide +kernel, q2306⟩ q2305 qs109 (Nat.le_of_ble_eq_true rfl) (fun κ Z h hR => mt_topicMany h hR hw)
def mw_laysLifted_16 (X6 : Int32 → FS → Prop) (x1 : Int32) (x2 : Int32) (σ : FS) (Q : FS → Prop) : Prop :=
  ∀ X16 : Int32 → Int32 → FS → Prop, (∀ (x1 : Int32) (x2 : Int32) (σ : FS), mw_topicMany σ (fun r6 σ5 => ((r6 ≤ x2 → X6 (x1 + 1) σ5) ∧ (¬ r6 ≤ x2 → mw_isAsked x1 x2 σ5 (fun r8 σ7 => (vp_in (((5 : Int32) * x1) + x2) 35 ∧ ∀ σ9, σ9 = sA σ7 61 (Int32.toNatClampNeg (((5 : Int32) * x1) + x2)) (fI σ7 0 59) → mw_triesAnew σ9 (fun σ10 => X16 x1 (x2 + 1) σ10)))))) → X16 x1 x2 σ) → X16 x1 x2 σ
theorem mt_laysLifted_16 {κ : Cx} {S : Adr} {Z : State → Prop} {Q : FS → Prop} (h : MCx κ cX6_laysLifted S 7) (hR : RetV κ S Z cX6_laysLifted Q) {X6 : Int32 → FS → Prop} (hX6 : ∀ (x1 : Int32) (σ : FS), X6 x1 σ → MG κ S Z 6 σ [some (.ref (S.2.1 0)), some (.int x1), none] []) {x1 : Int32} {x2 : Int32} {σ : FS} (hw : mw_laysLifted_16 X6 x1 x2 σ Q) : MG κ S Z 16 σ [some (.ref (S.2.1 0)), some (.int x1), some (.int x2)] [] := by
  refine hw (fun x1 x2 σ => MG κ S Z 16 σ [some (.ref (S.2.1 0)), some (.int x1), some (.int x2)] []) ?_
  clear hw
  intro x1 x2 σ hw
  have hX16 : ∀ (x1 : Int32) (x2 : Int32) (σ : FS), MG κ S Z 16 σ [some (.ref (S.2.1 0)), some (.int x1), some (.int x2)] [] → MG κ S Z 16 σ [some (.ref (S.2.1 0)), some (.int x1), some (.int x2)] [] := fun _ _ _ hh => hh
  refine g_iload_2 16 h.1 dX6_laysLifted_16 ?_
  refine g_aload_0 17 h.1 dX6_laysLifted_17 ?_
  refine m_callI_0 18 h (mm_topicMany h.2.2.1 hw) (by decide) q2303 (Nat.le_of_ble_eq_true rfl) dX6_laysLifted_18 (fun r6 σ5 hw => ?_)
  refine g_icmp_ge 21 55 h.1 dX6_laysLifted_21 (by decide) (fun c => ?_) (fun c => ?_)
  · have hw := hw.1 c
    refine g_iinc_1 55 (x1 + 1) (congrArg _ ic_1) h.1 rfl dX6_laysLifted_55 ?_
    refine g_goto 58 6 h.1 dX6_laysLifted_58 (by decide) ?_
    exact g_le (hX6 _ _ hw) ⟨rfl, rfl, trivial⟩
  · have hw := hw.2 c
    refine g_aload_0 24 h.1 dX6_laysLifted_24 ?_
    refine g_iload_1 25 h.1 dX6_laysLifted_25 ?_
    refine g_iload_2 26 h.1 dX6_laysLifted_26 ?_
    refine m_callI_2 27 h (mm_isAsked h.2.2.1 hw) (by decide) q2432 (Nat.le_of_ble_eq_true rfl) dX6_laysLifted_27 (fun r8 σ7 hw => ?_)
    refine g_pop 30 rfl h.1 dX6_laysLifted_30 ?_
    refine g_aload_0 31 h.1 dX6_laysLifted_31 ?_
    refine mg_61 32 h dX6_laysLifted_32 ?_
    refine g_iconstv 35 _ ic_5 h.1 dX6_laysLifted_35 ?_
    refine g_iload_1 36 h.1 dX6_laysLifted_36 ?_
    refine g_imul 37 h.1 dX6_laysLifted_37 ?_
    refine g_iload_2 38 h.1 dX6_laysLifted_38 ?_
    refine g_iadd 39 h.1 dX6_laysLifted_39 ?_
    refine g_aload_0 40 h.1 dX6_laysLifted_40 ?_
    refine mg_59 41 h dX6_laysLifted_41 ?_
    refine m_iast 44 rfl hw.1 h dX6_laysLifted_44 ?_
    have hw := hw.2 _ rfl
    refine g_aload_0 45 h.1 dX6_laysLifted_45 ?_
    refine m_callV_0 46 h (mm_triesAnew h.2.2.1 hw) (by decide) q2460 (Nat.le_of_ble_eq_true rfl) dX6_laysLifted_46 (fun σ10 hw => ?_)
    refine g_iinc_2 49 (x2 + 1) (congrArg _ ic_1) h.1 rfl dX6_laysLifted_49 ?_
    refine g_goto 52 16 h.1 dX6_laysLifted_52 (by decide) ?_
    exact g_le (hX16 _ _ _ hw) ⟨rfl, rfl, rfl, trivial⟩
def mw_laysLifted_6 (x1 : Int32) (σ : FS) (Q : FS → Prop) : Prop :=
  ∀ X6 : Int32 → FS → Prop, (∀ (x1 : Int32) (σ : FS), mw_personMany σ (fun r3 σ2 => ((r3 ≤ x1 → mw_takesBack σ2 (fun σ4 => Q σ4)) ∧ (¬ r3 ≤ x1 → mw_laysLifted_16 X6 x1 (0 : Int32) σ2 Q))) → X6 x1 σ) → X6 x1 σ
theorem mt_laysLifted_6 {κ : Cx} {S : Adr} {Z : State → Prop} {Q : FS → Prop} (h : MCx κ cX6_laysLifted S 7) (hR : RetV κ S Z cX6_laysLifted Q) {x1 : Int32} {σ : FS} (hw : mw_laysLifted_6 x1 σ Q) : MG κ S Z 6 σ [some (.ref (S.2.1 0)), some (.int x1), none] [] := by
  refine hw (fun x1 σ => MG κ S Z 6 σ [some (.ref (S.2.1 0)), some (.int x1), none] []) ?_
  clear hw
  intro x1 σ hw
  have hX6 : ∀ (x1 : Int32) (σ : FS), MG κ S Z 6 σ [some (.ref (S.2.1 0)), some (.int x1), none] [] → MG κ S Z 6 σ [some (.ref (S.2.1 0)), some (.int x1), none] [] := fun _ _ hh => hh
  refine g_iload_1 6 h.1 dX6_laysLifted_6 ?_
  refine g_aload_0 7 h.1 dX6_laysLifted_7 ?_
  refine m_callI_0 8 h (mm_personMany h.2.2.1 hw) (by decide) q2307 (Nat.le_of_ble_eq_true rfl) dX6_laysLifted_8 (fun r3 σ2 hw => ?_)
  refine g_icmp_ge 11 61 h.1 dX6_laysLifted_11 (by decide) (fun c => ?_) (fun c => ?_)
  · have hw := hw.1 c
    refine g_aload_0 61 h.1 dX6_laysLifted_61 ?_
    refine m_callV_0 62 h (mm_takesBack h.2.2.1 hw) (by decide) q2456 (Nat.le_of_ble_eq_true rfl) dX6_laysLifted_62 (fun σ4 hw => ?_)
    exact hR 65 _ _ dX6_laysLifted_65 hw
  · have hw := hw.2 c
    refine g_iconstv 14 _ ic_0 h.1 dX6_laysLifted_14 ?_
    refine g_istore_2 15 h.1 rfl dX6_laysLifted_15 ?_
    exact g_le (mt_laysLifted_16 h hR hX6 hw) ⟨rfl, rfl, rfl, trivial⟩
def mw_laysLifted (σ : FS) (Q : FS → Prop) : Prop :=
  mw_putsAside σ (fun σ1 => mw_laysLifted_6 (0 : Int32) σ1 Q)
theorem mt_laysLifted {κ : Cx} {S : Adr} {Z : State → Prop} {Q : FS → Prop} (h : MCx κ cX6_laysLifted S 7) (hR : RetV κ S Z cX6_laysLifted Q) {σ : FS} (hw : mw_laysLifted σ Q) : MG κ S Z 0 σ [some (.ref (S.2.1 0)), none, none] [] := by
  unfold mw_laysLifted at hw
  refine g_aload_0 0 h.1 dX6_laysLifted_0 ?_
  refine m_callV_0 1 h (mm_putsAside h.2.2.1 hw) (by decide) q2420 (Nat.le_of_ble_eq_true rfl) dX6_laysLifted_1 (fun σ1 hw => ?_)
  refine g_iconstv 4 _ ic_0 h.1 dX6_laysLifted_4 ?_
  refine g_istore_1 5 h.1 rfl dX6_laysLifted_5 ?_
  exact g_le (mt_laysLifted_6 h hR hw) ⟨rfl, rfl, trivial⟩
theorem mm_laysLifted {l : Launch} {S : Adr} (hD : MD S) {σ : FS} {Q : FS → Prop} (hw : mw_laysLifted σ Q) : mMet l S 7 yX6_laysLifted [] σ (mQv S Q) :=
  m_metV hD ⟨rfl, by decide, by show _ = some 0; decide +kernel, q2654⟩ q2653 qs163 (Nat.le_of_ble_eq_true rfl) (fun κ Z h hR => mt_laysLifted h hR hw)
def mw_look_39 (X0 : FS → Prop) (σ : FS) (Q : Int32 → FS → Prop) : Prop :=
  (∀ σ1, σ1 = sI σ 0 2 ((fI σ 0 2) + (1 : Int32)) → X0 σ1)
theorem mt_look_39 {κ : Cx} {S : Adr} {Z : State → Prop} {Q : Int32 → FS → Prop} (h : MCx κ cX6_look S 1) (hR : RetI κ S Z cX6_look Q) {X0 : FS → Prop} (hX0 : ∀ (σ : FS), X0 σ → MG κ S Z 0 σ [some (.ref (S.2.1 0))] []) {σ : FS} (hw : mw_look_39 X0 σ Q) : MG κ S Z 39 σ [some (.ref (S.2.1 0))] [] := by
  unfold mw_look_39 at hw
  refine g_aload_0 39 h.1 dX6_look_39 ?_
  refine g_dup 40 rfl h.1 dX6_look_40 ?_
  refine mg_2 41 h dX6_look_41 ?_
  refine g_iconstv 44 _ ic_1 h.1 dX6_look_44 ?_
  refine g_iadd 45 h.1 dX6_look_45 ?_
  refine mp_2 46 h dX6_look_46 ?_
  have hw := hw _ rfl
  refine g_goto 49 0 h.1 dX6_look_49 (by decide) ?_
  exact g_le (hX0 _ hw) ⟨rfl, trivial⟩
def mw_look_52 (σ : FS) (Q : Int32 → FS → Prop) : Prop :=
  (((fI σ 0 3) ≤ (fI σ 0 2) → Q (-1 : Int32) σ) ∧ (¬ (fI σ 0 3) ≤ (fI σ 0 2) → (vp_in (fI σ 0 2) 1600 ∧ Q (fA σ 0 (Int32.toNatClampNeg (fI σ 0 2))) σ)))
theorem mt_look_52 {κ : Cx} {S : Adr} {Z : State → Prop} {Q : Int32 → FS → Prop} (h : MCx κ cX6_look S 1) (hR : RetI κ S Z cX6_look Q) {σ : FS} (hw : mw_look_52 σ Q) : MG κ S Z 52 σ [some (.ref (S.2.1 0))] [] := by
  unfold mw_look_52 at hw
  refine g_aload_0 52 h.1 dX6_look_52 ?_
  refine mg_2 53 h dX6_look_53 ?_
  refine g_aload_0 56 h.1 dX6_look_56 ?_
  refine mg_3 57 h dX6_look_57 ?_
  refine g_icmp_ge 60 75 h.1 dX6_look_60 (by decide) (fun c => ?_) (fun c => ?_)
  · have hw := hw.1 c
    refine g_iconstv 75 _ ic_m1 h.1 dX6_look_75 ?_
    exact hR 76 _ _ _ dX6_look_76 hw
  · have hw := hw.2 c
    refine g_aload_0 63 h.1 dX6_look_63 ?_
    refine mg_0 64 h dX6_look_64 ?_
    refine g_aload_0 67 h.1 dX6_look_67 ?_
    refine mg_2 68 h dX6_look_68 ?_
    refine m_iald 71 rfl hw.1 h dX6_look_71 ?_
    have hw := hw.2
    refine g_goto 72 76 h.1 dX6_look_72 (by decide) ?_
    exact hR 76 _ _ _ dX6_look_76 hw
def mw_look_0 (σ : FS) (Q : Int32 → FS → Prop) : Prop :=
  ∀ X0 : FS → Prop, (∀ (σ : FS), (((fI σ 0 3) ≤ (fI σ 0 2) → mw_look_52 σ Q) ∧ (¬ (fI σ 0 3) ≤ (fI σ 0 2) → (vp_in (fI σ 0 2) 1600 ∧ (((fA σ 0 (Int32.toNatClampNeg (fI σ 0 2))) = (10 : Int32) → mw_look_39 X0 σ Q) ∧ (¬ (fA σ 0 (Int32.toNatClampNeg (fI σ 0 2))) = (10 : Int32) → (vp_in (fI σ 0 2) 1600 ∧ ((¬ (fA σ 0 (Int32.toNatClampNeg (fI σ 0 2))) = (32 : Int32) → mw_look_52 σ Q) ∧ ((fA σ 0 (Int32.toNatClampNeg (fI σ 0 2))) = (32 : Int32) → mw_look_39 X0 σ Q)))))))) → X0 σ) → X0 σ
theorem mt_look_0 {κ : Cx} {S : Adr} {Z : State → Prop} {Q : Int32 → FS → Prop} (h : MCx κ cX6_look S 1) (hR : RetI κ S Z cX6_look Q) {σ : FS} (hw : mw_look_0 σ Q) : MG κ S Z 0 σ [some (.ref (S.2.1 0))] [] := by
  refine hw (fun σ => MG κ S Z 0 σ [some (.ref (S.2.1 0))] []) ?_
  clear hw
  intro σ hw
  have hX0 : ∀ (σ : FS), MG κ S Z 0 σ [some (.ref (S.2.1 0))] [] → MG κ S Z 0 σ [some (.ref (S.2.1 0))] [] := fun _ hh => hh
  refine g_aload_0 0 h.1 dX6_look_0 ?_
  refine mg_2 1 h dX6_look_1 ?_
  refine g_aload_0 4 h.1 dX6_look_4 ?_
  refine mg_3 5 h dX6_look_5 ?_
  refine g_icmp_ge 8 52 h.1 dX6_look_8 (by decide) (fun c => ?_) (fun c => ?_)
  · have hw := hw.1 c
    exact g_le (mt_look_52 h hR hw) ⟨rfl, trivial⟩
  · have hw := hw.2 c
    refine g_aload_0 11 h.1 dX6_look_11 ?_
    refine mg_0 12 h dX6_look_12 ?_
    refine g_aload_0 15 h.1 dX6_look_15 ?_
    refine mg_2 16 h dX6_look_16 ?_
    refine m_iald 19 rfl hw.1 h dX6_look_19 ?_
    have hw := hw.2
    refine g_bipush 20 _ bp_10 h.1 dX6_look_20 ?_
    refine g_icmp_eq 22 39 h.1 dX6_look_22 (by decide) (fun c => ?_) (fun c => ?_)
    · have hw := hw.1 c
      exact g_le (mt_look_39 h hR hX0 hw) ⟨rfl, trivial⟩
    · have hw := hw.2 c
      refine g_aload_0 25 h.1 dX6_look_25 ?_
      refine mg_0 26 h dX6_look_26 ?_
      refine g_aload_0 29 h.1 dX6_look_29 ?_
      refine mg_2 30 h dX6_look_30 ?_
      refine m_iald 33 rfl hw.1 h dX6_look_33 ?_
      have hw := hw.2
      refine g_bipush 34 _ bp_32 h.1 dX6_look_34 ?_
      refine g_icmp_ne 36 52 h.1 dX6_look_36 (by decide) (fun c => ?_) (fun c => ?_)
      · have hw := hw.1 c
        exact g_le (mt_look_52 h hR hw) ⟨rfl, trivial⟩
      · have hw := hw.2 c
        exact g_le (mt_look_39 h hR hX0 hw) ⟨rfl, trivial⟩
def mw_look (σ : FS) (Q : Int32 → FS → Prop) : Prop :=
  mw_look_0 σ Q
theorem mt_look {κ : Cx} {S : Adr} {Z : State → Prop} {Q : Int32 → FS → Prop} (h : MCx κ cX6_look S 1) (hR : RetI κ S Z cX6_look Q) {σ : FS} (hw : mw_look σ Q) : MG κ S Z 0 σ [some (.ref (S.2.1 0))] [] := by
  unfold mw_look at hw
  exact g_le (mt_look_0 h hR hw) ⟨rfl, trivial⟩
theorem mm_look {l : Launch} {S : Adr} (hD : MD S) {σ : FS} {Q : Int32 → FS → Prop} (hw : mw_look σ Q) : mMet l S 1 yX6_look [] σ (mQi S Q) :=
  m_metI hD ⟨rfl, by decide, by show _ = some 0; decide +kernel, q2132⟩ q2131 qs71 (Nat.le_of_ble_eq_true rfl) (fun κ Z h hR => mt_look h hR hw)
def mw_isLetter (x0 : Int32) (σ : FS) (Q : Int32 → FS → Prop) : Prop :=
  ((x0 < (97 : Int32) → Q (0 : Int32) σ) ∧ (¬ x0 < (97 : Int32) → (((122 : Int32) < x0 → Q (0 : Int32) σ) ∧ (¬ (122 : Int32) < x0 → Q (1 : Int32) σ))))
theorem mt_isLetter {κ : Cx} {S : Adr} {Z : State → Prop} {Q : Int32 → FS → Prop} (h : MCx κ cX6_isLetter S 1) (hR : RetZ κ S Z cX6_isLetter Q) {x0 : Int32} {σ : FS} (hw : mw_isLetter x0 σ Q) : MG κ S Z 0 σ [some (.int x0)] [] := by
  unfold mw_isLetter at hw
  refine g_iload_0 0 h.1 dX6_isLetter_0 ?_
  refine g_bipush 1 _ bp_97 h.1 dX6_isLetter_1 ?_
  refine g_icmp_lt 3 16 h.1 dX6_isLetter_3 (by decide) (fun c => ?_) (fun c => ?_)
  · have hw := hw.1 c
    refine g_iconstv 16 _ ic_0 h.1 dX6_isLetter_16 ?_
    exact hR 17 _ _ _ dX6_isLetter_17 rfl hw
  · have hw := hw.2 c
    refine g_iload_0 6 h.1 dX6_isLetter_6 ?_
    refine g_bipush 7 _ bp_122 h.1 dX6_isLetter_7 ?_
    refine g_icmp_gt 9 16 h.1 dX6_isLetter_9 (by decide) (fun c => ?_) (fun c => ?_)
    · have hw := hw.1 c
      refine g_iconstv 16 _ ic_0 h.1 dX6_isLetter_16 ?_
      exact hR 17 _ _ _ dX6_isLetter_17 rfl hw
    · have hw := hw.2 c
      refine g_iconstv 12 _ ic_1 h.1 dX6_isLetter_12 ?_
      refine g_goto 13 17 h.1 dX6_isLetter_13 (by decide) ?_
      exact hR 17 _ _ _ dX6_isLetter_17 rfl hw
theorem mm_isLetter {l : Launch} {S : Adr} (hD : MD S) {x0 : Int32} {σ : FS} {Q : Int32 → FS → Prop} (hw : mw_isLetter x0 σ Q) : mMetS l S 1 yX6_isLetter [.int x0] σ (mQi S Q) :=
  m_smetZ hD ⟨rfl, by decide, by show _ = some 1; decide +kernel, q2135⟩ q2134 (Nat.le_of_ble_eq_true rfl) (fun κ Z h hR => mt_isLetter h hR hw)
def mw_isHere_76 (x1 : Nat) (x3 : Int32) (σ : FS) (Q : Int32 → FS → Prop) : Prop :=
  ∀ X76 : Nat → Int32 → FS → Prop, (∀ (x1 : Nat) (x3 : Int32) (σ : FS), (mok 3 x1 ∧ (((Int32.ofNat (mlen x1)) ≤ x3 → Q (1 : Int32) σ) ∧ (¬ (Int32.ofNat (mlen x1)) ≤ x3 → (vp_in ((fI σ 0 2) + x3) 1600 ∧ (mok 3 x1 ∧ vp_in x3 (mlen x1) ∧ (((fA σ 0 (Int32.toNatClampNeg ((fI σ 0 2) + x3))) = (fA σ x1 (Int32.toNatClampNeg x3)) → X76 x1 (x3 + 1) σ) ∧ (¬ (fA σ 0 (Int32.toNatClampNeg ((fI σ 0 2) + x3))) = (fA σ x1 (Int32.toNatClampNeg x3)) → Q (0 : Int32) σ))))))) → X76 x1 x3 σ) → X76 x1 x3 σ
theorem mt_isHere_76 {κ : Cx} {S : Adr} {Z : State → Prop} {Q : Int32 → FS → Prop} (h : MCx κ cX6_isHere S 2) (hR : RetZ κ S Z cX6_isHere Q) {x1 : Nat} {x3 : Int32} {σ : FS} (hw : mw_isHere_76 x1 x3 σ Q) : MG κ S Z 76 σ [some (.ref (S.2.1 0)), some (.ref (S.2.2.1 x1)), none, some (.int x3)] [] := by
  refine hw (fun x1 x3 σ => MG κ S Z 76 σ [some (.ref (S.2.1 0)), some (.ref (S.2.2.1 x1)), none, some (.int x3)] []) ?_
  clear hw
  intro x1 x3 σ hw
  have hX76 : ∀ (x1 : Nat) (x3 : Int32) (σ : FS), MG κ S Z 76 σ [some (.ref (S.2.1 0)), some (.ref (S.2.2.1 x1)), none, some (.int x3)] [] → MG κ S Z 76 σ [some (.ref (S.2.1 0)), some (.ref (S.2.2.1 x1)), none, some (.int x3)] [] := fun _ _ _ hh => hh
  refine g_iload_3 76 h.1 dX6_isHere_76 ?_
  refine g_aload_1 77 h.1 dX6_isHere_77 ?_
  refine m_alenC 78 hw.1 h dX6_isHere_78 ?_
  have hw := hw.2
  refine g_icmp_ge 79 107 h.1 dX6_isHere_79 (by decide) (fun c => ?_) (fun c => ?_)
  · have hw := hw.1 c
    refine g_iconstv 107 _ ic_1 h.1 dX6_isHere_107 ?_
    exact hR 108 _ _ _ dX6_isHere_108 rfl hw
  · have hw := hw.2 c
    refine g_aload_0 82 h.1 dX6_isHere_82 ?_
    refine mg_0 83 h dX6_isHere_83 ?_
    refine g_aload_0 86 h.1 dX6_isHere_86 ?_
    refine mg_2 87 h dX6_isHere_87 ?_
    refine g_iload_3 90 h.1 dX6_isHere_90 ?_
    refine g_iadd 91 h.1 dX6_isHere_91 ?_
    refine m_iald 92 rfl hw.1 h dX6_isHere_92 ?_
    have hw := hw.2
    refine g_aload_1 93 h.1 dX6_isHere_93 ?_
    refine g_iload_3 94 h.1 dX6_isHere_94 ?_
    refine m_cald 95 hw.1 hw.2.1 h dX6_isHere_95 ?_
    have hw := hw.2.2
    refine g_icmp_eq 96 101 h.1 dX6_isHere_96 (by decide) (fun c => ?_) (fun c => ?_)
    · have hw := hw.1 c
      refine g_iinc_3 101 (x3 + 1) (congrArg _ ic_1) h.1 rfl dX6_isHere_101 ?_
      refine g_goto 104 76 h.1 dX6_isHere_104 (by decide) ?_
      exact g_le (hX76 _ _ _ hw) ⟨rfl, rfl, rfl, trivial⟩
    · have hw := hw.2 c
      refine g_iconstv 99 _ ic_0 h.1 dX6_isHere_99 ?_
      exact hR 100 _ _ _ dX6_isHere_100 rfl hw
def mw_isHere_61 (x1 : Nat) (x2 : Int32) (σ : FS) (Q : Int32 → FS → Prop) : Prop :=
  (mok 3 x1 ∧ (((x2 - (fI σ 0 2)) = (Int32.ofNat (mlen x1)) → mw_isHere_76 x1 (0 : Int32) σ Q) ∧ (¬ (x2 - (fI σ 0 2)) = (Int32.ofNat (mlen x1)) → Q (0 : Int32) σ)))
theorem mt_isHere_61 {κ : Cx} {S : Adr} {Z : State → Prop} {Q : Int32 → FS → Prop} (h : MCx κ cX6_isHere S 2) (hR : RetZ κ S Z cX6_isHere Q) {x1 : Nat} {x2 : Int32} {σ : FS} (hw : mw_isHere_61 x1 x2 σ Q) : MG κ S Z 61 σ [some (.ref (S.2.1 0)), some (.ref (S.2.2.1 x1)), some (.int x2), none] [] := by
  unfold mw_isHere_61 at hw
  refine g_iload_2 61 h.1 dX6_isHere_61 ?_
  refine g_aload_0 62 h.1 dX6_isHere_62 ?_
  refine mg_2 63 h dX6_isHere_63 ?_
  refine g_isub 66 h.1 dX6_isHere_66 ?_
  refine g_aload_1 67 h.1 dX6_isHere_67 ?_
  refine m_alenC 68 hw.1 h dX6_isHere_68 ?_
  have hw := hw.2
  refine g_icmp_eq 69 74 h.1 dX6_isHere_69 (by decide) (fun c => ?_) (fun c => ?_)
  · have hw := hw.1 c
    refine g_iconstv 74 _ ic_0 h.1 dX6_isHere_74 ?_
    refine g_istore_3 75 h.1 rfl dX6_isHere_75 ?_
    exact g_le (mt_isHere_76 h hR hw) ⟨rfl, rfl, rfl, trivial⟩
  · have hw := hw.2 c
    refine g_iconstv 72 _ ic_0 h.1 dX6_isHere_72 ?_
    exact hR 73 _ _ _ dX6_isHere_73 rfl hw
def mw_isHere_35 (x1 : Nat) (x2 : Int32) (σ : FS) (Q : Int32 → FS → Prop) : Prop :=
  ∀ X35 : Nat → Int32 → FS → Prop, (∀ (x1 : Nat) (x2 : Int32) (σ : FS), (((fI σ 0 3) ≤ x2 → mw_isHere_61 x1 x2 σ Q) ∧ (¬ (fI σ 0 3) ≤ x2 → (vp_in x2 1600 ∧ mw_isLetter (fA σ 0 (Int32.toNatClampNeg x2)) σ (fun r6 σ5 => ((r6 = 0 → mw_isHere_61 x1 x2 σ5 Q) ∧ (¬ r6 = 0 → X35 x1 (x2 + 1) σ5)))))) → X35 x1 x2 σ) → X35 x1 x2 σ
theorem mt_isHere_35 {κ : Cx} {S : Adr} {Z : State → Prop} {Q : Int32 → FS → Prop} (h : MCx κ cX6_isHere S 2) (hR : RetZ κ S Z cX6_isHere Q) {x1 : Nat} {x2 : Int32} {σ : FS} (hw : mw_isHere_35 x1 x2 σ Q) : MG κ S Z 35 σ [some (.ref (S.2.1 0)), some (.ref (S.2.2.1 x1)), some (.int x2), none] [] := by
  refine hw (fun x1 x2 σ => MG κ S Z 35 σ [some (.ref (S.2.1 0)), some (.ref (S.2.2.1 x1)), some (.int x2), none] []) ?_
  clear hw
  intro x1 x2 σ hw
  have hX35 : ∀ (x1 : Nat) (x2 : Int32) (σ : FS), MG κ S Z 35 σ [some (.ref (S.2.1 0)), some (.ref (S.2.2.1 x1)), some (.int x2), none] [] → MG κ S Z 35 σ [some (.ref (S.2.1 0)), some (.ref (S.2.2.1 x1)), some (.int x2), none] [] := fun _ _ _ hh => hh
  refine g_iload_2 35 h.1 dX6_isHere_35 ?_
  refine g_aload_0 36 h.1 dX6_isHere_36 ?_
  refine mg_3 37 h dX6_isHere_37 ?_
  refine g_icmp_ge 40 61 h.1 dX6_isHere_40 (by decide) (fun c => ?_) (fun c => ?_)
  · have hw := hw.1 c
    exact g_le (mt_isHere_61 h hR hw) ⟨rfl, rfl, rfl, trivial⟩
  · have hw := hw.2 c
    refine g_aload_0 43 h.1 dX6_isHere_43 ?_
    refine mg_0 44 h dX6_isHere_44 ?_
    refine g_iload_2 47 h.1 dX6_isHere_47 ?_
    refine m_iald 48 rfl hw.1 h dX6_isHere_48 ?_
    have hw := hw.2
    refine m_scallI_1 49 h (mm_isLetter h.2.2.1 hw) (by decide) q2133 (Nat.le_of_ble_eq_true rfl) dX6_isHere_49 (fun r6 σ5 hw => ?_)
    refine g_if_eq 52 61 h.1 dX6_isHere_52 (by decide) (fun c => ?_) (fun c => ?_)
    · have hw := hw.1 c
      exact g_le (mt_isHere_61 h hR hw) ⟨rfl, rfl, rfl, trivial⟩
    · have hw := hw.2 c
      refine g_iinc_2 55 (x2 + 1) (congrArg _ ic_1) h.1 rfl dX6_isHere_55 ?_
      refine g_goto 58 35 h.1 dX6_isHere_58 (by decide) ?_
      exact g_le (hX35 _ _ _ hw) ⟨rfl, rfl, rfl, trivial⟩
def mw_isHere (x1 : Nat) (σ : FS) (Q : Int32 → FS → Prop) : Prop :=
  ((¬ (fI σ 0 5) = 0 → Q (0 : Int32) σ) ∧ ((fI σ 0 5) = 0 → mw_look σ (fun r2 σ1 => mw_isLetter r2 σ1 (fun r4 σ3 => ((r4 = 0 → Q (0 : Int32) σ3) ∧ (¬ r4 = 0 → ((¬ (fI σ3 0 2) = (fI σ3 0 4) → mw_isHere_35 x1 (fI σ3 0 2) σ3 Q) ∧ ((fI σ3 0 2) = (fI σ3 0 4) → Q (0 : Int32) σ3))))))))
theorem mt_isHere {κ : Cx} {S : Adr} {Z : State → Prop} {Q : Int32 → FS → Prop} (h : MCx κ cX6_isHere S 2) (hR : RetZ κ S Z cX6_isHere Q) {x1 : Nat} {σ : FS} (hw : mw_isHere x1 σ Q) : MG κ S Z 0 σ [some (.ref (S.2.1 0)), some (.ref (S.2.2.1 x1)), none, none] [] := by
  unfold mw_isHere at hw
  refine g_aload_0 0 h.1 dX6_isHere_0 ?_
  refine mg_5 1 h dX6_isHere_1 ?_
  refine g_if_ne 4 28 h.1 dX6_isHere_4 (by decide) (fun c => ?_) (fun c => ?_)
  · have hw := hw.1 c
    refine g_iconstv 28 _ ic_0 h.1 dX6_isHere_28 ?_
    exact hR 29 _ _ _ dX6_isHere_29 rfl hw
  · have hw := hw.2 c
    refine g_aload_0 7 h.1 dX6_isHere_7 ?_
    refine m_callI_0 8 h (mm_look h.2.2.1 hw) (by decide) q2129 (Nat.le_of_ble_eq_true rfl) dX6_isHere_8 (fun r2 σ1 hw => ?_)
    refine m_scallI_1 11 h (mm_isLetter h.2.2.1 hw) (by decide) q2133 (Nat.le_of_ble_eq_true rfl) dX6_isHere_11 (fun r4 σ3 hw => ?_)
    refine g_if_eq 14 28 h.1 dX6_isHere_14 (by decide) (fun c => ?_) (fun c => ?_)
    · have hw := hw.1 c
      refine g_iconstv 28 _ ic_0 h.1 dX6_isHere_28 ?_
      exact hR 29 _ _ _ dX6_isHere_29 rfl hw
    · have hw := hw.2 c
      refine g_aload_0 17 h.1 dX6_isHere_17 ?_
      refine mg_2 18 h dX6_isHere_18 ?_
      refine g_aload_0 21 h.1 dX6_isHere_21 ?_
      refine mg_4 22 h dX6_isHere_22 ?_
      refine g_icmp_ne 25 30 h.1 dX6_isHere_25 (by decide) (fun c => ?_) (fun c => ?_)
      · have hw := hw.1 c
        refine g_aload_0 30 h.1 dX6_isHere_30 ?_
        refine mg_2 31 h dX6_isHere_31 ?_
        refine g_istore_2 34 h.1 rfl dX6_isHere_34 ?_
        exact g_le (mt_isHere_35 h hR hw) ⟨rfl, rfl, rfl, trivial⟩
      · have hw := hw.2 c
        refine g_iconstv 28 _ ic_0 h.1 dX6_isHere_28 ?_
        exact hR 29 _ _ _ dX6_isHere_29 rfl hw
theorem mm_isHere {l : Launch} {S : Adr} (hD : MD S) {x1 : Nat} {σ : FS} {Q : Int32 → FS → Prop} (hw : mw_isHere x1 σ Q) : mMet l S 2 yX6_isHere [.ref (S.2.2.1 x1)] σ (mQi S Q) :=
  m_metZ hD ⟨rfl, by decide, by show _ = some 1; decide +kernel, q2128⟩ q2127 qs70 (Nat.le_of_ble_eq_true rfl) (fun κ Z h hR => mt_isHere h hR hw)
def mw_takes (x1 : Nat) (σ : FS) (Q : Int32 → FS → Prop) : Prop :=
  mw_isHere x1 σ (fun r2 σ1 => ((¬ r2 = 0 → (mok 3 x1 ∧ (∀ σ3, σ3 = sI σ1 0 2 ((fI σ1 0 2) + (Int32.ofNat (mlen x1))) → (∀ σ4, σ4 = sI σ3 0 4 (fI σ3 0 2) → Q (1 : Int32) σ4)))) ∧ (r2 = 0 → Q (0 : Int32) σ1)))
theorem mt_takes {κ : Cx} {S : Adr} {Z : State → Prop} {Q : Int32 → FS → Prop} (h : MCx κ cX6_takes S 3) (hR : RetZ κ S Z cX6_takes Q) {x1 : Nat} {σ : FS} (hw : mw_takes x1 σ Q) : MG κ S Z 0 σ [some (.ref (S.2.1 0)), some (.ref (S.2.2.1 x1))] [] := by
  unfold mw_takes at hw
  refine g_aload_0 0 h.1 dX6_takes_0 ?_
  refine g_aload_1 1 h.1 dX6_takes_1 ?_
  refine m_callI_1 2 h (mm_isHere h.2.2.1 hw) (by decide) q2125 (Nat.le_of_ble_eq_true rfl) dX6_takes_2 (fun r2 σ1 hw => ?_)
  refine g_if_ne 5 10 h.1 dX6_takes_5 (by decide) (fun c => ?_) (fun c => ?_)
  · have hw := hw.1 c
    refine g_aload_0 10 h.1 dX6_takes_10 ?_
    refine g_dup 11 rfl h.1 dX6_takes_11 ?_
    refine mg_2 12 h dX6_takes_12 ?_
    refine g_aload_1 15 h.1 dX6_takes_15 ?_
    refine m_alenC 16 hw.1 h dX6_takes_16 ?_
    have hw := hw.2
    refine g_iadd 17 h.1 dX6_takes_17 ?_
    refine mp_2 18 h dX6_takes_18 ?_
    have hw := hw _ rfl
    refine g_aload_0 21 h.1 dX6_takes_21 ?_
    refine g_aload_0 22 h.1 dX6_takes_22 ?_
    refine mg_2 23 h dX6_takes_23 ?_
    refine mp_4 26 h dX6_takes_26 ?_
    have hw := hw _ rfl
    refine g_iconstv 29 _ ic_1 h.1 dX6_takes_29 ?_
    exact hR 30 _ _ _ dX6_takes_30 rfl hw
  · have hw := hw.2 c
    refine g_iconstv 8 _ ic_0 h.1 dX6_takes_8 ?_
    exact hR 9 _ _ _ dX6_takes_9 rfl hw
theorem mm_takes {l : Launch} {S : Adr} (hD : MD S) {x1 : Nat} {σ : FS} {Q : Int32 → FS → Prop} (hw : mw_takes x1 σ Q) : mMet l S 3 yX6_takes [.ref (S.2.2.1 x1)] σ (mQi S Q) :=
  m_metZ hD ⟨rfl, by decide, by show _ = some 1; decide +kernel, q2124⟩ q2123 qs69 (Nat.le_of_ble_eq_true rfl) (fun κ Z h hR => mt_takes h hR hw)
def mw_needs (x1 : Nat) (σ : FS) (Q : FS → Prop) : Prop :=
  ((¬ (fI σ 0 5) = 0 → Q σ) ∧ ((fI σ 0 5) = 0 → mw_takes x1 σ (fun r2 σ1 => ((¬ r2 = 0 → Q σ1) ∧ (r2 = 0 → mw_fail (1 : Int32) (fI σ1 0 2) σ1 (fun σ3 => Q σ3))))))
theorem mt_needs {κ : Cx} {S : Adr} {Z : State → Prop} {Q : FS → Prop} (h : MCx κ cX6_needs S 4) (hR : RetV κ S Z cX6_needs Q) {x1 : Nat} {σ : FS} (hw : mw_needs x1 σ Q) : MG κ S Z 0 σ [some (.ref (S.2.1 0)), some (.ref (S.2.2.1 x1))] [] := by
  unfold mw_needs at hw
  refine g_aload_0 0 h.1 dX6_needs_0 ?_
  refine mg_5 1 h dX6_needs_1 ?_
  refine g_if_ne 4 24 h.1 dX6_needs_4 (by decide) (fun c => ?_) (fun c => ?_)
  · have hw := hw.1 c
    exact hR 24 _ _ dX6_needs_24 hw
  · have hw := hw.2 c
    refine g_aload_0 7 h.1 dX6_needs_7 ?_
    refine g_aload_1 8 h.1 dX6_needs_8 ?_
    refine m_callI_1 9 h (mm_takes h.2.2.1 hw) (by decide) q2121 (Nat.le_of_ble_eq_true rfl) dX6_needs_9 (fun r2 σ1 hw => ?_)
    refine g_if_ne 12 24 h.1 dX6_needs_12 (by decide) (fun c => ?_) (fun c => ?_)
    · have hw := hw.1 c
      exact hR 24 _ _ dX6_needs_24 hw
    · have hw := hw.2 c
      refine g_aload_0 15 h.1 dX6_needs_15 ?_
      refine g_iconstv 16 _ ic_1 h.1 dX6_needs_16 ?_
      refine g_aload_0 17 h.1 dX6_needs_17 ?_
      refine mg_2 18 h dX6_needs_18 ?_
      refine m_callV_2 21 h (mm_fail h.2.2.1 hw) (by decide) q2136 (Nat.le_of_ble_eq_true rfl) dX6_needs_21 (fun σ3 hw => ?_)
      exact hR 24 _ _ dX6_needs_24 hw
theorem mm_needs {l : Launch} {S : Adr} (hD : MD S) {x1 : Nat} {σ : FS} {Q : FS → Prop} (hw : mw_needs x1 σ Q) : mMet l S 4 yX6_needs [.ref (S.2.2.1 x1)] σ (mQv S Q) :=
  m_metV hD ⟨rfl, by decide, by show _ = some 1; decide +kernel, q2120⟩ q2119 qs68 (Nat.le_of_ble_eq_true rfl) (fun κ Z h hR => mt_needs h hR hw)
def mw_qKind_76 (y0 : Int32) (σ : FS) (Q : Int32 → FS → Prop) : Prop :=
  ((¬ y0 = (5 : Int32) → Q y0 σ) ∧ (y0 = (5 : Int32) → mw_needs 84 σ (fun σ11 => Q y0 σ11)))
theorem mt_qKind_76 {κ : Cx} {S : Adr} {Z : State → Prop} {Q : Int32 → FS → Prop} (h : MCx κ cX6_qKind S 5) (hR : RetI κ S Z cX6_qKind Q) {y0 : Int32} {σ : FS} (hw : mw_qKind_76 y0 σ Q) : MG κ S Z 76 σ [some (.ref (S.2.1 0)), none] [.int y0] := by
  unfold mw_qKind_76 at hw
  refine g_istore_1 76 h.1 rfl dX6_qKind_76 ?_
  refine g_iload_1 77 h.1 dX6_qKind_77 ?_
  refine g_iconstv 78 _ ic_5 h.1 dX6_qKind_78 ?_
  refine g_icmp_ne 79 90 h.1 dX6_qKind_79 (by decide) (fun c => ?_) (fun c => ?_)
  · have hw := hw.1 c
    refine g_iload_1 90 h.1 dX6_qKind_90 ?_
    exact hR 91 _ _ _ dX6_qKind_91 hw
  · have hw := hw.2 c
    refine g_aload_0 82 h.1 dX6_qKind_82 ?_
    refine g_aload_0 83 h.1 dX6_qKind_83 ?_
    refine mg_84 84 h dX6_qKind_84 ?_
    refine m_callV_1 87 h (mm_needs h.2.2.1 hw) (by decide) q2117 (Nat.le_of_ble_eq_true rfl) dX6_qKind_87 (fun σ11 hw => ?_)
    refine g_iload_1 90 h.1 dX6_qKind_90 ?_
    exact hR 91 _ _ _ dX6_qKind_91 hw
def mw_qKind (σ : FS) (Q : Int32 → FS → Prop) : Prop :=
  mw_takes 79 σ (fun r2 σ1 => ((r2 = 0 → mw_takes 80 σ1 (fun r4 σ3 => ((r4 = 0 → mw_takes 81 σ3 (fun r6 σ5 => ((r6 = 0 → mw_takes 82 σ5 (fun r8 σ7 => ((r8 = 0 → mw_takes 83 σ7 (fun r10 σ9 => ((r10 = 0 → mw_qKind_76 (5 : Int32) σ9 Q) ∧ (¬ r10 = 0 → mw_qKind_76 (4 : Int32) σ9 Q)))) ∧ (¬ r8 = 0 → mw_qKind_76 (3 : Int32) σ7 Q)))) ∧ (¬ r6 = 0 → mw_qKind_76 (2 : Int32) σ5 Q)))) ∧ (¬ r4 = 0 → mw_qKind_76 (1 : Int32) σ3 Q)))) ∧ (¬ r2 = 0 → mw_qKind_76 (0 : Int32) σ1 Q)))
theorem mt_qKind {κ : Cx} {S : Adr} {Z : State → Prop} {Q : Int32 → FS → Prop} (h : MCx κ cX6_qKind S 5) (hR : RetI κ S Z cX6_qKind Q) {σ : FS} (hw : mw_qKind σ Q) : MG κ S Z 0 σ [some (.ref (S.2.1 0)), none] [] := by
  unfold mw_qKind at hw
  refine g_aload_0 0 h.1 dX6_qKind_0 ?_
  refine g_aload_0 1 h.1 dX6_qKind_1 ?_
  refine mg_79 2 h dX6_qKind_2 ?_
  refine m_callI_1 5 h (mm_takes h.2.2.1 hw) (by decide) q2121 (Nat.le_of_ble_eq_true rfl) dX6_qKind_5 (fun r2 σ1 hw => ?_)
  refine g_if_eq 8 15 h.1 dX6_qKind_8 (by decide) (fun c => ?_) (fun c => ?_)
  · have hw := hw.1 c
    refine g_aload_0 15 h.1 dX6_qKind_15 ?_
    refine g_aload_0 16 h.1 dX6_qKind_16 ?_
    refine mg_80 17 h dX6_qKind_17 ?_
    refine m_callI_1 20 h (mm_takes h.2.2.1 hw) (by decide) q2121 (Nat.le_of_ble_eq_true rfl) dX6_qKind_20 (fun r4 σ3 hw => ?_)
    refine g_if_eq 23 30 h.1 dX6_qKind_23 (by decide) (fun c => ?_) (fun c => ?_)
    · have hw := hw.1 c
      refine g_aload_0 30 h.1 dX6_qKind_30 ?_
      refine g_aload_0 31 h.1 dX6_qKind_31 ?_
      refine mg_81 32 h dX6_qKind_32 ?_
      refine m_callI_1 35 h (mm_takes h.2.2.1 hw) (by decide) q2121 (Nat.le_of_ble_eq_true rfl) dX6_qKind_35 (fun r6 σ5 hw => ?_)
      refine g_if_eq 38 45 h.1 dX6_qKind_38 (by decide) (fun c => ?_) (fun c => ?_)
      · have hw := hw.1 c
        refine g_aload_0 45 h.1 dX6_qKind_45 ?_
        refine g_aload_0 46 h.1 dX6_qKind_46 ?_
        refine mg_82 47 h dX6_qKind_47 ?_
        refine m_callI_1 50 h (mm_takes h.2.2.1 hw) (by decide) q2121 (Nat.le_of_ble_eq_true rfl) dX6_qKind_50 (fun r8 σ7 hw => ?_)
        refine g_if_eq 53 60 h.1 dX6_qKind_53 (by decide) (fun c => ?_) (fun c => ?_)
        · have hw := hw.1 c
          refine g_aload_0 60 h.1 dX6_qKind_60 ?_
          refine g_aload_0 61 h.1 dX6_qKind_61 ?_
          refine mg_83 62 h dX6_qKind_62 ?_
          refine m_callI_1 65 h (mm_takes h.2.2.1 hw) (by decide) q2121 (Nat.le_of_ble_eq_true rfl) dX6_qKind_65 (fun r10 σ9 hw => ?_)
          refine g_if_eq 68 75 h.1 dX6_qKind_68 (by decide) (fun c => ?_) (fun c => ?_)
          · have hw := hw.1 c
            refine g_iconstv 75 _ ic_5 h.1 dX6_qKind_75 ?_
            exact g_le (mt_qKind_76 h hR hw) ⟨rfl, trivial⟩
          · have hw := hw.2 c
            refine g_iconstv 71 _ ic_4 h.1 dX6_qKind_71 ?_
            refine g_goto 72 76 h.1 dX6_qKind_72 (by decide) ?_
            exact g_le (mt_qKind_76 h hR hw) ⟨rfl, trivial⟩
        · have hw := hw.2 c
          refine g_iconstv 56 _ ic_3 h.1 dX6_qKind_56 ?_
          refine g_goto 57 76 h.1 dX6_qKind_57 (by decide) ?_
          exact g_le (mt_qKind_76 h hR hw) ⟨rfl, trivial⟩
      · have hw := hw.2 c
        refine g_iconstv 41 _ ic_2 h.1 dX6_qKind_41 ?_
        refine g_goto 42 76 h.1 dX6_qKind_42 (by decide) ?_
        exact g_le (mt_qKind_76 h hR hw) ⟨rfl, trivial⟩
    · have hw := hw.2 c
      refine g_iconstv 26 _ ic_1 h.1 dX6_qKind_26 ?_
      refine g_goto 27 76 h.1 dX6_qKind_27 (by decide) ?_
      exact g_le (mt_qKind_76 h hR hw) ⟨rfl, trivial⟩
  · have hw := hw.2 c
    refine g_iconstv 11 _ ic_0 h.1 dX6_qKind_11 ?_
    refine g_goto 12 76 h.1 dX6_qKind_12 (by decide) ?_
    exact g_le (mt_qKind_76 h hR hw) ⟨rfl, trivial⟩
theorem mm_qKind {l : Launch} {S : Adr} (hD : MD S) {σ : FS} {Q : Int32 → FS → Prop} (hw : mw_qKind σ Q) : mMet l S 5 yX6_qKind [] σ (mQi S Q) :=
  m_metI hD ⟨rfl, by decide, by show _ = some 0; decide +kernel, q2649⟩ q2648 qs162 (Nat.le_of_ble_eq_true rfl) (fun κ Z h hR => mt_qKind h hR hw)
def mw_qCode (x1 : Int32) (σ : FS) (Q : FS → Prop) : Prop :=
  (vp_in (fI σ 0 103) 1700 ∧ ∀ σ1, σ1 = sA σ 102 (Int32.toNatClampNeg (fI σ 0 103)) x1 → (∀ σ2, σ2 = sI σ1 0 103 ((fI σ1 0 103) + (1 : Int32)) → Q σ2))
theorem mt_qCode {κ : Cx} {S : Adr} {Z : State → Prop} {Q : FS → Prop} (h : MCx κ cX6_qCode S 1) (hR : RetV κ S Z cX6_qCode Q) {x1 : Int32} {σ : FS} (hw : mw_qCode x1 σ Q) : MG κ S Z 0 σ [some (.ref (S.2.1 0)), some (.int x1)] [] := by
  unfold mw_qCode at hw
  refine g_aload_0 0 h.1 dX6_qCode_0 ?_
  refine mg_102 1 h dX6_qCode_1 ?_
  refine g_aload_0 4 h.1 dX6_qCode_4 ?_
  refine mg_103 5 h dX6_qCode_5 ?_
  refine g_iload_1 8 h.1 dX6_qCode_8 ?_
  refine m_iast 9 rfl hw.1 h dX6_qCode_9 ?_
  have hw := hw.2 _ rfl
  refine g_aload_0 10 h.1 dX6_qCode_10 ?_
  refine g_dup 11 rfl h.1 dX6_qCode_11 ?_
  refine mg_103 12 h dX6_qCode_12 ?_
  refine g_iconstv 15 _ ic_1 h.1 dX6_qCode_15 ?_
  refine g_iadd 16 h.1 dX6_qCode_16 ?_
  refine mp_103 17 h dX6_qCode_17 ?_
  have hw := hw _ rfl
  exact hR 20 _ _ dX6_qCode_20 hw
theorem mm_qCode {l : Launch} {S : Adr} (hD : MD S) {x1 : Int32} {σ : FS} {Q : FS → Prop} (hw : mw_qCode x1 σ Q) : mMet l S 1 yX6_qCode [.int x1] σ (mQv S Q) :=
  m_metV hD ⟨rfl, by decide, by show _ = some 1; decide +kernel, q2227⟩ q2226 qs92 (Nat.le_of_ble_eq_true rfl) (fun κ Z h hR => mt_qCode h hR hw)
def mw_qDrops (σ : FS) (Q : FS → Prop) : Prop :=
  (∀ σ1, σ1 = sI σ 0 105 ((fI σ 0 105) - (1 : Int32)) → (vp_in (fI σ1 0 105) 1700 ∧ mw_qCode (fA σ1 104 (Int32.toNatClampNeg (fI σ1 0 105))) σ1 (fun σ2 => Q σ2)))
theorem mt_qDrops {κ : Cx} {S : Adr} {Z : State → Prop} {Q : FS → Prop} (h : MCx κ cX6_qDrops S 2) (hR : RetV κ S Z cX6_qDrops Q) {σ : FS} (hw : mw_qDrops σ Q) : MG κ S Z 0 σ [some (.ref (S.2.1 0))] [] := by
  unfold mw_qDrops at hw
  refine g_aload_0 0 h.1 dX6_qDrops_0 ?_
  refine g_dup 1 rfl h.1 dX6_qDrops_1 ?_
  refine mg_105 2 h dX6_qDrops_2 ?_
  refine g_iconstv 5 _ ic_1 h.1 dX6_qDrops_5 ?_
  refine g_isub 6 h.1 dX6_qDrops_6 ?_
  refine mp_105 7 h dX6_qDrops_7 ?_
  have hw := hw _ rfl
  refine g_aload_0 10 h.1 dX6_qDrops_10 ?_
  refine g_aload_0 11 h.1 dX6_qDrops_11 ?_
  refine mg_104 12 h dX6_qDrops_12 ?_
  refine g_aload_0 15 h.1 dX6_qDrops_15 ?_
  refine mg_105 16 h dX6_qDrops_16 ?_
  refine m_iald 19 rfl hw.1 h dX6_qDrops_19 ?_
  have hw := hw.2
  refine m_callV_1 20 h (mm_qCode h.2.2.1 hw) (by decide) q2224 (Nat.le_of_ble_eq_true rfl) dX6_qDrops_20 (fun σ2 hw => ?_)
  exact hR 23 _ _ dX6_qDrops_23 hw
theorem mm_qDrops {l : Launch} {S : Adr} (hD : MD S) {σ : FS} {Q : FS → Prop} (hw : mw_qDrops σ Q) : mMet l S 2 yX6_qDrops [] σ (mQv S Q) :=
  m_metV hD ⟨rfl, by decide, by show _ = some 0; decide +kernel, q2259⟩ q2258 qs100 (Nat.le_of_ble_eq_true rfl) (fun κ Z h hR => mt_qDrops h hR hw)
def mw_takesSign (x1 : Int32) (σ : FS) (Q : Int32 → FS → Prop) : Prop :=
  ((¬ (fI σ 0 5) = 0 → Q (0 : Int32) σ) ∧ ((fI σ 0 5) = 0 → mw_look σ (fun r2 σ1 => ((r2 = x1 → (∀ σ3, σ3 = sI σ1 0 2 ((fI σ1 0 2) + (1 : Int32)) → Q (1 : Int32) σ3)) ∧ (¬ r2 = x1 → Q (0 : Int32) σ1)))))
theorem mt_takesSign {κ : Cx} {S : Adr} {Z : State → Prop} {Q : Int32 → FS → Prop} (h : MCx κ cX6_takesSign S 2) (hR : RetZ κ S Z cX6_takesSign Q) {x1 : Int32} {σ : FS} (hw : mw_takesSign x1 σ Q) : MG κ S Z 0 σ [some (.ref (S.2.1 0)), some (.int x1)] [] := by
  unfold mw_takesSign at hw
  refine g_aload_0 0 h.1 dX6_takesSign_0 ?_
  refine mg_5 1 h dX6_takesSign_1 ?_
  refine g_if_ne 4 15 h.1 dX6_takesSign_4 (by decide) (fun c => ?_) (fun c => ?_)
  · have hw := hw.1 c
    refine g_iconstv 15 _ ic_0 h.1 dX6_takesSign_15 ?_
    exact hR 16 _ _ _ dX6_takesSign_16 rfl hw
  · have hw := hw.2 c
    refine g_aload_0 7 h.1 dX6_takesSign_7 ?_
    refine m_callI_0 8 h (mm_look h.2.2.1 hw) (by decide) q2129 (Nat.le_of_ble_eq_true rfl) dX6_takesSign_8 (fun r2 σ1 hw => ?_)
    refine g_iload_1 11 h.1 dX6_takesSign_11 ?_
    refine g_icmp_eq 12 17 h.1 dX6_takesSign_12 (by decide) (fun c => ?_) (fun c => ?_)
    · have hw := hw.1 c
      refine g_aload_0 17 h.1 dX6_takesSign_17 ?_
      refine g_dup 18 rfl h.1 dX6_takesSign_18 ?_
      refine mg_2 19 h dX6_takesSign_19 ?_
      refine g_iconstv 22 _ ic_1 h.1 dX6_takesSign_22 ?_
      refine g_iadd 23 h.1 dX6_takesSign_23 ?_
      refine mp_2 24 h dX6_takesSign_24 ?_
      have hw := hw _ rfl
      refine g_iconstv 27 _ ic_1 h.1 dX6_takesSign_27 ?_
      exact hR 28 _ _ _ dX6_takesSign_28 rfl hw
    · have hw := hw.2 c
      refine g_iconstv 15 _ ic_0 h.1 dX6_takesSign_15 ?_
      exact hR 16 _ _ _ dX6_takesSign_16 rfl hw
theorem mm_takesSign {l : Launch} {S : Adr} (hD : MD S) {x1 : Int32} {σ : FS} {Q : Int32 → FS → Prop} (hw : mw_takesSign x1 σ Q) : mMet l S 2 yX6_takesSign [.int x1] σ (mQi S Q) :=
  m_metZ hD ⟨rfl, by decide, by show _ = some 1; decide +kernel, q2157⟩ q2156 qs75 (Nat.le_of_ble_eq_true rfl) (fun κ Z h hR => mt_takesSign h hR hw)
def mw_asksSign (x1 : Int32) (σ : FS) (Q : FS → Prop) : Prop :=
  ((¬ (fI σ 0 5) = 0 → Q σ) ∧ ((fI σ 0 5) = 0 → mw_takesSign x1 σ (fun r2 σ1 => ((¬ r2 = 0 → Q σ1) ∧ (r2 = 0 → mw_fail (1 : Int32) (fI σ1 0 2) σ1 (fun σ3 => Q σ3))))))
theorem mt_asksSign {κ : Cx} {S : Adr} {Z : State → Prop} {Q : FS → Prop} (h : MCx κ cX6_asksSign S 3) (hR : RetV κ S Z cX6_asksSign Q) {x1 : Int32} {σ : FS} (hw : mw_asksSign x1 σ Q) : MG κ S Z 0 σ [some (.ref (S.2.1 0)), some (.int x1)] [] := by
  unfold mw_asksSign at hw
  refine g_aload_0 0 h.1 dX6_asksSign_0 ?_
  refine mg_5 1 h dX6_asksSign_1 ?_
  refine g_if_ne 4 24 h.1 dX6_asksSign_4 (by decide) (fun c => ?_) (fun c => ?_)
  · have hw := hw.1 c
    exact hR 24 _ _ dX6_asksSign_24 hw
  · have hw := hw.2 c
    refine g_aload_0 7 h.1 dX6_asksSign_7 ?_
    refine g_iload_1 8 h.1 dX6_asksSign_8 ?_
    refine m_callI_1 9 h (mm_takesSign h.2.2.1 hw) (by decide) q2154 (Nat.le_of_ble_eq_true rfl) dX6_asksSign_9 (fun r2 σ1 hw => ?_)
    refine g_if_ne 12 24 h.1 dX6_asksSign_12 (by decide) (fun c => ?_) (fun c => ?_)
    · have hw := hw.1 c
      exact hR 24 _ _ dX6_asksSign_24 hw
    · have hw := hw.2 c
      refine g_aload_0 15 h.1 dX6_asksSign_15 ?_
      refine g_iconstv 16 _ ic_1 h.1 dX6_asksSign_16 ?_
      refine g_aload_0 17 h.1 dX6_asksSign_17 ?_
      refine mg_2 18 h dX6_asksSign_18 ?_
      refine m_callV_2 21 h (mm_fail h.2.2.1 hw) (by decide) q2136 (Nat.le_of_ble_eq_true rfl) dX6_asksSign_21 (fun σ3 hw => ?_)
      exact hR 24 _ _ dX6_asksSign_24 hw
theorem mm_asksSign {l : Launch} {S : Adr} (hD : MD S) {x1 : Int32} {σ : FS} {Q : FS → Prop} (hw : mw_asksSign x1 σ Q) : mMet l S 3 yX6_asksSign [.int x1] σ (mQv S Q) :=
  m_metV hD ⟨rfl, by decide, by show _ = some 1; decide +kernel, q2153⟩ q2152 qs74 (Nat.le_of_ble_eq_true rfl) (fun κ Z h hR => mt_asksSign h hR hw)
def mw_qIsBracket (x0 : Int32) (σ : FS) (Q : Int32 → FS → Prop) : Prop :=
  ((x0 < (20 : Int32) → Q (0 : Int32) σ) ∧ (¬ x0 < (20 : Int32) → (((24 : Int32) < x0 → Q (0 : Int32) σ) ∧ (¬ (24 : Int32) < x0 → Q (1 : Int32) σ))))
theorem mt_qIsBracket {κ : Cx} {S : Adr} {Z : State → Prop} {Q : Int32 → FS → Prop} (h : MCx κ cX6_qIsBracket S 1) (hR : RetZ κ S Z cX6_qIsBracket Q) {x0 : Int32} {σ : FS} (hw : mw_qIsBracket x0 σ Q) : MG κ S Z 0 σ [some (.int x0)] [] := by
  unfold mw_qIsBracket at hw
  refine g_iload_0 0 h.1 dX6_qIsBracket_0 ?_
  refine g_bipush 1 _ bp_20 h.1 dX6_qIsBracket_1 ?_
  refine g_icmp_lt 3 16 h.1 dX6_qIsBracket_3 (by decide) (fun c => ?_) (fun c => ?_)
  · have hw := hw.1 c
    refine g_iconstv 16 _ ic_0 h.1 dX6_qIsBracket_16 ?_
    exact hR 17 _ _ _ dX6_qIsBracket_17 rfl hw
  · have hw := hw.2 c
    refine g_iload_0 6 h.1 dX6_qIsBracket_6 ?_
    refine g_bipush 7 _ bp_24 h.1 dX6_qIsBracket_7 ?_
    refine g_icmp_gt 9 16 h.1 dX6_qIsBracket_9 (by decide) (fun c => ?_) (fun c => ?_)
    · have hw := hw.1 c
      refine g_iconstv 16 _ ic_0 h.1 dX6_qIsBracket_16 ?_
      exact hR 17 _ _ _ dX6_qIsBracket_17 rfl hw
    · have hw := hw.2 c
      refine g_iconstv 12 _ ic_1 h.1 dX6_qIsBracket_12 ?_
      refine g_goto 13 17 h.1 dX6_qIsBracket_13 (by decide) ?_
      exact hR 17 _ _ _ dX6_qIsBracket_17 rfl hw
theorem mm_qIsBracket {l : Launch} {S : Adr} (hD : MD S) {x0 : Int32} {σ : FS} {Q : Int32 → FS → Prop} (hw : mw_qIsBracket x0 σ Q) : mMetS l S 1 yX6_qIsBracket [.int x0] σ (mQi S Q) :=
  m_smetZ hD ⟨rfl, by decide, by show _ = some 1; decide +kernel, q2270⟩ q2269 (Nat.le_of_ble_eq_true rfl) (fun κ Z h hR => mt_qIsBracket h hR hw)
def mw_qBracket_33 (x1 : Int32) (σ : FS) (Q : Int32 → FS → Prop) : Prop :=
  ((x1 < (fI σ 0 107) → Q (-1 : Int32) σ) ∧ (¬ x1 < (fI σ 0 107) → (vp_in x1 1700 ∧ Q (fA σ 104 (Int32.toNatClampNeg x1)) σ)))
theorem mt_qBracket_33 {κ : Cx} {S : Adr} {Z : State → Prop} {Q : Int32 → FS → Prop} (h : MCx κ cX6_qBracket S 2) (hR : RetI κ S Z cX6_qBracket Q) {x1 : Int32} {σ : FS} (hw : mw_qBracket_33 x1 σ Q) : MG κ S Z 33 σ [some (.ref (S.2.1 0)), some (.int x1)] [] := by
  unfold mw_qBracket_33 at hw
  refine g_iload_1 33 h.1 dX6_qBracket_33 ?_
  refine g_aload_0 34 h.1 dX6_qBracket_34 ?_
  refine mg_107 35 h dX6_qBracket_35 ?_
  refine g_icmp_lt 38 50 h.1 dX6_qBracket_38 (by decide) (fun c => ?_) (fun c => ?_)
  · have hw := hw.1 c
    refine g_iconstv 50 _ ic_m1 h.1 dX6_qBracket_50 ?_
    exact hR 51 _ _ _ dX6_qBracket_51 hw
  · have hw := hw.2 c
    refine g_aload_0 41 h.1 dX6_qBracket_41 ?_
    refine mg_104 42 h dX6_qBracket_42 ?_
    refine g_iload_1 45 h.1 dX6_qBracket_45 ?_
    refine m_iald 46 rfl hw.1 h dX6_qBracket_46 ?_
    have hw := hw.2
    refine g_goto 47 51 h.1 dX6_qBracket_47 (by decide) ?_
    exact hR 51 _ _ _ dX6_qBracket_51 hw
def mw_qBracket_7 (x1 : Int32) (σ : FS) (Q : Int32 → FS → Prop) : Prop :=
  ∀ X7 : Int32 → FS → Prop, (∀ (x1 : Int32) (σ : FS), ((x1 < (fI σ 0 107) → mw_qBracket_33 x1 σ Q) ∧ (¬ x1 < (fI σ 0 107) → (vp_in x1 1700 ∧ mw_qIsBracket (fA σ 104 (Int32.toNatClampNeg x1)) σ (fun r2 σ1 => ((¬ r2 = 0 → mw_qBracket_33 x1 σ1 Q) ∧ (r2 = 0 → X7 (x1 + -1) σ1)))))) → X7 x1 σ) → X7 x1 σ
theorem mt_qBracket_7 {κ : Cx} {S : Adr} {Z : State → Prop} {Q : Int32 → FS → Prop} (h : MCx κ cX6_qBracket S 2) (hR : RetI κ S Z cX6_qBracket Q) {x1 : Int32} {σ : FS} (hw : mw_qBracket_7 x1 σ Q) : MG κ S Z 7 σ [some (.ref (S.2.1 0)), some (.int x1)] [] := by
  refine hw (fun x1 σ => MG κ S Z 7 σ [some (.ref (S.2.1 0)), some (.int x1)] []) ?_
  clear hw
  intro x1 σ hw
  have hX7 : ∀ (x1 : Int32) (σ : FS), MG κ S Z 7 σ [some (.ref (S.2.1 0)), some (.int x1)] [] → MG κ S Z 7 σ [some (.ref (S.2.1 0)), some (.int x1)] [] := fun _ _ hh => hh
  refine g_iload_1 7 h.1 dX6_qBracket_7 ?_
  refine g_aload_0 8 h.1 dX6_qBracket_8 ?_
  refine mg_107 9 h dX6_qBracket_9 ?_
  refine g_icmp_lt 12 33 h.1 dX6_qBracket_12 (by decide) (fun c => ?_) (fun c => ?_)
  · have hw := hw.1 c
    exact g_le (mt_qBracket_33 h hR hw) ⟨rfl, rfl, trivial⟩
  · have hw := hw.2 c
    refine g_aload_0 15 h.1 dX6_qBracket_15 ?_
    refine mg_104 16 h dX6_qBracket_16 ?_
    refine g_iload_1 19 h.1 dX6_qBracket_19 ?_
    refine m_iald 20 rfl hw.1 h dX6_qBracket_20 ?_
    have hw := hw.2
    refine m_scallI_1 21 h (mm_qIsBracket h.2.2.1 hw) (by decide) q2268 (Nat.le_of_ble_eq_true rfl) dX6_qBracket_21 (fun r2 σ1 hw => ?_)
    refine g_if_ne 24 33 h.1 dX6_qBracket_24 (by decide) (fun c => ?_) (fun c => ?_)
    · have hw := hw.1 c
      exact g_le (mt_qBracket_33 h hR hw) ⟨rfl, rfl, trivial⟩
    · have hw := hw.2 c
      refine g_iinc_1 27 (x1 + -1) (congrArg _ ic_m1) h.1 rfl dX6_qBracket_27 ?_
      refine g_goto 30 7 h.1 dX6_qBracket_30 (by decide) ?_
      exact g_le (hX7 _ _ hw) ⟨rfl, rfl, trivial⟩
def mw_qBracket (σ : FS) (Q : Int32 → FS → Prop) : Prop :=
  mw_qBracket_7 ((fI σ 0 105) - (1 : Int32)) σ Q
theorem mt_qBracket {κ : Cx} {S : Adr} {Z : State → Prop} {Q : Int32 → FS → Prop} (h : MCx κ cX6_qBracket S 2) (hR : RetI κ S Z cX6_qBracket Q) {σ : FS} (hw : mw_qBracket σ Q) : MG κ S Z 0 σ [some (.ref (S.2.1 0)), none] [] := by
  unfold mw_qBracket at hw
  refine g_aload_0 0 h.1 dX6_qBracket_0 ?_
  refine mg_105 1 h dX6_qBracket_1 ?_
  refine g_iconstv 4 _ ic_1 h.1 dX6_qBracket_4 ?_
  refine g_isub 5 h.1 dX6_qBracket_5 ?_
  refine g_istore_1 6 h.1 rfl dX6_qBracket_6 ?_
  exact g_le (mt_qBracket_7 h hR hw) ⟨rfl, rfl, trivial⟩
theorem mm_qBracket {l : Launch} {S : Adr} (hD : MD S) {σ : FS} {Q : Int32 → FS → Prop} (hw : mw_qBracket σ Q) : mMet l S 2 yX6_qBracket [] σ (mQi S Q) :=
  m_metI hD ⟨rfl, by decide, by show _ = some 0; decide +kernel, q2267⟩ q2266 qs102 (Nat.le_of_ble_eq_true rfl) (fun κ Z h hR => mt_qBracket h hR hw)
def mw_qDropsToBracket_0 (σ : FS) (Q : FS → Prop) : Prop :=
  ∀ X0 : FS → Prop, (∀ (σ : FS), (((fI σ 0 105) ≤ (fI σ 0 107) → Q σ) ∧ (¬ (fI σ 0 105) ≤ (fI σ 0 107) → (vp_in ((fI σ 0 105) - (1 : Int32)) 1700 ∧ mw_qIsBracket (fA σ 104 (Int32.toNatClampNeg ((fI σ 0 105) - (1 : Int32)))) σ (fun r2 σ1 => ((¬ r2 = 0 → Q σ1) ∧ (r2 = 0 → mw_qDrops σ1 (fun σ3 => X0 σ3))))))) → X0 σ) → X0 σ
theorem mt_qDropsToBracket_0 {κ : Cx} {S : Adr} {Z : State → Prop} {Q : FS → Prop} (h : MCx κ cX6_qDropsToBracket S 3) (hR : RetV κ S Z cX6_qDropsToBracket Q) {σ : FS} (hw : mw_qDropsToBracket_0 σ Q) : MG κ S Z 0 σ [some (.ref (S.2.1 0))] [] := by
  refine hw (fun σ => MG κ S Z 0 σ [some (.ref (S.2.1 0))] []) ?_
  clear hw
  intro σ hw
  have hX0 : ∀ (σ : FS), MG κ S Z 0 σ [some (.ref (S.2.1 0))] [] → MG κ S Z 0 σ [some (.ref (S.2.1 0))] [] := fun _ hh => hh
  refine g_aload_0 0 h.1 dX6_qDropsToBracket_0 ?_
  refine mg_105 1 h dX6_qDropsToBracket_1 ?_
  refine g_aload_0 4 h.1 dX6_qDropsToBracket_4 ?_
  refine mg_107 5 h dX6_qDropsToBracket_5 ?_
  refine g_icmp_le 8 35 h.1 dX6_qDropsToBracket_8 (by decide) (fun c => ?_) (fun c => ?_)
  · have hw := hw.1 c
    exact hR 35 _ _ dX6_qDropsToBracket_35 hw
  · have hw := hw.2 c
    refine g_aload_0 11 h.1 dX6_qDropsToBracket_11 ?_
    refine mg_104 12 h dX6_qDropsToBracket_12 ?_
    refine g_aload_0 15 h.1 dX6_qDropsToBracket_15 ?_
    refine mg_105 16 h dX6_qDropsToBracket_16 ?_
    refine g_iconstv 19 _ ic_1 h.1 dX6_qDropsToBracket_19 ?_
    refine g_isub 20 h.1 dX6_qDropsToBracket_20 ?_
    refine m_iald 21 rfl hw.1 h dX6_qDropsToBracket_21 ?_
    have hw := hw.2
    refine m_scallI_1 22 h (mm_qIsBracket h.2.2.1 hw) (by decide) q2268 (Nat.le_of_ble_eq_true rfl) dX6_qDropsToBracket_22 (fun r2 σ1 hw => ?_)
    refine g_if_ne 25 35 h.1 dX6_qDropsToBracket_25 (by decide) (fun c => ?_) (fun c => ?_)
    · have hw := hw.1 c
      exact hR 35 _ _ dX6_qDropsToBracket_35 hw
    · have hw := hw.2 c
      refine g_aload_0 28 h.1 dX6_qDropsToBracket_28 ?_
      refine m_callV_0 29 h (mm_qDrops h.2.2.1 hw) (by decide) q2256 (Nat.le_of_ble_eq_true rfl) dX6_qDropsToBracket_29 (fun σ3 hw => ?_)
      refine g_goto 32 0 h.1 dX6_qDropsToBracket_32 (by decide) ?_
      exact g_le (hX0 _ hw) ⟨rfl, trivial⟩
def mw_qDropsToBracket (σ : FS) (Q : FS → Prop) : Prop :=
  mw_qDropsToBracket_0 σ Q
theorem mt_qDropsToBracket {κ : Cx} {S : Adr} {Z : State → Prop} {Q : FS → Prop} (h : MCx κ cX6_qDropsToBracket S 3) (hR : RetV κ S Z cX6_qDropsToBracket Q) {σ : FS} (hw : mw_qDropsToBracket σ Q) : MG κ S Z 0 σ [some (.ref (S.2.1 0))] [] := by
  unfold mw_qDropsToBracket at hw
  exact g_le (mt_qDropsToBracket_0 h hR hw) ⟨rfl, trivial⟩
theorem mm_qDropsToBracket {l : Launch} {S : Adr} (hD : MD S) {σ : FS} {Q : FS → Prop} (hw : mw_qDropsToBracket σ Q) : mMet l S 3 yX6_qDropsToBracket [] σ (mQv S Q) :=
  m_metV hD ⟨rfl, by decide, by show _ = some 0; decide +kernel, q2274⟩ q2273 qs103 (Nat.le_of_ble_eq_true rfl) (fun κ Z h hR => mt_qDropsToBracket h hR hw)
def mw_qEndsPart_0 (σ : FS) (Q : FS → Prop) : Prop :=
  ∀ X0 : FS → Prop, (∀ (σ : FS), ((¬ (fI σ 0 5) = 0 → Q σ) ∧ ((fI σ 0 5) = 0 → (((fI σ 0 105) ≤ (fI σ 0 107) → Q σ) ∧ (¬ (fI σ 0 105) ≤ (fI σ 0 107) → (vp_in ((fI σ 0 105) - (1 : Int32)) 1700 ∧ (((fA σ 104 (Int32.toNatClampNeg ((fI σ 0 105) - (1 : Int32)))) < (60 : Int32) → Q σ) ∧ (¬ (fA σ 104 (Int32.toNatClampNeg ((fI σ 0 105) - (1 : Int32)))) < (60 : Int32) → (∀ σ1, σ1 = sI σ 0 106 ((fI σ 0 106) - (1 : Int32)) → mw_qDrops σ1 (fun σ2 => X0 σ2))))))))) → X0 σ) → X0 σ
theorem mt_qEndsPart_0 {κ : Cx} {S : Adr} {Z : State → Prop} {Q : FS → Prop} (h : MCx κ cX6_qEndsPart S 3) (hR : RetV κ S Z cX6_qEndsPart Q) {σ : FS} (hw : mw_qEndsPart_0 σ Q) : MG κ S Z 0 σ [some (.ref (S.2.1 0))] [] := by
  refine hw (fun σ => MG κ S Z 0 σ [some (.ref (S.2.1 0))] []) ?_
  clear hw
  intro σ hw
  have hX0 : ∀ (σ : FS), MG κ S Z 0 σ [some (.ref (S.2.1 0))] [] → MG κ S Z 0 σ [some (.ref (S.2.1 0))] [] := fun _ hh => hh
  refine g_aload_0 0 h.1 dX6_qEndsPart_0 ?_
  refine mg_5 1 h dX6_qEndsPart_1 ?_
  refine g_if_ne 4 51 h.1 dX6_qEndsPart_4 (by decide) (fun c => ?_) (fun c => ?_)
  · have hw := hw.1 c
    exact hR 51 _ _ dX6_qEndsPart_51 hw
  · have hw := hw.2 c
    refine g_aload_0 7 h.1 dX6_qEndsPart_7 ?_
    refine mg_105 8 h dX6_qEndsPart_8 ?_
    refine g_aload_0 11 h.1 dX6_qEndsPart_11 ?_
    refine mg_107 12 h dX6_qEndsPart_12 ?_
    refine g_icmp_le 15 51 h.1 dX6_qEndsPart_15 (by decide) (fun c => ?_) (fun c => ?_)
    · have hw := hw.1 c
      exact hR 51 _ _ dX6_qEndsPart_51 hw
    · have hw := hw.2 c
      refine g_aload_0 18 h.1 dX6_qEndsPart_18 ?_
      refine mg_104 19 h dX6_qEndsPart_19 ?_
      refine g_aload_0 22 h.1 dX6_qEndsPart_22 ?_
      refine mg_105 23 h dX6_qEndsPart_23 ?_
      refine g_iconstv 26 _ ic_1 h.1 dX6_qEndsPart_26 ?_
      refine g_isub 27 h.1 dX6_qEndsPart_27 ?_
      refine m_iald 28 rfl hw.1 h dX6_qEndsPart_28 ?_
      have hw := hw.2
      refine g_bipush 29 _ bp_60 h.1 dX6_qEndsPart_29 ?_
      refine g_icmp_lt 31 51 h.1 dX6_qEndsPart_31 (by decide) (fun c => ?_) (fun c => ?_)
      · have hw := hw.1 c
        exact hR 51 _ _ dX6_qEndsPart_51 hw
      · have hw := hw.2 c
        refine g_aload_0 34 h.1 dX6_qEndsPart_34 ?_
        refine g_dup 35 rfl h.1 dX6_qEndsPart_35 ?_
        refine mg_106 36 h dX6_qEndsPart_36 ?_
        refine g_iconstv 39 _ ic_1 h.1 dX6_qEndsPart_39 ?_
        refine g_isub 40 h.1 dX6_qEndsPart_40 ?_
        refine mp_106 41 h dX6_qEndsPart_41 ?_
        have hw := hw _ rfl
        refine g_aload_0 44 h.1 dX6_qEndsPart_44 ?_
        refine m_callV_0 45 h (mm_qDrops h.2.2.1 hw) (by decide) q2256 (Nat.le_of_ble_eq_true rfl) dX6_qEndsPart_45 (fun σ2 hw => ?_)
        refine g_goto 48 0 h.1 dX6_qEndsPart_48 (by decide) ?_
        exact g_le (hX0 _ hw) ⟨rfl, trivial⟩
def mw_qEndsPart (σ : FS) (Q : FS → Prop) : Prop :=
  mw_qEndsPart_0 σ Q
theorem mt_qEndsPart {κ : Cx} {S : Adr} {Z : State → Prop} {Q : FS → Prop} (h : MCx κ cX6_qEndsPart S 3) (hR : RetV κ S Z cX6_qEndsPart Q) {σ : FS} (hw : mw_qEndsPart σ Q) : MG κ S Z 0 σ [some (.ref (S.2.1 0))] [] := by
  unfold mw_qEndsPart at hw
  exact g_le (mt_qEndsPart_0 h hR hw) ⟨rfl, trivial⟩
theorem mm_qEndsPart {l : Launch} {S : Adr} (hD : MD S) {σ : FS} {Q : FS → Prop} (hw : mw_qEndsPart σ Q) : mMet l S 3 yX6_qEndsPart [] σ (mQv S Q) :=
  m_metV hD ⟨rfl, by decide, by show _ = some 0; decide +kernel, q2255⟩ q2254 qs99 (Nat.le_of_ble_eq_true rfl) (fun κ Z h hR => mt_qEndsPart h hR hw)
def mw_qIsOn (x1 : Int32) (σ : FS) (Q : Int32 → FS → Prop) : Prop :=
  (((fI σ 0 105) ≤ 0 → Q (0 : Int32) σ) ∧ (¬ (fI σ 0 105) ≤ 0 → (vp_in ((fI σ 0 105) - (1 : Int32)) 1700 ∧ ((¬ (fA σ 104 (Int32.toNatClampNeg ((fI σ 0 105) - (1 : Int32)))) = x1 → Q (0 : Int32) σ) ∧ ((fA σ 104 (Int32.toNatClampNeg ((fI σ 0 105) - (1 : Int32)))) = x1 → Q (1 : Int32) σ)))))
theorem mt_qIsOn {κ : Cx} {S : Adr} {Z : State → Prop} {Q : Int32 → FS → Prop} (h : MCx κ cX6_qIsOn S 1) (hR : RetZ κ S Z cX6_qIsOn Q) {x1 : Int32} {σ : FS} (hw : mw_qIsOn x1 σ Q) : MG κ S Z 0 σ [some (.ref (S.2.1 0)), some (.int x1)] [] := by
  unfold mw_qIsOn at hw
  refine g_aload_0 0 h.1 dX6_qIsOn_0 ?_
  refine mg_105 1 h dX6_qIsOn_1 ?_
  refine g_if_le 4 26 h.1 dX6_qIsOn_4 (by decide) (fun c => ?_) (fun c => ?_)
  · have hw := hw.1 c
    refine g_iconstv 26 _ ic_0 h.1 dX6_qIsOn_26 ?_
    exact hR 27 _ _ _ dX6_qIsOn_27 rfl hw
  · have hw := hw.2 c
    refine g_aload_0 7 h.1 dX6_qIsOn_7 ?_
    refine mg_104 8 h dX6_qIsOn_8 ?_
    refine g_aload_0 11 h.1 dX6_qIsOn_11 ?_
    refine mg_105 12 h dX6_qIsOn_12 ?_
    refine g_iconstv 15 _ ic_1 h.1 dX6_qIsOn_15 ?_
    refine g_isub 16 h.1 dX6_qIsOn_16 ?_
    refine m_iald 17 rfl hw.1 h dX6_qIsOn_17 ?_
    have hw := hw.2
    refine g_iload_1 18 h.1 dX6_qIsOn_18 ?_
    refine g_icmp_ne 19 26 h.1 dX6_qIsOn_19 (by decide) (fun c => ?_) (fun c => ?_)
    · have hw := hw.1 c
      refine g_iconstv 26 _ ic_0 h.1 dX6_qIsOn_26 ?_
      exact hR 27 _ _ _ dX6_qIsOn_27 rfl hw
    · have hw := hw.2 c
      refine g_iconstv 22 _ ic_1 h.1 dX6_qIsOn_22 ?_
      refine g_goto 23 27 h.1 dX6_qIsOn_23 (by decide) ?_
      exact hR 27 _ _ _ dX6_qIsOn_27 rfl hw
theorem mm_qIsOn {l : Launch} {S : Adr} (hD : MD S) {x1 : Int32} {σ : FS} {Q : Int32 → FS → Prop} (hw : mw_qIsOn x1 σ Q) : mMet l S 1 yX6_qIsOn [.int x1] σ (mQi S Q) :=
  m_metZ hD ⟨rfl, by decide, by show _ = some 1; decide +kernel, q2278⟩ q2277 qs104 (Nat.le_of_ble_eq_true rfl) (fun κ Z h hR => mt_qIsOn h hR hw)
def mw_qGoesOn_115 (X0 : FS → Prop) (σ : FS) (Q : Int32 → FS → Prop) : Prop :=
  mw_qEndsPart σ (fun σ31 => X0 σ31)
theorem mt_qGoesOn_115 {κ : Cx} {S : Adr} {Z : State → Prop} {Q : Int32 → FS → Prop} (h : MCx κ cX6_qGoesOn S 4) (hR : RetZ κ S Z cX6_qGoesOn Q) {X0 : FS → Prop} (hX0 : ∀ (σ : FS), X0 σ → MG κ S Z 0 σ [some (.ref (S.2.1 0)), none] []) {σ : FS} (hw : mw_qGoesOn_115 X0 σ Q) : MG κ S Z 115 σ [some (.ref (S.2.1 0)), none] [] := by
  unfold mw_qGoesOn_115 at hw
  refine g_aload_0 115 h.1 dX6_qGoesOn_115 ?_
  refine m_callV_0 116 h (mm_qEndsPart h.2.2.1 hw) (by decide) q2252 (Nat.le_of_ble_eq_true rfl) dX6_qGoesOn_116 (fun σ31 hw => ?_)
  refine g_goto 119 0 h.1 dX6_qGoesOn_119 (by decide) ?_
  exact g_le (hX0 _ hw) ⟨rfl, trivial⟩
def mw_qGoesOn_112 (X0 : FS → Prop) (y0 : Int32) (σ : FS) (Q : Int32 → FS → Prop) : Prop :=
  mw_qCode y0 σ (fun σ32 => mw_qGoesOn_115 X0 σ32 Q)
theorem mt_qGoesOn_112 {κ : Cx} {S : Adr} {Z : State → Prop} {Q : Int32 → FS → Prop} (h : MCx κ cX6_qGoesOn S 4) (hR : RetZ κ S Z cX6_qGoesOn Q) {X0 : FS → Prop} (hX0 : ∀ (σ : FS), X0 σ → MG κ S Z 0 σ [some (.ref (S.2.1 0)), none] []) {y0 : Int32} {σ : FS} (hw : mw_qGoesOn_112 X0 y0 σ Q) : MG κ S Z 112 σ [some (.ref (S.2.1 0)), none] [.int y0, .ref (S.2.1 0)] := by
  unfold mw_qGoesOn_112 at hw
  refine m_callV_1 112 h (mm_qCode h.2.2.1 hw) (by decide) q2224 (Nat.le_of_ble_eq_true rfl) dX6_qGoesOn_112 (fun σ32 hw => ?_)
  exact g_le (mt_qGoesOn_115 h hR hX0 hw) ⟨rfl, trivial⟩
def mw_qGoesOn_43 (X0 : FS → Prop) (σ : FS) (Q : Int32 → FS → Prop) : Prop :=
  (∀ σ24, σ24 = sI σ 0 2 ((fI σ 0 2) + (1 : Int32)) → mw_qDropsToBracket σ24 (fun σ25 => (∀ σ26, σ26 = sI σ25 0 105 ((fI σ25 0 105) - (1 : Int32)) → (∀ σ27, σ27 = sI σ26 0 106 ((fI σ26 0 106) - (1 : Int32)) → (vp_in (fI σ27 0 105) 1700 ∧ (((fA σ27 104 (Int32.toNatClampNeg (fI σ27 0 105))) = (20 : Int32) → mw_qGoesOn_115 X0 σ27 Q) ∧ (¬ (fA σ27 104 (Int32.toNatClampNeg (fI σ27 0 105))) = (20 : Int32) → (vp_in (fI σ27 0 105) 1700 ∧ ((¬ (fA σ27 104 (Int32.toNatClampNeg (fI σ27 0 105))) = (23 : Int32) → mw_qGoesOn_112 X0 (6 : Int32) σ27 Q) ∧ ((fA σ27 104 (Int32.toNatClampNeg (fI σ27 0 105))) = (23 : Int32) → mw_qGoesOn_112 X0 (5 : Int32) σ27 Q))))))))))
theorem mt_qGoesOn_43 {κ : Cx} {S : Adr} {Z : State → Prop} {Q : Int32 → FS → Prop} (h : MCx κ cX6_qGoesOn S 4) (hR : RetZ κ S Z cX6_qGoesOn Q) {X0 : FS → Prop} (hX0 : ∀ (σ : FS), X0 σ → MG κ S Z 0 σ [some (.ref (S.2.1 0)), none] []) {σ : FS} (hw : mw_qGoesOn_43 X0 σ Q) : MG κ S Z 43 σ [some (.ref (S.2.1 0)), none] [] := by
  unfold mw_qGoesOn_43 at hw
  refine g_aload_0 43 h.1 dX6_qGoesOn_43 ?_
  refine g_dup 44 rfl h.1 dX6_qGoesOn_44 ?_
  refine mg_2 45 h dX6_qGoesOn_45 ?_
  refine g_iconstv 48 _ ic_1 h.1 dX6_qGoesOn_48 ?_
  refine g_iadd 49 h.1 dX6_qGoesOn_49 ?_
  refine mp_2 50 h dX6_qGoesOn_50 ?_
  have hw := hw _ rfl
  refine g_aload_0 53 h.1 dX6_qGoesOn_53 ?_
  refine m_callV_0 54 h (mm_qDropsToBracket h.2.2.1 hw) (by decide) q2271 (Nat.le_of_ble_eq_true rfl) dX6_qGoesOn_54 (fun σ25 hw => ?_)
  refine g_aload_0 57 h.1 dX6_qGoesOn_57 ?_
  refine g_dup 58 rfl h.1 dX6_qGoesOn_58 ?_
  refine mg_105 59 h dX6_qGoesOn_59 ?_
  refine g_iconstv 62 _ ic_1 h.1 dX6_qGoesOn_62 ?_
  refine g_isub 63 h.1 dX6_qGoesOn_63 ?_
  refine mp_105 64 h dX6_qGoesOn_64 ?_
  have hw := hw _ rfl
  refine g_aload_0 67 h.1 dX6_qGoesOn_67 ?_
  refine g_dup 68 rfl h.1 dX6_qGoesOn_68 ?_
  refine mg_106 69 h dX6_qGoesOn_69 ?_
  refine g_iconstv 72 _ ic_1 h.1 dX6_qGoesOn_72 ?_
  refine g_isub 73 h.1 dX6_qGoesOn_73 ?_
  refine mp_106 74 h dX6_qGoesOn_74 ?_
  have hw := hw _ rfl
  refine g_aload_0 77 h.1 dX6_qGoesOn_77 ?_
  refine mg_104 78 h dX6_qGoesOn_78 ?_
  refine g_aload_0 81 h.1 dX6_qGoesOn_81 ?_
  refine mg_105 82 h dX6_qGoesOn_82 ?_
  refine m_iald 85 rfl hw.1 h dX6_qGoesOn_85 ?_
  have hw := hw.2
  refine g_bipush 86 _ bp_20 h.1 dX6_qGoesOn_86 ?_
  refine g_icmp_eq 88 115 h.1 dX6_qGoesOn_88 (by decide) (fun c => ?_) (fun c => ?_)
  · have hw := hw.1 c
    exact g_le (mt_qGoesOn_115 h hR hX0 hw) ⟨rfl, trivial⟩
  · have hw := hw.2 c
    refine g_aload_0 91 h.1 dX6_qGoesOn_91 ?_
    refine g_aload_0 92 h.1 dX6_qGoesOn_92 ?_
    refine mg_104 93 h dX6_qGoesOn_93 ?_
    refine g_aload_0 96 h.1 dX6_qGoesOn_96 ?_
    refine mg_105 97 h dX6_qGoesOn_97 ?_
    refine m_iald 100 rfl hw.1 h dX6_qGoesOn_100 ?_
    have hw := hw.2
    refine g_bipush 101 _ bp_23 h.1 dX6_qGoesOn_101 ?_
    refine g_icmp_ne 103 110 h.1 dX6_qGoesOn_103 (by decide) (fun c => ?_) (fun c => ?_)
    · have hw := hw.1 c
      refine g_bipush 110 _ bp_6 h.1 dX6_qGoesOn_110 ?_
      exact g_le (mt_qGoesOn_112 h hR hX0 hw) ⟨rfl, trivial⟩
    · have hw := hw.2 c
      refine g_iconstv 106 _ ic_5 h.1 dX6_qGoesOn_106 ?_
      refine g_goto 107 112 h.1 dX6_qGoesOn_107 (by decide) ?_
      exact g_le (mt_qGoesOn_112 h hR hX0 hw) ⟨rfl, trivial⟩
def mw_qGoesOn_178 (X162 : Int32 → FS → Prop) (x1 : Int32) (σ : FS) (Q : Int32 → FS → Prop) : Prop :=
  mw_qDrops σ (fun σ49 => X162 x1 σ49)
theorem mt_qGoesOn_178 {κ : Cx} {S : Adr} {Z : State → Prop} {Q : Int32 → FS → Prop} (h : MCx κ cX6_qGoesOn S 4) (hR : RetZ κ S Z cX6_qGoesOn Q) {X162 : Int32 → FS → Prop} (hX162 : ∀ (x1 : Int32) (σ : FS), X162 x1 σ → MG κ S Z 162 σ [some (.ref (S.2.1 0)), some (.int x1)] []) {x1 : Int32} {σ : FS} (hw : mw_qGoesOn_178 X162 x1 σ Q) : MG κ S Z 178 σ [some (.ref (S.2.1 0)), some (.int x1)] [] := by
  unfold mw_qGoesOn_178 at hw
  refine g_aload_0 178 h.1 dX6_qGoesOn_178 ?_
  refine m_callV_0 179 h (mm_qDrops h.2.2.1 hw) (by decide) q2256 (Nat.le_of_ble_eq_true rfl) dX6_qGoesOn_179 (fun σ49 hw => ?_)
  refine g_goto 182 162 h.1 dX6_qGoesOn_182 (by decide) ?_
  exact g_le (hX162 _ _ hw) ⟨rfl, rfl, trivial⟩
def mw_qGoesOn_162 (x1 : Int32) (σ : FS) (Q : Int32 → FS → Prop) : Prop :=
  ∀ X162 : Int32 → FS → Prop, (∀ (x1 : Int32) (σ : FS), mw_qIsOn (3 : Int32) σ (fun r34 σ33 => ((¬ r34 = 0 → mw_qGoesOn_178 X162 x1 σ33 Q) ∧ (r34 = 0 → mw_qIsOn (4 : Int32) σ33 (fun r36 σ35 => ((r36 = 0 → (vp_in (fI σ35 0 105) 1700 ∧ ∀ σ37, σ37 = sA σ35 104 (Int32.toNatClampNeg (fI σ35 0 105)) x1 → (∀ σ38, σ38 = sI σ37 0 105 ((fI σ37 0 105) + (1 : Int32)) → Q (1 : Int32) σ38))) ∧ (¬ r36 = 0 → mw_qGoesOn_178 X162 x1 σ35 Q)))))) → X162 x1 σ) → X162 x1 σ
theorem mt_qGoesOn_162 {κ : Cx} {S : Adr} {Z : State → Prop} {Q : Int32 → FS → Prop} (h : MCx κ cX6_qGoesOn S 4) (hR : RetZ κ S Z cX6_qGoesOn Q) {x1 : Int32} {σ : FS} (hw : mw_qGoesOn_162 x1 σ Q) : MG κ S Z 162 σ [some (.ref (S.2.1 0)), some (.int x1)] [] := by
  refine hw (fun x1 σ => MG κ S Z 162 σ [some (.ref (S.2.1 0)), some (.int x1)] []) ?_
  clear hw
  intro x1 σ hw
  have hX162 : ∀ (x1 : Int32) (σ : FS), MG κ S Z 162 σ [some (.ref (S.2.1 0)), some (.int x1)] [] → MG κ S Z 162 σ [some (.ref (S.2.1 0)), some (.int x1)] [] := fun _ _ hh => hh
  refine g_aload_0 162 h.1 dX6_qGoesOn_162 ?_
  refine g_iconstv 163 _ ic_3 h.1 dX6_qGoesOn_163 ?_
  refine m_callI_1 164 h (mm_qIsOn h.2.2.1 hw) (by decide) q2275 (Nat.le_of_ble_eq_true rfl) dX6_qGoesOn_164 (fun r34 σ33 hw => ?_)
  refine g_if_ne 167 178 h.1 dX6_qGoesOn_167 (by decide) (fun c => ?_) (fun c => ?_)
  · have hw := hw.1 c
    exact g_le (mt_qGoesOn_178 h hR hX162 hw) ⟨rfl, rfl, trivial⟩
  · have hw := hw.2 c
    refine g_aload_0 170 h.1 dX6_qGoesOn_170 ?_
    refine g_iconstv 171 _ ic_4 h.1 dX6_qGoesOn_171 ?_
    refine m_callI_1 172 h (mm_qIsOn h.2.2.1 hw) (by decide) q2275 (Nat.le_of_ble_eq_true rfl) dX6_qGoesOn_172 (fun r36 σ35 hw => ?_)
    refine g_if_eq 175 185 h.1 dX6_qGoesOn_175 (by decide) (fun c => ?_) (fun c => ?_)
    · have hw := hw.1 c
      refine g_aload_0 185 h.1 dX6_qGoesOn_185 ?_
      refine mg_104 186 h dX6_qGoesOn_186 ?_
      refine g_aload_0 189 h.1 dX6_qGoesOn_189 ?_
      refine mg_105 190 h dX6_qGoesOn_190 ?_
      refine g_iload_1 193 h.1 dX6_qGoesOn_193 ?_
      refine m_iast 194 rfl hw.1 h dX6_qGoesOn_194 ?_
      have hw := hw.2 _ rfl
      refine g_aload_0 195 h.1 dX6_qGoesOn_195 ?_
      refine g_dup 196 rfl h.1 dX6_qGoesOn_196 ?_
      refine mg_105 197 h dX6_qGoesOn_197 ?_
      refine g_iconstv 200 _ ic_1 h.1 dX6_qGoesOn_200 ?_
      refine g_iadd 201 h.1 dX6_qGoesOn_201 ?_
      refine mp_105 202 h dX6_qGoesOn_202 ?_
      have hw := hw _ rfl
      refine g_iconstv 205 _ ic_1 h.1 dX6_qGoesOn_205 ?_
      exact hR 206 _ _ _ dX6_qGoesOn_206 rfl hw
    · have hw := hw.2 c
      exact g_le (mt_qGoesOn_178 h hR hX162 hw) ⟨rfl, rfl, trivial⟩
def mw_qGoesOn_161 (y0 : Int32) (σ : FS) (Q : Int32 → FS → Prop) : Prop :=
  mw_qGoesOn_162 y0 σ Q
theorem mt_qGoesOn_161 {κ : Cx} {S : Adr} {Z : State → Prop} {Q : Int32 → FS → Prop} (h : MCx κ cX6_qGoesOn S 4) (hR : RetZ κ S Z cX6_qGoesOn Q) {y0 : Int32} {σ : FS} (hw : mw_qGoesOn_161 y0 σ Q) : MG κ S Z 161 σ [some (.ref (S.2.1 0)), none] [.int y0] := by
  unfold mw_qGoesOn_161 at hw
  refine g_istore_1 161 h.1 rfl dX6_qGoesOn_161 ?_
  exact g_le (mt_qGoesOn_162 h hR hw) ⟨rfl, rfl, trivial⟩
def mw_qGoesOn_140 (σ : FS) (Q : Int32 → FS → Prop) : Prop :=
  (vp_in ((fI σ 0 2) - (1 : Int32)) 1600 ∧ ((¬ (fA σ 0 (Int32.toNatClampNeg ((fI σ 0 2) - (1 : Int32)))) = (42 : Int32) → mw_qGoesOn_161 (4 : Int32) σ Q) ∧ ((fA σ 0 (Int32.toNatClampNeg ((fI σ 0 2) - (1 : Int32)))) = (42 : Int32) → mw_qGoesOn_161 (3 : Int32) σ Q)))
theorem mt_qGoesOn_140 {κ : Cx} {S : Adr} {Z : State → Prop} {Q : Int32 → FS → Prop} (h : MCx κ cX6_qGoesOn S 4) (hR : RetZ κ S Z cX6_qGoesOn Q) {σ : FS} (hw : mw_qGoesOn_140 σ Q) : MG κ S Z 140 σ [some (.ref (S.2.1 0)), none] [] := by
  unfold mw_qGoesOn_140 at hw
  refine g_aload_0 140 h.1 dX6_qGoesOn_140 ?_
  refine mg_0 141 h dX6_qGoesOn_141 ?_
  refine g_aload_0 144 h.1 dX6_qGoesOn_144 ?_
  refine mg_2 145 h dX6_qGoesOn_145 ?_
  refine g_iconstv 148 _ ic_1 h.1 dX6_qGoesOn_148 ?_
  refine g_isub 149 h.1 dX6_qGoesOn_149 ?_
  refine m_iald 150 rfl hw.1 h dX6_qGoesOn_150 ?_
  have hw := hw.2
  refine g_bipush 151 _ bp_42 h.1 dX6_qGoesOn_151 ?_
  refine g_icmp_ne 153 160 h.1 dX6_qGoesOn_153 (by decide) (fun c => ?_) (fun c => ?_)
  · have hw := hw.1 c
    refine g_iconstv 160 _ ic_4 h.1 dX6_qGoesOn_160 ?_
    exact g_le (mt_qGoesOn_161 h hR hw) ⟨rfl, trivial⟩
  · have hw := hw.2 c
    refine g_iconstv 156 _ ic_3 h.1 dX6_qGoesOn_156 ?_
    refine g_goto 157 161 h.1 dX6_qGoesOn_157 (by decide) ?_
    exact g_le (mt_qGoesOn_161 h hR hw) ⟨rfl, trivial⟩
def mw_qGoesOn_279 (X247 : Int32 → FS → Prop) (x1 : Int32) (σ : FS) (Q : Int32 → FS → Prop) : Prop :=
  mw_qDrops σ (fun σ50 => X247 x1 σ50)
theorem mt_qGoesOn_279 {κ : Cx} {S : Adr} {Z : State → Prop} {Q : Int32 → FS → Prop} (h : MCx κ cX6_qGoesOn S 4) (hR : RetZ κ S Z cX6_qGoesOn Q) {X247 : Int32 → FS → Prop} (hX247 : ∀ (x1 : Int32) (σ : FS), X247 x1 σ → MG κ S Z 247 σ [some (.ref (S.2.1 0)), some (.int x1)] []) {x1 : Int32} {σ : FS} (hw : mw_qGoesOn_279 X247 x1 σ Q) : MG κ S Z 279 σ [some (.ref (S.2.1 0)), some (.int x1)] [] := by
  unfold mw_qGoesOn_279 at hw
  refine g_aload_0 279 h.1 dX6_qGoesOn_279 ?_
  refine m_callV_0 280 h (mm_qDrops h.2.2.1 hw) (by decide) q2256 (Nat.le_of_ble_eq_true rfl) dX6_qGoesOn_280 (fun σ50 hw => ?_)
  refine g_goto 283 247 h.1 dX6_qGoesOn_283 (by decide) ?_
  exact g_le (hX247 _ _ hw) ⟨rfl, rfl, trivial⟩
def mw_qGoesOn_247 (x1 : Int32) (σ : FS) (Q : Int32 → FS → Prop) : Prop :=
  ∀ X247 : Int32 → FS → Prop, (∀ (x1 : Int32) (σ : FS), mw_qIsOn (3 : Int32) σ (fun r40 σ39 => ((¬ r40 = 0 → mw_qGoesOn_279 X247 x1 σ39 Q) ∧ (r40 = 0 → mw_qIsOn (4 : Int32) σ39 (fun r42 σ41 => ((¬ r42 = 0 → mw_qGoesOn_279 X247 x1 σ41 Q) ∧ (r42 = 0 → mw_qIsOn (1 : Int32) σ41 (fun r44 σ43 => ((¬ r44 = 0 → mw_qGoesOn_279 X247 x1 σ43 Q) ∧ (r44 = 0 → mw_qIsOn (2 : Int32) σ43 (fun r46 σ45 => ((r46 = 0 → (vp_in (fI σ45 0 105) 1700 ∧ ∀ σ47, σ47 = sA σ45 104 (Int32.toNatClampNeg (fI σ45 0 105)) x1 → (∀ σ48, σ48 = sI σ47 0 105 ((fI σ47 0 105) + (1 : Int32)) → Q (1 : Int32) σ48))) ∧ (¬ r46 = 0 → mw_qGoesOn_279 X247 x1 σ45 Q)))))))))))) → X247 x1 σ) → X247 x1 σ
theorem mt_qGoesOn_247 {κ : Cx} {S : Adr} {Z : State → Prop} {Q : Int32 → FS → Prop} (h : MCx κ cX6_qGoesOn S 4) (hR : RetZ κ S Z cX6_qGoesOn Q) {x1 : Int32} {σ : FS} (hw : mw_qGoesOn_247 x1 σ Q) : MG κ S Z 247 σ [some (.ref (S.2.1 0)), some (.int x1)] [] := by
  refine hw (fun x1 σ => MG κ S Z 247 σ [some (.ref (S.2.1 0)), some (.int x1)] []) ?_
  clear hw
  intro x1 σ hw
  have hX247 : ∀ (x1 : Int32) (σ : FS), MG κ S Z 247 σ [some (.ref (S.2.1 0)), some (.int x1)] [] → MG κ S Z 247 σ [some (.ref (S.2.1 0)), some (.int x1)] [] := fun _ _ hh => hh
  refine g_aload_0 247 h.1 dX6_qGoesOn_247 ?_
  refine g_iconstv 248 _ ic_3 h.1 dX6_qGoesOn_248 ?_
  refine m_callI_1 249 h (mm_qIsOn h.2.2.1 hw) (by decide) q2275 (Nat.le_of_ble_eq_true rfl) dX6_qGoesOn_249 (fun r40 σ39 hw => ?_)
  refine g_if_ne 252 279 h.1 dX6_qGoesOn_252 (by decide) (fun c => ?_) (fun c => ?_)
  · have hw := hw.1 c
    exact g_le (mt_qGoesOn_279 h hR hX247 hw) ⟨rfl, rfl, trivial⟩
  · have hw := hw.2 c
    refine g_aload_0 255 h.1 dX6_qGoesOn_255 ?_
    refine g_iconstv 256 _ ic_4 h.1 dX6_qGoesOn_256 ?_
    refine m_callI_1 257 h (mm_qIsOn h.2.2.1 hw) (by decide) q2275 (Nat.le_of_ble_eq_true rfl) dX6_qGoesOn_257 (fun r42 σ41 hw => ?_)
    refine g_if_ne 260 279 h.1 dX6_qGoesOn_260 (by decide) (fun c => ?_) (fun c => ?_)
    · have hw := hw.1 c
      exact g_le (mt_qGoesOn_279 h hR hX247 hw) ⟨rfl, rfl, trivial⟩
    · have hw := hw.2 c
      refine g_aload_0 263 h.1 dX6_qGoesOn_263 ?_
      refine g_iconstv 264 _ ic_1 h.1 dX6_qGoesOn_264 ?_
      refine m_callI_1 265 h (mm_qIsOn h.2.2.1 hw) (by decide) q2275 (Nat.le_of_ble_eq_true rfl) dX6_qGoesOn_265 (fun r44 σ43 hw => ?_)
      refine g_if_ne 268 279 h.1 dX6_qGoesOn_268 (by decide) (fun c => ?_) (fun c => ?_)
      · have hw := hw.1 c
        exact g_le (mt_qGoesOn_279 h hR hX247 hw) ⟨rfl, rfl, trivial⟩
      · have hw := hw.2 c
        refine g_aload_0 271 h.1 dX6_qGoesOn_271 ?_
        refine g_iconstv 272 _ ic_2 h.1 dX6_qGoesOn_272 ?_
        refine m_callI_1 273 h (mm_qIsOn h.2.2.1 hw) (by decide) q2275 (Nat.le_of_ble_eq_true rfl) dX6_qGoesOn_273 (fun r46 σ45 hw => ?_)
        refine g_if_eq 276 286 h.1 dX6_qGoesOn_276 (by decide) (fun c => ?_) (fun c => ?_)
        · have hw := hw.1 c
          refine g_aload_0 286 h.1 dX6_qGoesOn_286 ?_
          refine mg_104 287 h dX6_qGoesOn_287 ?_
          refine g_aload_0 290 h.1 dX6_qGoesOn_290 ?_
          refine mg_105 291 h dX6_qGoesOn_291 ?_
          refine g_iload_1 294 h.1 dX6_qGoesOn_294 ?_
          refine m_iast 295 rfl hw.1 h dX6_qGoesOn_295 ?_
          have hw := hw.2 _ rfl
          refine g_aload_0 296 h.1 dX6_qGoesOn_296 ?_
          refine g_dup 297 rfl h.1 dX6_qGoesOn_297 ?_
          refine mg_105 298 h dX6_qGoesOn_298 ?_
          refine g_iconstv 301 _ ic_1 h.1 dX6_qGoesOn_301 ?_
          refine g_iadd 302 h.1 dX6_qGoesOn_302 ?_
          refine mp_105 303 h dX6_qGoesOn_303 ?_
          have hw := hw _ rfl
          refine g_iconstv 306 _ ic_1 h.1 dX6_qGoesOn_306 ?_
          exact hR 307 _ _ _ dX6_qGoesOn_307 rfl hw
        · have hw := hw.2 c
          exact g_le (mt_qGoesOn_279 h hR hX247 hw) ⟨rfl, rfl, trivial⟩
def mw_qGoesOn_246 (y0 : Int32) (σ : FS) (Q : Int32 → FS → Prop) : Prop :=
  mw_qGoesOn_247 y0 σ Q
theorem mt_qGoesOn_246 {κ : Cx} {S : Adr} {Z : State → Prop} {Q : Int32 → FS → Prop} (h : MCx κ cX6_qGoesOn S 4) (hR : RetZ κ S Z cX6_qGoesOn Q) {y0 : Int32} {σ : FS} (hw : mw_qGoesOn_246 y0 σ Q) : MG κ S Z 246 σ [some (.ref (S.2.1 0)), none] [.int y0] := by
  unfold mw_qGoesOn_246 at hw
  refine g_istore_1 246 h.1 rfl dX6_qGoesOn_246 ?_
  exact g_le (mt_qGoesOn_247 h hR hw) ⟨rfl, rfl, trivial⟩
def mw_qGoesOn_225 (σ : FS) (Q : Int32 → FS → Prop) : Prop :=
  (vp_in ((fI σ 0 2) - (1 : Int32)) 1600 ∧ ((¬ (fA σ 0 (Int32.toNatClampNeg ((fI σ 0 2) - (1 : Int32)))) = (43 : Int32) → mw_qGoesOn_246 (2 : Int32) σ Q) ∧ ((fA σ 0 (Int32.toNatClampNeg ((fI σ 0 2) - (1 : Int32)))) = (43 : Int32) → mw_qGoesOn_246 (1 : Int32) σ Q)))
theorem mt_qGoesOn_225 {κ : Cx} {S : Adr} {Z : State → Prop} {Q : Int32 → FS → Prop} (h : MCx κ cX6_qGoesOn S 4) (hR : RetZ κ S Z cX6_qGoesOn Q) {σ : FS} (hw : mw_qGoesOn_225 σ Q) : MG κ S Z 225 σ [some (.ref (S.2.1 0)), none] [] := by
  unfold mw_qGoesOn_225 at hw
  refine g_aload_0 225 h.1 dX6_qGoesOn_225 ?_
  refine mg_0 226 h dX6_qGoesOn_226 ?_
  refine g_aload_0 229 h.1 dX6_qGoesOn_229 ?_
  refine mg_2 230 h dX6_qGoesOn_230 ?_
  refine g_iconstv 233 _ ic_1 h.1 dX6_qGoesOn_233 ?_
  refine g_isub 234 h.1 dX6_qGoesOn_234 ?_
  refine m_iald 235 rfl hw.1 h dX6_qGoesOn_235 ?_
  have hw := hw.2
  refine g_bipush 236 _ bp_43 h.1 dX6_qGoesOn_236 ?_
  refine g_icmp_ne 238 245 h.1 dX6_qGoesOn_238 (by decide) (fun c => ?_) (fun c => ?_)
  · have hw := hw.1 c
    refine g_iconstv 245 _ ic_2 h.1 dX6_qGoesOn_245 ?_
    exact g_le (mt_qGoesOn_246 h hR hw) ⟨rfl, trivial⟩
  · have hw := hw.2 c
    refine g_iconstv 241 _ ic_1 h.1 dX6_qGoesOn_241 ?_
    refine g_goto 242 246 h.1 dX6_qGoesOn_242 (by decide) ?_
    exact g_le (mt_qGoesOn_246 h hR hw) ⟨rfl, trivial⟩
def mw_qGoesOn_326 (σ : FS) (Q : Int32 → FS → Prop) : Prop :=
  mw_asksSign (44 : Int32) σ (fun σ28 => (((fI σ28 0 5) = 0 → mw_qDropsToBracket σ28 (fun σ29 => (vp_in ((fI σ29 0 105) - (1 : Int32)) 1700 ∧ (vp_in ((fI σ29 0 105) - (1 : Int32)) 1700 ∧ ∀ σ30, σ30 = sA σ29 104 (Int32.toNatClampNeg ((fI σ29 0 105) - (1 : Int32))) ((fA σ29 104 (Int32.toNatClampNeg ((fI σ29 0 105) - (1 : Int32)))) + (2 : Int32)) → Q (1 : Int32) σ30)))) ∧ (¬ (fI σ28 0 5) = 0 → Q (0 : Int32) σ28)))
theorem mt_qGoesOn_326 {κ : Cx} {S : Adr} {Z : State → Prop} {Q : Int32 → FS → Prop} (h : MCx κ cX6_qGoesOn S 4) (hR : RetZ κ S Z cX6_qGoesOn Q) {σ : FS} (hw : mw_qGoesOn_326 σ Q) : MG κ S Z 326 σ [some (.ref (S.2.1 0)), none] [] := by
  unfold mw_qGoesOn_326 at hw
  refine g_aload_0 326 h.1 dX6_qGoesOn_326 ?_
  refine g_bipush 327 _ bp_44 h.1 dX6_qGoesOn_327 ?_
  refine m_callV_1 329 h (mm_asksSign h.2.2.1 hw) (by decide) q2150 (Nat.le_of_ble_eq_true rfl) dX6_qGoesOn_329 (fun σ28 hw => ?_)
  refine g_aload_0 332 h.1 dX6_qGoesOn_332 ?_
  refine mg_5 333 h dX6_qGoesOn_333 ?_
  refine g_if_eq 336 341 h.1 dX6_qGoesOn_336 (by decide) (fun c => ?_) (fun c => ?_)
  · have hw := hw.1 c
    refine g_aload_0 341 h.1 dX6_qGoesOn_341 ?_
    refine m_callV_0 342 h (mm_qDropsToBracket h.2.2.1 hw) (by decide) q2271 (Nat.le_of_ble_eq_true rfl) dX6_qGoesOn_342 (fun σ29 hw => ?_)
    refine g_aload_0 345 h.1 dX6_qGoesOn_345 ?_
    refine mg_104 346 h dX6_qGoesOn_346 ?_
    refine g_aload_0 349 h.1 dX6_qGoesOn_349 ?_
    refine mg_105 350 h dX6_qGoesOn_350 ?_
    refine g_iconstv 353 _ ic_1 h.1 dX6_qGoesOn_353 ?_
    refine g_isub 354 h.1 dX6_qGoesOn_354 ?_
    refine g_dup2 355 rfl rfl h.1 dX6_qGoesOn_355 ?_
    refine m_iald 356 rfl hw.1 h dX6_qGoesOn_356 ?_
    have hw := hw.2
    refine g_iconstv 357 _ ic_2 h.1 dX6_qGoesOn_357 ?_
    refine g_iadd 358 h.1 dX6_qGoesOn_358 ?_
    refine m_iast 359 rfl hw.1 h dX6_qGoesOn_359 ?_
    have hw := hw.2 _ rfl
    refine g_iconstv 360 _ ic_1 h.1 dX6_qGoesOn_360 ?_
    exact hR 361 _ _ _ dX6_qGoesOn_361 rfl hw
  · have hw := hw.2 c
    refine g_iconstv 339 _ ic_0 h.1 dX6_qGoesOn_339 ?_
    exact hR 340 _ _ _ dX6_qGoesOn_340 rfl hw
def mw_qGoesOn_122 (σ : FS) (Q : Int32 → FS → Prop) : Prop :=
  mw_takesSign (42 : Int32) σ (fun r10 σ9 => ((¬ r10 = 0 → mw_qGoesOn_140 σ9 Q) ∧ (r10 = 0 → mw_takesSign (47 : Int32) σ9 (fun r12 σ11 => ((r12 = 0 → mw_takesSign (43 : Int32) σ11 (fun r14 σ13 => ((¬ r14 = 0 → mw_qGoesOn_225 σ13 Q) ∧ (r14 = 0 → mw_takesSign (45 : Int32) σ13 (fun r16 σ15 => ((r16 = 0 → mw_qBracket σ15 (fun r18 σ17 => ((r18 = (21 : Int32) → mw_qGoesOn_326 σ17 Q) ∧ (¬ r18 = (21 : Int32) → mw_qBracket σ17 (fun r20 σ19 => ((¬ r20 = (22 : Int32) → mw_qBracket σ19 (fun r22 σ21 => ((r22 = (-1 : Int32) → Q (0 : Int32) σ21) ∧ (¬ r22 = (-1 : Int32) → ((¬ (fI σ21 0 5) = 0 → Q (0 : Int32) σ21) ∧ ((fI σ21 0 5) = 0 → mw_fail (1 : Int32) (fI σ21 0 2) σ21 (fun σ23 => Q (0 : Int32) σ23))))))) ∧ (r20 = (22 : Int32) → mw_qGoesOn_326 σ19 Q))))))) ∧ (¬ r16 = 0 → mw_qGoesOn_225 σ15 Q))))))) ∧ (¬ r12 = 0 → mw_qGoesOn_140 σ11 Q))))))
theorem mt_qGoesOn_122 {κ : Cx} {S : Adr} {Z : State → Prop} {Q : Int32 → FS → Prop} (h : MCx κ cX6_qGoesOn S 4) (hR : RetZ κ S Z cX6_qGoesOn Q) {σ : FS} (hw : mw_qGoesOn_122 σ Q) : MG κ S Z 122 σ [some (.ref (S.2.1 0)), none] [] := by
  unfold mw_qGoesOn_122 at hw
  refine g_aload_0 122 h.1 dX6_qGoesOn_122 ?_
  refine g_bipush 123 _ bp_42 h.1 dX6_qGoesOn_123 ?_
  refine m_callI_1 125 h (mm_takesSign h.2.2.1 hw) (by decide) q2154 (Nat.le_of_ble_eq_true rfl) dX6_qGoesOn_125 (fun r10 σ9 hw => ?_)
  refine g_if_ne 128 140 h.1 dX6_qGoesOn_128 (by decide) (fun c => ?_) (fun c => ?_)
  · have hw := hw.1 c
    exact g_le (mt_qGoesOn_140 h hR hw) ⟨rfl, trivial⟩
  · have hw := hw.2 c
    refine g_aload_0 131 h.1 dX6_qGoesOn_131 ?_
    refine g_bipush 132 _ bp_47 h.1 dX6_qGoesOn_132 ?_
    refine m_callI_1 134 h (mm_takesSign h.2.2.1 hw) (by decide) q2154 (Nat.le_of_ble_eq_true rfl) dX6_qGoesOn_134 (fun r12 σ11 hw => ?_)
    refine g_if_eq 137 207 h.1 dX6_qGoesOn_137 (by decide) (fun c => ?_) (fun c => ?_)
    · have hw := hw.1 c
      refine g_aload_0 207 h.1 dX6_qGoesOn_207 ?_
      refine g_bipush 208 _ bp_43 h.1 dX6_qGoesOn_208 ?_
      refine m_callI_1 210 h (mm_takesSign h.2.2.1 hw) (by decide) q2154 (Nat.le_of_ble_eq_true rfl) dX6_qGoesOn_210 (fun r14 σ13 hw => ?_)
      refine g_if_ne 213 225 h.1 dX6_qGoesOn_213 (by decide) (fun c => ?_) (fun c => ?_)
      · have hw := hw.1 c
        exact g_le (mt_qGoesOn_225 h hR hw) ⟨rfl, trivial⟩
      · have hw := hw.2 c
        refine g_aload_0 216 h.1 dX6_qGoesOn_216 ?_
        refine g_bipush 217 _ bp_45 h.1 dX6_qGoesOn_217 ?_
        refine m_callI_1 219 h (mm_takesSign h.2.2.1 hw) (by decide) q2154 (Nat.le_of_ble_eq_true rfl) dX6_qGoesOn_219 (fun r16 σ15 hw => ?_)
        refine g_if_eq 222 308 h.1 dX6_qGoesOn_222 (by decide) (fun c => ?_) (fun c => ?_)
        · have hw := hw.1 c
          refine g_aload_0 308 h.1 dX6_qGoesOn_308 ?_
          refine m_callI_0 309 h (mm_qBracket h.2.2.1 hw) (by decide) q2264 (Nat.le_of_ble_eq_true rfl) dX6_qGoesOn_309 (fun r18 σ17 hw => ?_)
          refine g_bipush 312 _ bp_21 h.1 dX6_qGoesOn_312 ?_
          refine g_icmp_eq 314 326 h.1 dX6_qGoesOn_314 (by decide) (fun c => ?_) (fun c => ?_)
          · have hw := hw.1 c
            exact g_le (mt_qGoesOn_326 h hR hw) ⟨rfl, trivial⟩
          · have hw := hw.2 c
            refine g_aload_0 317 h.1 dX6_qGoesOn_317 ?_
            refine m_callI_0 318 h (mm_qBracket h.2.2.1 hw) (by decide) q2264 (Nat.le_of_ble_eq_true rfl) dX6_qGoesOn_318 (fun r20 σ19 hw => ?_)
            refine g_bipush 321 _ bp_22 h.1 dX6_qGoesOn_321 ?_
            refine g_icmp_ne 323 362 h.1 dX6_qGoesOn_323 (by decide) (fun c => ?_) (fun c => ?_)
            · have hw := hw.1 c
              refine g_aload_0 362 h.1 dX6_qGoesOn_362 ?_
              refine m_callI_0 363 h (mm_qBracket h.2.2.1 hw) (by decide) q2264 (Nat.le_of_ble_eq_true rfl) dX6_qGoesOn_363 (fun r22 σ21 hw => ?_)
              refine g_iconstv 366 _ ic_m1 h.1 dX6_qGoesOn_366 ?_
              refine g_icmp_eq 367 386 h.1 dX6_qGoesOn_367 (by decide) (fun c => ?_) (fun c => ?_)
              · have hw := hw.1 c
                refine g_iconstv 386 _ ic_0 h.1 dX6_qGoesOn_386 ?_
                exact hR 387 _ _ _ dX6_qGoesOn_387 rfl hw
              · have hw := hw.2 c
                refine g_aload_0 370 h.1 dX6_qGoesOn_370 ?_
                refine mg_5 371 h dX6_qGoesOn_371 ?_
                refine g_if_ne 374 386 h.1 dX6_qGoesOn_374 (by decide) (fun c => ?_) (fun c => ?_)
                · have hw := hw.1 c
                  refine g_iconstv 386 _ ic_0 h.1 dX6_qGoesOn_386 ?_
                  exact hR 387 _ _ _ dX6_qGoesOn_387 rfl hw
                · have hw := hw.2 c
                  refine g_aload_0 377 h.1 dX6_qGoesOn_377 ?_
                  refine g_iconstv 378 _ ic_1 h.1 dX6_qGoesOn_378 ?_
                  refine g_aload_0 379 h.1 dX6_qGoesOn_379 ?_
                  refine mg_2 380 h dX6_qGoesOn_380 ?_
                  refine m_callV_2 383 h (mm_fail h.2.2.1 hw) (by decide) q2136 (Nat.le_of_ble_eq_true rfl) dX6_qGoesOn_383 (fun σ23 hw => ?_)
                  refine g_iconstv 386 _ ic_0 h.1 dX6_qGoesOn_386 ?_
                  exact hR 387 _ _ _ dX6_qGoesOn_387 rfl hw
            · have hw := hw.2 c
              exact g_le (mt_qGoesOn_326 h hR hw) ⟨rfl, trivial⟩
        · have hw := hw.2 c
          exact g_le (mt_qGoesOn_225 h hR hw) ⟨rfl, trivial⟩
    · have hw := hw.2 c
      exact g_le (mt_qGoesOn_140 h hR hw) ⟨rfl, trivial⟩
def mw_qGoesOn_0 (σ : FS) (Q : Int32 → FS → Prop) : Prop :=
  ∀ X0 : FS → Prop, (∀ (σ : FS), ((¬ (fI σ 0 5) = 0 → mw_qGoesOn_122 σ Q) ∧ ((fI σ 0 5) = 0 → mw_look σ (fun r2 σ1 => ((¬ r2 = (41 : Int32) → mw_qGoesOn_122 σ1 Q) ∧ (r2 = (41 : Int32) → mw_qBracket σ1 (fun r4 σ3 => ((r4 = (20 : Int32) → mw_qGoesOn_43 X0 σ3 Q) ∧ (¬ r4 = (20 : Int32) → mw_qBracket σ3 (fun r6 σ5 => ((r6 = (23 : Int32) → mw_qGoesOn_43 X0 σ5 Q) ∧ (¬ r6 = (23 : Int32) → mw_qBracket σ5 (fun r8 σ7 => ((¬ r8 = (24 : Int32) → mw_qGoesOn_122 σ7 Q) ∧ (r8 = (24 : Int32) → mw_qGoesOn_43 X0 σ7 Q)))))))))))))) → X0 σ) → X0 σ
theorem mt_qGoesOn_0 {κ : Cx} {S : Adr} {Z : State → Prop} {Q : Int32 → FS → Prop} (h : MCx κ cX6_qGoesOn S 4) (hR : RetZ κ S Z cX6_qGoesOn Q) {σ : FS} (hw : mw_qGoesOn_0 σ Q) : MG κ S Z 0 σ [some (.ref (S.2.1 0)), none] [] := by
  refine hw (fun σ => MG κ S Z 0 σ [some (.ref (S.2.1 0)), none] []) ?_
  clear hw
  intro σ hw
  have hX0 : ∀ (σ : FS), MG κ S Z 0 σ [some (.ref (S.2.1 0)), none] [] → MG κ S Z 0 σ [some (.ref (S.2.1 0)), none] [] := fun _ hh => hh
  refine g_aload_0 0 h.1 dX6_qGoesOn_0 ?_
  refine mg_5 1 h dX6_qGoesOn_1 ?_
  refine g_if_ne 4 122 h.1 dX6_qGoesOn_4 (by decide) (fun c => ?_) (fun c => ?_)
  · have hw := hw.1 c
    exact g_le (mt_qGoesOn_122 h hR hw) ⟨rfl, trivial⟩
  · have hw := hw.2 c
    refine g_aload_0 7 h.1 dX6_qGoesOn_7 ?_
    refine m_callI_0 8 h (mm_look h.2.2.1 hw) (by decide) q2129 (Nat.le_of_ble_eq_true rfl) dX6_qGoesOn_8 (fun r2 σ1 hw => ?_)
    refine g_bipush 11 _ bp_41 h.1 dX6_qGoesOn_11 ?_
    refine g_icmp_ne 13 122 h.1 dX6_qGoesOn_13 (by decide) (fun c => ?_) (fun c => ?_)
    · have hw := hw.1 c
      exact g_le (mt_qGoesOn_122 h hR hw) ⟨rfl, trivial⟩
    · have hw := hw.2 c
      refine g_aload_0 16 h.1 dX6_qGoesOn_16 ?_
      refine m_callI_0 17 h (mm_qBracket h.2.2.1 hw) (by decide) q2264 (Nat.le_of_ble_eq_true rfl) dX6_qGoesOn_17 (fun r4 σ3 hw => ?_)
      refine g_bipush 20 _ bp_20 h.1 dX6_qGoesOn_20 ?_
      refine g_icmp_eq 22 43 h.1 dX6_qGoesOn_22 (by decide) (fun c => ?_) (fun c => ?_)
      · have hw := hw.1 c
        exact g_le (mt_qGoesOn_43 h hR hX0 hw) ⟨rfl, trivial⟩
      · have hw := hw.2 c
        refine g_aload_0 25 h.1 dX6_qGoesOn_25 ?_
        refine m_callI_0 26 h (mm_qBracket h.2.2.1 hw) (by decide) q2264 (Nat.le_of_ble_eq_true rfl) dX6_qGoesOn_26 (fun r6 σ5 hw => ?_)
        refine g_bipush 29 _ bp_23 h.1 dX6_qGoesOn_29 ?_
        refine g_icmp_eq 31 43 h.1 dX6_qGoesOn_31 (by decide) (fun c => ?_) (fun c => ?_)
        · have hw := hw.1 c
          exact g_le (mt_qGoesOn_43 h hR hX0 hw) ⟨rfl, trivial⟩
        · have hw := hw.2 c
          refine g_aload_0 34 h.1 dX6_qGoesOn_34 ?_
          refine m_callI_0 35 h (mm_qBracket h.2.2.1 hw) (by decide) q2264 (Nat.le_of_ble_eq_true rfl) dX6_qGoesOn_35 (fun r8 σ7 hw => ?_)
          refine g_bipush 38 _ bp_24 h.1 dX6_qGoesOn_38 ?_
          refine g_icmp_ne 40 122 h.1 dX6_qGoesOn_40 (by decide) (fun c => ?_) (fun c => ?_)
          · have hw := hw.1 c
            exact g_le (mt_qGoesOn_122 h hR hw) ⟨rfl, trivial⟩
          · have hw := hw.2 c
            exact g_le (mt_qGoesOn_43 h hR hX0 hw) ⟨rfl, trivial⟩
def mw_qGoesOn (σ : FS) (Q : Int32 → FS → Prop) : Prop :=
  mw_qGoesOn_0 σ Q
theorem mt_qGoesOn {κ : Cx} {S : Adr} {Z : State → Prop} {Q : Int32 → FS → Prop} (h : MCx κ cX6_qGoesOn S 4) (hR : RetZ κ S Z cX6_qGoesOn Q) {σ : FS} (hw : mw_qGoesOn σ Q) : MG κ S Z 0 σ [some (.ref (S.2.1 0)), none] [] := by
  unfold mw_qGoesOn at hw
  exact g_le (mt_qGoesOn_0 h hR hw) ⟨rfl, trivial⟩
theorem mm_qGoesOn {l : Launch} {S : Adr} (hD : MD S) {σ : FS} {Q : Int32 → FS → Prop} (hw : mw_qGoesOn σ Q) : mMet l S 4 yX6_qGoesOn [] σ (mQi S Q) :=
  m_metZ hD ⟨rfl, by decide, by show _ = some 0; decide +kernel, q2263⟩ q2262 qs101 (Nat.le_of_ble_eq_true rfl) (fun κ Z h hR => mt_qGoesOn h hR hw)
