/-! one statement, by its word -/
def kSt (w : List Nat) (pl : Nat) (t : Nat → Nat) (e : Nat) (D : Dr) (B : Nat) : PR Dr :=
  if w = str 13 then kHigh t e D B else if w = str 14 then kTopic pl t e D B else if w = str 15 then kPers pl t e D B
  else if w = str 18 then kKnow t e D B else if w = str 20 then kList pl t e D B
  else if w = str 21 then kCode 0 pl t e D B else if w = str 22 then kCode 1 pl t e D B
  else if w = str 23 then kCode 2 pl t e D B else if w = str 24 then kCrowd t e D B else .inr (1, pl)
theorem isW_wd {w : List Nat} {t : Nat → Nat} {e a : Nat} (hL : isLt (bt t e a) = true) (hp : prt t a = false) : (isW w t e a = true) = (wd t a (wE t e a) = w) := by
  apply propext
  rw [isW_iff]
  exact ⟨fun h => h.2.2, fun h => ⟨hL, hp, h⟩⟩
theorem pStm_k {n : Nat} {D : Dr} {t : Nat → Nat} {e a : Nat} (hn : ¬ n = 80) (hla : lk t e a = a) (hL : isLt (bt t e a) = true) (hp : prt t a = false) : pStm n D t e a = pB (kSt (wd t a (wE t e a)) a t e D (wE t e a)) (fun D' b => pFin D' t e b) := by
  unfold pStm kSt
  rw [if_neg hn]
  simp only [isW_wd hL hp]
  generalize hw : wd t a (wE t e a) = w
  split
  · exact pHigh_k
  · split
    · exact pTopic_k
    · split
      · exact pPers_k
      · split
        · exact pKnow_k
        · split
          · exact pList_k
          · split
            · exact pCode_k
            · split
              · exact pCode_k
              · split
                · exact pCode_k
                · have hpw : pWord t e a = .inl ((w, a), wE t e a) := by unfold pWord; rw [hla, if_pos ⟨hL, hp⟩, hw]
                  unfold pCrowd pExp
                  rw [hpw, pB_inlR]
                  split
                  · rw [pB_inlR]
                    unfold kCrowd
                    rw [pB_assoc]
                    rfl
                  · rfl
theorem kSt_ok {w : List Nat} {pl : Nat} {t : Nat → Nat} {e B p : Nat} {D D' : Dr} (ha : B ≤ e) (he : e ≤ 1600) (hd : drOK D) (h : kSt w pl t e D B = .inl (D', p)) : drOK D' := by
  unfold kSt at h
  split at h
  · exact kHigh_ok hd h
  · split at h
    · exact kTopic_ok hd h
    · split at h
      · exact kPers_ok hd h
      · split at h
        · exact kKnow_ok hd h
        · split at h
          · exact kList_ok hd h
          · split at h
            · exact kCode_ok (by decide) ha he hd h
            · split at h
              · exact kCode_ok (by decide) ha he hd h
              · split at h
                · exact kCode_ok (by decide) ha he hd h
                · split at h
                  · exact kCrowd_ok hd h
                  · cases h
