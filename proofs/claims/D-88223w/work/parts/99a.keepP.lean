/-! ===== what holds all through: plan, laws ===== -/
set_option maxRecDepth 100000
section
variable {G : zGl} {n a b c : Int32} {X : zTx}
theorem sm_0 {k : Nat} : sm 0 k := sm_of (a := 0) (by omega) (by omega)
theorem iTk (hi : IG G) : IG (sU G (uTk (gU G) a b c)) := ⟨hi.1, hi.2.1, hi.2.2.1, hi.2.2.2.1, by
  show sm (uTk (gU G) a b c 0 0) 400
  rw [uTk_00]
  exact sm_0⟩
theorem iPlan (hi : IG G) : IG (oPlan G n).2 := by
  by_cases hn : tin n 0 (gU G 0 0) = 0
  · have ho : oPlan G n = (-1, gtr G 2 (-1)) := if_pos hn
    rw [ho]
    exact hi.tr
  · cases hp : pPl (gX G n) 12 pD0 0 0 with
    | inl s =>
      rw [oPlan_e hn hp]
      exact iTk hi
    | inr s =>
      by_cases c8 : gp G = 8
      · rw [oPlan_8 hn hp c8]
        exact iTk hi
      · rw [oPlan_1 hn hp c8]
        have h8 := hi.2.2.1
        refine ⟨⟨hi.1.1, hi.1.2.1, fun j hj => ?_⟩, ⟨hi.2.1.1, hi.2.1.2.1, fun j hj => ?_⟩, ?_, hi.2.2.2.1, (iTk (a := 0) (b := -1) (c := 0) hi).2.2.2.2⟩
        · obtain ⟨h1, h2, h3⟩ := hi.1.2.2 j hj
          exact ⟨h1, h2, Nat.lt_succ_of_lt h3⟩
        · obtain ⟨h1, h2, h3⟩ := hi.2.1.2.2 j hj
          exact ⟨h1, h2, Nat.lt_succ_of_lt h3⟩
        · show gp G + 1 ≤ 8
          omega
theorem iLaws (hi : IG G) : IG (oLaws G n).2 := by
  by_cases hn : tin n 0 (gU G 0 0) = 0
  · have ho : oLaws G n = (-1, gtr G 2 (-1)) := if_pos hn
    rw [ho]
    exact hi.tr
  · cases hp : pLs (gX G n) (10 - gn G) (gW G) (gn G) 0 with
    | inl s =>
      rw [oLaws_e hn hp]
      exact iTk hi
    | inr s =>
      obtain ⟨W', n'⟩ := s
      rw [oLaws_1 hn hp]
      have hn10 := hi.2.2.2.1
      obtain ⟨w1, w2, w3⟩ := pLs_lo (10 - gn G) (gn G) (by omega) _ _ _ _ hp
      exact ⟨hi.1, hi.2.1, hi.2.2.1, w3, (iTk (a := 0) (b := -1) (c := 0) hi).2.2.2.2⟩
theorem IE.plan (h : IE G) : IE (oPlan G n).2 := by
  by_cases hn : tin n 0 (gU G 0 0) = 0
  · have ho : oPlan G n = (-1, gtr G 2 (-1)) := if_pos hn
    rw [ho]
    exact h.tr
  · cases hp : pPl (gX G n) 12 pD0 0 0 with
    | inl s =>
      rw [oPlan_e hn hp]
      exact ⟨h.1, h.2.1, Or.inl (show uTk (gU G) 4 (Int32.ofNat s.2) s.1 0 1 = 4 from uTk_01)⟩
    | inr s =>
      by_cases c8 : gp G = 8
      · rw [oPlan_8 hn hp c8]
        exact ⟨h.1, h.2.1, Or.inr (show uTk (gU G) 3 (-1) 0 0 2 = -1 from uTk_02)⟩
      · rw [oPlan_1 hn hp c8]
        exact ⟨h.1, h.2.1, Or.inr (show uTk (gU G) 0 (-1) 0 0 2 = -1 from uTk_02)⟩
theorem IE.laws (h : IE G) : IE (oLaws G n).2 := by
  by_cases hn : tin n 0 (gU G 0 0) = 0
  · have ho : oLaws G n = (-1, gtr G 2 (-1)) := if_pos hn
    rw [ho]
    exact h.tr
  · cases hp : pLs (gX G n) (10 - gn G) (gW G) (gn G) 0 with
    | inl s =>
      rw [oLaws_e hn hp]
      exact ⟨h.1, h.2.1, Or.inl (show uTk (gU G) 4 (Int32.ofNat s.2) s.1 0 1 = 4 from uTk_01)⟩
    | inr s =>
      rw [oLaws_1 hn hp]
      exact ⟨h.1, h.2.1, Or.inr (show uTk (gU G) 0 (-1) 0 0 2 = -1 from uTk_02)⟩
theorem IL.plan (h : IL G) : IL (oPlan G n).2 := by
  by_cases hn : tin n 0 (gU G 0 0) = 0
  · have ho : oPlan G n = (-1, gtr G 2 (-1)) := if_pos hn
    rw [ho]
    exact h
  · cases hp : pPl (gX G n) 12 pD0 0 0 with
    | inl s =>
      rw [oPlan_e hn hp]
      exact h
    | inr s =>
      by_cases c8 : gp G = 8
      · rw [oPlan_8 hn hp c8]
        exact h
      · rw [oPlan_1 hn hp c8]
        exact h
theorem pLw_sm {e e' : Nat} {t : Int32 × Int32 × Int32 × Int32} (h : pLw X e = Sum.inr (t, e')) : sm t.1 9999 ∧ sm t.2.1 9999 ∧ sm t.2.2.1 9999 ∧ sm t.2.2.2 9999 := by
  have s1 : sm 1 9999 := sm_of (a := 1) (by omega) (by omega)
  have s2 : sm 2 9999 := sm_of (a := 2) (by omega) (by omega)
  have s3 : sm 3 9999 := sm_of (a := 3) (by omega) (by omega)
  unfold pLw at h
  by_cases h5 : iw X e 5 = 0
  · rw [if_pos h5] at h
    by_cases h10 : iw X e 10 = 0
    · rw [if_pos h10] at h
      by_cases h18 : iw X e 18 = 0
      · rw [if_pos h18] at h
        cases h
      · rw [if_neg h18] at h
        by_cases n1 : tK X (tE X e) = 3
        · rw [if_pos n1] at h
          by_cases h19 : iw X (tE X (tE X e)) 19 = 0
          · rw [if_pos h19] at h
            cases h
          · rw [if_neg h19] at h
            by_cases n3 : tK X (tE X (tE X (tE X e))) = 3
            · rw [if_pos n3] at h
              obtain ⟨rfl, -⟩ := Prod.mk.inj (Sum.inr.inj h)
              exact ⟨s3, tN_sm n1, tN_sm n3, sm_0⟩
            · rw [if_neg n3] at h
              cases h
        · rw [if_neg n1] at h
          cases h
    · rw [if_neg h10] at h
      by_cases n1 : tK X (tE X e) = 3
      · rw [if_pos n1] at h
        obtain ⟨rfl, -⟩ := Prod.mk.inj (Sum.inr.inj h)
        exact ⟨s2, tN_sm n1, sm_0, sm_0⟩
      · rw [if_neg n1] at h
        cases h
  · rw [if_neg h5] at h
    by_cases n1 : tK X (tE X e) = 3
    · rw [if_pos n1] at h
      by_cases h15 : iw X (tE X (tE X e)) 15 = 0
      · rw [if_pos h15] at h
        by_cases h16 : iw X (tE X (tE X e)) 16 = 0
        · rw [if_pos h16] at h
          cases h
        · rw [if_neg h16] at h
          by_cases n3 : tK X (tE X (tE X (tE X e))) = 3
          · rw [if_pos n3] at h
            by_cases h17 : iw X (tE X (tE X (tE X (tE X e)))) 17 = 0
            · rw [if_pos h17] at h
              cases h
            · rw [if_neg h17] at h
              by_cases n5 : tK X (tE X (tE X (tE X (tE X (tE X e))))) = 3
              · rw [if_pos n5] at h
                obtain ⟨rfl, -⟩ := Prod.mk.inj (Sum.inr.inj h)
                exact ⟨s1, tN_sm n1, tN_sm n3, tN_sm n5⟩
              · rw [if_neg n5] at h
                cases h
          · rw [if_neg n3] at h
            cases h
      · rw [if_neg h15] at h
        by_cases n3 : tK X (tE X (tE X (tE X e))) = 3
        · rw [if_pos n3] at h
          obtain ⟨rfl, -⟩ := Prod.mk.inj (Sum.inr.inj h)
          exact ⟨sm_0, tN_sm n1, tN_sm n3, sm_0⟩
        · rw [if_neg n3] at h
          cases h
    · rw [if_neg n1] at h
      cases h
theorem wL_sm {W : zT} {k : Nat} {t : Int32 × Int32 × Int32 × Int32} (h : ∀ i, i < k → ∀ j, j < 4 → sm (W i j) 9999) (ht : sm t.1 9999 ∧ sm t.2.1 9999 ∧ sm t.2.2.1 9999 ∧ sm t.2.2.2 9999) : ∀ i, i < k + 1 → ∀ j, j < 4 → sm (wL W k t i j) 9999 := by
  intro i hi j hj
  by_cases q : i = k
  · subst q
    unfold wL
    obtain rfl | rfl | rfl | rfl : j = 0 ∨ j = 1 ∨ j = 2 ∨ j = 3 := by omega
    · rw [zup_k (by omega), zup_k (by omega), zup_k (by omega), zup_q]
      exact ht.1
    · rw [zup_k (by omega), zup_k (by omega), zup_q]
      exact ht.2.1
    · rw [zup_k (by omega), zup_q]
      exact ht.2.2.1
    · rw [zup_q]
      exact ht.2.2.2
  · rw [wL_k q]
    exact h i (by omega) j hj
theorem pLs_sm : ∀ c k W e W' n', (∀ i, i < k → ∀ j, j < 4 → sm (W i j) 9999) → pLs X c W k e = Sum.inr (W', n') → ∀ i, i < n' → ∀ j, j < 4 → sm (W' i j) 9999 := by
  intro c
  induction c with
  | zero =>
    intro k W e W' n' hW h
    cases h
  | succ c ih =>
    intro k W e W' n' hW h
    unfold pLs at h
    cases q : pLw X e with
    | inl f =>
      rw [q] at h
      cases h
    | inr s =>
      obtain ⟨t, e'⟩ := s
      rw [q] at h
      have h : (if tK X e' = 59 then pLs X c (wL W k t) (k + 1) (tE X e') else if tK X e' = 0 then Sum.inr (wL W k t, k + 1) else Sum.inl (1, kA X e')) = Sum.inr (W', n') := h
      have hW2 := wL_sm hW (pLw_sm q)
      by_cases c1 : tK X e' = 59
      · rw [if_pos c1] at h
        exact ih (k + 1) _ _ _ _ hW2 h
      · rw [if_neg c1] at h
        by_cases c2 : tK X e' = 0
        · rw [if_pos c2] at h
          obtain ⟨rfl, rfl⟩ := Prod.mk.inj (Sum.inr.inj h)
          exact hW2
        · rw [if_neg c2] at h
          cases h
theorem IL.laws (h : IL G) : IL (oLaws G n).2 := by
  by_cases hn : tin n 0 (gU G 0 0) = 0
  · have ho : oLaws G n = (-1, gtr G 2 (-1)) := if_pos hn
    rw [ho]
    exact h
  · cases hp : pLs (gX G n) (10 - gn G) (gW G) (gn G) 0 with
    | inl s =>
      rw [oLaws_e hn hp]
      exact h
    | inr s =>
      obtain ⟨W', n'⟩ := s
      rw [oLaws_1 hn hp]
      exact ⟨h.1, h.2.1, pLs_sm _ _ _ _ _ _ h.2.2 hp⟩
end
