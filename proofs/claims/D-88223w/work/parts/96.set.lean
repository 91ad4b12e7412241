/-! ===== the world alone changes; keep, back, each ===== -/
set_option maxRecDepth 100000
def upT (TT : Nat → zT) (k : Nat) (T : zT) : Nat → zT := fun j => if j = k then T else TT j
theorem upT_q {TT : Nat → zT} {k : Nat} {T : zT} : upT TT k T k = T := if_pos rfl
theorem upT_k {TT : Nat → zT} {k j : Nat} {T : zT} (h : j ≠ k) : upT TT k T j = TT j := if_neg h
theorem i_prd {n : Nat} {t : Int32} (hn : n < 2147483648) : (Int32.ofNat n - 1 < t) = (Int32.ofNat n ≤ t) := by
  have h1 : (Int32.ofNat n - 1).toInt = (n : Int) - 1 := by
    have h0 : (1 : Int32).toInt = 1 := rfl
    rw [Int32.toInt_sub, i_int hn, h0, Int.bmod_eq_of_le (by omega) (by omega)]
  rw [Int32.lt_iff_toInt_lt, Int32.le_iff_toInt_le, h1, i_int hn]
  exact propext (by omega)
theorem tin_t {n : Nat} {t : Int32} (hn : n < 2147483648) (h : ¬ tin t 0 (Int32.ofNat n - 1) = 0) : t = Int32.ofNat (nn t) ∧ nn t < n := by
  unfold tin at h
  by_cases h1 : t < 0
  · rw [if_pos h1] at h
    exact absurd rfl h
  · rw [if_neg h1] at h
    by_cases h2 : Int32.ofNat n - 1 < t
    · rw [if_pos h2] at h
      exact absurd rfl h
    · rw [i_nle, Decidable.not_not] at h1
      have e := i_toN h1
      rw [i_prd hn, Int32.le_iff_toInt_le, i_int hn, ← i_nnI h1] at h2
      exact ⟨e, by omega⟩
section
variable {E : zE} {d B w k : Nat} {S : zM} {I J : Nat → Nat → Int32} {V : zT} {TT : Nat → zT} {T : zT} {G : zGl} {why wh : Int32}
theorem XG.nw {V' : zT} {TT' : Nat → zT} (h : XG S I B G) (hi : IG G) (hw : xW J (B + 5) V' TT') (h13 : J B 13 = why) (h15 : J B 15 = wh) (hf : ∀ a k, B ≤ a → ¬ (a = B ∧ (k = 13 ∨ k = 15)) → a ≠ B + 317 → a ≠ B + 3 → (a < B + 5 ∨ B + 148 ≤ a) → (a < B + 318 ∨ B + 466 ≤ a) → J a k = I a k) : XG S J B (gtr (sN G V' TT') why wh) := by
  obtain ⟨h1, ⟨⟨s1, s2, s3, s4⟩, s5, s6, s7, s8⟩, h3, h4, h5, h6⟩ := h
  have e : ∀ k, ¬ (k = 13 ∨ k = 15) → J B k = I B k := fun k hk => hf B k (by omega) (by omega) (by omega) (by omega) (by omega) (by omega)
  exact ⟨h1, ⟨⟨(e 1 (by omega)).trans s1, h13, h15, (e 14 (by omega)).trans s4⟩, (e 6 (by omega)).trans s5, (e 10 (by omega)).trans s6, (e 11 (by omega)).trans s7, fun j hj => (hf _ _ (by omega) (by omega) (by omega) (by omega) (by omega) (by omega)).trans (s8 j hj)⟩, hw, h4.fr hi.2.1.1.2.1 hi.2.1.ok (fun a k h1 h2 => hf a k (by omega) (by omega) (by omega) (by omega) (by omega) (by omega)), h5.fr (fun a k h => hf a k (by omega) (by omega) (by omega) (by omega) (by omega) (by omega)), h6.fr (fun a k h => hf a k (by omega) (by omega) (by omega) (by omega) (by omega) (by omega))⟩
theorem MG.nw {V' : zT} {TT' : Nat → zT} (h : MG S I w G) (hi : IG G) (hw : mW J w V' TT') (h1' : J w 1 = why) (h2' : J w 2 = wh) (hf : ∀ a k, w ≤ a → a < w + 148 → ¬ (a = w ∧ (k ≤ 2 ∨ 4 ≤ k ∧ k < 8)) → ¬ (w + 1 ≤ a ∧ a ≤ w + 3) → ¬ (w + 28 ≤ a ∧ (a - (w + 28)) % 20 < 10) → J a k = I a k) : MG S J w (gtr (sN G V' TT') why wh) := by
  obtain ⟨h1, ⟨⟨s1, s2, s3, s4⟩, s6, s7, s8⟩, h3, ⟨h4, h4'⟩, h5, h6⟩ := h
  have e : ∀ k, ¬ (k ≤ 2 ∨ 4 ≤ k ∧ k < 8) → J w k = I w k := fun k hk => hf w k (by omega) (by omega) (by omega) (by omega) (by omega)
  exact ⟨h1, ⟨⟨(e 23 (by omega)).trans s1, h1', h2', (e 3 (by omega)).trans s4⟩, (e 31 (by omega)).trans s6, (e 38 (by omega)).trans s7, fun j hj => (hf _ _ (by omega) (by omega) (by omega) (by omega) (by omega)).trans (s8 j hj)⟩, hw, ⟨fun q => (h4 q).fr' hi.2.1.1.2.1 (fun a j h1 h2 h3 => hf _ _ (by omega) (by omega) (by omega) (by omega) (by omega)), fun q => (e 12 (by omega)).trans (h4' q)⟩, fun p hp => (h5 p hp).fr (fun a k h1 h2 => hf a k (by omega) (by omega) (by omega) (by omega) (by omega)), fun i hi j hj => (hf _ _ (by omega) (by omega) (by omega) (by omega) (by omega)).trans (h6 i hi j hj)⟩
theorem gtr_id : gtr G (gU G 0 1) (gU G 0 2) = G := by
  have : zup (zup (gU G) 0 1 (gU G 0 1)) 0 2 (gU G 0 2) = gU G := by
    funext i j
    by_cases e : i = 0 ∧ j = 2
    · obtain ⟨rfl, rfl⟩ := e
      rw [zup_q]
    · rw [zup_k e]
      by_cases e2 : i = 0 ∧ j = 1
      · obtain ⟨rfl, rfl⟩ := e2
        rw [zup_q]
      · rw [zup_k e2]
  show sU G (zup (zup (gU G) 0 1 (gU G 0 1)) 0 2 (gU G 0 2)) = G
  rw [this]
  rfl
/-- nothing but what was thrown -/
theorem MG.q (h : MG S I w G) (hi : IG G) (hf : ∀ a k, w ≤ a → ¬ (a = w ∧ k = 0) → a < w + 148 → J a k = I a k) : MG S J w G := by
  have := h.tr (J := J) (why := gU G 0 1) (wh := gU G 0 2) hi ((hf _ _ (by omega) (by omega) (by omega)).trans h.2.1.1.2.1) ((hf _ _ (by omega) (by omega) (by omega)).trans h.2.1.1.2.2.1) (fun a k h1 h2 h3 => hf a k h1 (by omega) h3)
  rw [gtr_id] at this
  exact this
theorem xW.up (h : xW I w V TT) (hnt : sm (V 0 1) 6) (ok : ∀ k, k < nn (V 0 1) → tOK (TT k)) (hT : xTP J (w + 5 + 23 * k) T) (hf : ∀ a i, w ≤ a → a < w + 143 → ¬ (w + 5 + 23 * k ≤ a ∧ a < w + 5 + 23 * k + 23) → J a i = I a i) : xW J w V (upT TT k T) := by
  have := hnt.2
  refine ⟨h.1.fr (fun a i h1 h2 => hf a i (by omega) (by omega) (by omega)), fun j hj => ?_⟩
  by_cases e : j = k
  · subst e
    rw [upT_q]
    exact hT
  · rw [upT_k e]
    exact (h.2 j hj).fr (ok j hj).1 (fun a i h3 h4 => hf a i (by omega) (by omega) (by omega))
theorem mW.up (h : mW I w V TT) (hnt : sm (V 0 1) 6) (hT : mTP J (w + 28 + 20 * k) T) (hf : ∀ a i, (a = w → 4 ≤ i ∧ i < 8) → w ≤ a → (a ≤ w + 3 ∨ w + 28 ≤ a ∧ a < w + 148 ∧ (a - (w + 28)) % 20 < 10) → ¬ (w + 28 + 20 * k ≤ a ∧ a < w + 28 + 20 * k + 10) → J a i = I a i) : mW J w V (upT TT k T) := by
  have := hnt.2
  obtain ⟨⟨v0, r1, r2, r3⟩, ht⟩ := h
  refine ⟨⟨fun j hj => (hf _ _ (by omega) (by omega) (by omega) (by omega)).trans (v0 j hj), fun j hj => (hf _ _ (by omega) (by omega) (by omega) (by omega)).trans (r1 j hj), fun j hj => (hf _ _ (by omega) (by omega) (by omega) (by omega)).trans (r2 j hj), fun j hj => (hf _ _ (by omega) (by omega) (by omega) (by omega)).trans (r3 j hj)⟩, fun j hj => ?_⟩
  by_cases e : j = k
  · subst e
    rw [upT_q]
    exact hT
  · rw [upT_k e]
    exact (ht j hj).fr (fun a i h3 h4 => hf a i (by omega) (by omega) (by omega) (by omega))
theorem wP.put (h : wP I w V) {i j : Nat} (hv : (i = 0 ∧ j < 4) ∨ (1 ≤ i ∧ i ≤ 3)) (v : Int32) : wP (zup I (if i = 0 then w else w + i) (if i = 0 then 4 + j else j) v) w (zup V i j v) := by
  obtain ⟨v0, r1, r2, r3⟩ := h
  have key : ∀ i' j', ((i' = 0 ∧ j' < 4) ∨ (1 ≤ i' ∧ i' ≤ 3)) → I (if i' = 0 then w else w + i') (if i' = 0 then 4 + j' else j') = V i' j' → zup I (if i = 0 then w else w + i) (if i = 0 then 4 + j else j) v (if i' = 0 then w else w + i') (if i' = 0 then 4 + j' else j') = zup V i j v i' j' := by
    intro i' j' hv' e
    by_cases q : i' = i ∧ j' = j
    · obtain ⟨rfl, rfl⟩ := q
      rw [zup_q, zup_q]
    · rw [zup_k q, ← e]
      refine zup_k (fun z => q ?_)
      obtain ⟨z1, z2⟩ := z
      by_cases a1 : i' = 0
      · by_cases a2 : i = 0
        · rw [if_pos a1, if_pos a2] at z2
          exact ⟨by omega, by omega⟩
        · rw [if_pos a1, if_neg a2] at z1
          omega
      · by_cases a2 : i = 0
        · rw [if_neg a1, if_pos a2] at z1
          omega
        · rw [if_neg a1, if_neg a2] at z1 z2
          exact ⟨by omega, z2⟩
  exact ⟨fun j' hj => key 0 j' (Or.inl ⟨rfl, hj⟩) (v0 j' hj), fun j' hj => key 1 j' (Or.inr ⟨by omega, by omega⟩) (r1 j' hj), fun j' hj => key 2 j' (Or.inr ⟨by omega, by omega⟩) (r2 j' hj), fun j' hj => key 3 j' (Or.inr ⟨by omega, by omega⟩) (r3 j' hj)⟩
theorem sp_X0_isTeam {t : Int32} {n : Nat} (b0 : mK S B = 1) (b3 : mJ S B 3 = some (B + 5)) (w0 : mK S (B + 5) = 4) (e5 : I (B + 5) 5 = Int32.ofNat n) : zCl E (d + 1) 47 [zr (some B), zi t] (zwi S I) (Sum.inl (some (zi (tin t 0 (Int32.ofNat n - 1)))), zwi S I) := by
  have := z01 (tin_b (a := t) (lo := 0) (hi := Int32.ofNat n - 1))
  refine zcl_in' zP_X0_isTeam ?_; rw [zn_2_2]
  (first | refine zat_in zP_X0_isTeam zk_X0_isTeam_0 ?_) <;> simp (disch := omega) only [b_X0_isTeam_0, zif, zdr, zkb, mK_wi, mN_wi, mJ_wi, mI_wi, sI_wi, beq_self_eq_true, Bool.true_or, Bool.or_true, Bool.or_false, Bool.and_self, Bool.and_true, Bool.true_and, ↓reduceIte, ble_up0, i_cl, i_succ, zix_of, zfl_k, zup_k, zup_q, b0, b3, w0, e5, this]; repeat (first | exact ev_r | (refine ev_bk ?_; ((first | refine zat_in zP_X0_isTeam zk_X0_isTeam_0 ?_) <;> simp (disch := omega) only [b_X0_isTeam_0, zif, zdr, zkb, mK_wi, mN_wi, mJ_wi, mI_wi, sI_wi, beq_self_eq_true, Bool.true_or, Bool.or_true, Bool.or_false, Bool.and_self, Bool.and_true, Bool.true_and, ↓reduceIte, ble_up0, i_cl, i_succ, zix_of, zfl_k, zup_k, zup_q, b0, b3, w0, e5, this])) | (refine ev_cv (sp_X0_in _ _ _) ?_; try simp (disch := omega) only [b_X0_isTeam_0, zif, zdr, zkb, mK_wi, mN_wi, mJ_wi, mI_wi, sI_wi, beq_self_eq_true, Bool.true_or, Bool.or_true, Bool.or_false, Bool.and_self, Bool.and_true, Bool.true_and, ↓reduceIte, ble_up0, i_cl, i_succ, zix_of, zfl_k, zup_k, zup_q, b0, b3, w0, e5, this]) | (refine ev_ci (sp_X0_in _ _ _) ?_; try simp (disch := omega) only [b_X0_isTeam_0, zif, zdr, zkb, mK_wi, mN_wi, mJ_wi, mI_wi, sI_wi, beq_self_eq_true, Bool.true_or, Bool.or_true, Bool.or_false, Bool.and_self, Bool.and_true, Bool.true_and, ↓reduceIte, ble_up0, i_cl, i_succ, zix_of, zfl_k, zup_k, zup_q, b0, b3, w0, e5, this]) | (refine ev_cr (sp_X0_in _ _ _) ?_; try simp (disch := omega) only [b_X0_isTeam_0, zif, zdr, zkb, mK_wi, mN_wi, mJ_wi, mI_wi, sI_wi, beq_self_eq_true, Bool.true_or, Bool.or_true, Bool.or_false, Bool.and_self, Bool.and_true, Bool.true_and, ↓reduceIte, ble_up0, i_cl, i_succ, zix_of, zfl_k, zup_k, zup_q, b0, b3, w0, e5, this]) | (refine ev_cg (sp_X0_in _ _ _) ?_; try simp (disch := omega) only [b_X0_isTeam_0, zif, zdr, zkb, mK_wi, mN_wi, mJ_wi, mI_wi, sI_wi, beq_self_eq_true, Bool.true_or, Bool.or_true, Bool.or_false, Bool.and_self, Bool.and_true, Bool.true_and, ↓reduceIte, ble_up0, i_cl, i_succ, zix_of, zfl_k, zup_k, zup_q, b0, b3, w0, e5, this]))
theorem sp_X6_isTeam {t : Int32} {n : Nat} (hn : n < 2147483648) (w0 : mK S w = 7) (e5 : I w 5 = Int32.ofNat n) : zCl E d 151 [zr (some w), zi t] (zwi S I) (Sum.inl (some (zi (tin t 0 (Int32.ofNat n - 1)))), zwi S I) := by
  unfold tin
  simp only [i_prd hn]
  refine zcl_in' zP_X6_isTeam ?_; rw [zn_2_2]
  refine zat_in zP_X6_isTeam zk_X6_isTeam_0 ?_
  simp (disch := omega) only [b_X6_isTeam_0, zif, zdr, zkb, mK_wi, mN_wi, mJ_wi, mI_wi, sI_wi, beq_self_eq_true, Bool.true_or, Bool.or_true, Bool.or_false, Bool.and_self, Bool.and_true, Bool.true_and, ↓reduceIte, ble_up0, i_cl, i_succ, zix_of, zfl_k, zup_k, zup_q, w0, e5]
  refine ev_th _ (fun h => ?_) (fun h => ?_)
  · rw [if_pos h]
    refine ev_bk ?_
    refine zat_in zP_X6_isTeam zk_X6_isTeam_16 ?_; simp (disch := omega) only [b_X6_isTeam_16, zc_X6_isTeam_17, b_X6_isTeam_17, zif, zdr, zkb, mK_wi, mN_wi, mJ_wi, mI_wi, sI_wi, beq_self_eq_true, Bool.true_or, Bool.or_true, Bool.or_false, Bool.and_self, Bool.and_true, Bool.true_and, ↓reduceIte, z01]
    exact ev_r
  · rw [if_neg h]
    refine ev_th _ (fun h => ?_) (fun h => ?_)
    · rw [if_pos h]
      refine ev_bk ?_
      refine zat_in zP_X6_isTeam zk_X6_isTeam_16 ?_; simp (disch := omega) only [b_X6_isTeam_16, zc_X6_isTeam_17, b_X6_isTeam_17, zif, zdr, zkb, mK_wi, mN_wi, mJ_wi, mI_wi, sI_wi, beq_self_eq_true, Bool.true_or, Bool.or_true, Bool.or_false, Bool.and_self, Bool.and_true, Bool.true_and, ↓reduceIte, z01]
      exact ev_r
    · rw [if_neg h]
      refine ev_bk ?_
      refine zat_in zP_X6_isTeam zk_X6_isTeam_17 ?_; simp (disch := omega) only [b_X6_isTeam_17, zif, zdr, zkb, mK_wi, mN_wi, mJ_wi, mI_wi, sI_wi, beq_self_eq_true, Bool.true_or, Bool.or_true, Bool.or_false, Bool.and_self, Bool.and_true, Bool.true_and, ↓reduceIte, z01]
      exact ev_r
theorem sp_X6_isPlan {t : Int32} {n : Nat} (hn : n < 2147483648) (w0 : mK S w = 7) (e5 : I w 31 = Int32.ofNat n) : zCl E d 149 [zr (some w), zi t] (zwi S I) (Sum.inl (some (zi (tin t 0 (Int32.ofNat n - 1)))), zwi S I) := by
  unfold tin
  simp only [i_prd hn]
  refine zcl_in' zP_X6_isPlan ?_; rw [zn_2_2]
  refine zat_in zP_X6_isPlan zk_X6_isPlan_0 ?_
  simp (disch := omega) only [b_X6_isPlan_0, zif, zdr, zkb, mK_wi, mN_wi, mJ_wi, mI_wi, sI_wi, beq_self_eq_true, Bool.true_or, Bool.or_true, Bool.or_false, Bool.and_self, Bool.and_true, Bool.true_and, ↓reduceIte, ble_up0, i_cl, i_succ, zix_of, zfl_k, zup_k, zup_q, w0, e5]
  refine ev_th _ (fun h => ?_) (fun h => ?_)
  · rw [if_pos h]
    refine ev_bk ?_
    refine zat_in zP_X6_isPlan zk_X6_isPlan_16 ?_; simp (disch := omega) only [b_X6_isPlan_16, zc_X6_isPlan_17, b_X6_isPlan_17, zif, zdr, zkb, mK_wi, mN_wi, mJ_wi, mI_wi, sI_wi, beq_self_eq_true, Bool.true_or, Bool.or_true, Bool.or_false, Bool.and_self, Bool.and_true, Bool.true_and, ↓reduceIte, z01]
    exact ev_r
  · rw [if_neg h]
    refine ev_th _ (fun h => ?_) (fun h => ?_)
    · rw [if_pos h]
      refine ev_bk ?_
      refine zat_in zP_X6_isPlan zk_X6_isPlan_16 ?_; simp (disch := omega) only [b_X6_isPlan_16, zc_X6_isPlan_17, b_X6_isPlan_17, zif, zdr, zkb, mK_wi, mN_wi, mJ_wi, mI_wi, sI_wi, beq_self_eq_true, Bool.true_or, Bool.or_true, Bool.or_false, Bool.and_self, Bool.and_true, Bool.true_and, ↓reduceIte, z01]
      exact ev_r
    · rw [if_neg h]
      refine ev_bk ?_
      refine zat_in zP_X6_isPlan zk_X6_isPlan_17 ?_; simp (disch := omega) only [b_X6_isPlan_17, zif, zdr, zkb, mK_wi, mN_wi, mJ_wi, mI_wi, sI_wi, beq_self_eq_true, Bool.true_or, Bool.or_true, Bool.or_false, Bool.and_self, Bool.and_true, Bool.true_and, ↓reduceIte, z01]
      exact ev_r
end
