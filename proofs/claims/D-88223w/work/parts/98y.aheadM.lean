/-! ===== which of two teams stands ahead (model) ===== -/
set_option maxRecDepth 100000
section
variable {E : zE} {d B w i j : Nat} {S : zM} {I : Nat → Nat → Int32} {G : zGl}
theorem sp_X6_isAhead (h : MG S I w G) (hi : IG G) (hL : IL G) (hk : i < nn (gV G 0 1)) (hj : j < nn (gV G 0 1)) : zCl E (d + 5) 171 [zr (some w), zi (Int32.ofNat i), zi (Int32.ofNat j)] (zwi S I) (Sum.inl (some (zi (mah G i j))), zwi S I) := by
  have hwn := h.1.1
  obtain ⟨⟨w0, ⟨wa1, wa2, wa3⟩, ⟨wb1, wb2, wb3⟩, ⟨wc1, wc2, wc3⟩⟩, ⟨w1, w2, w3⟩, w4⟩ := id hwn
  have hnt := hi.1.1.2.1.2
  obtain ⟨gi, gi2⟩ := w4 i (by omega)
  obtain ⟨gj, gj2⟩ := w4 j (by omega)
  have qi := gi.1
  have qj := gj.1
  have ei := (h.2.2.1.2 _ hk).1.un.1.2.2.2.2.2.1
  have ej := (h.2.2.1.2 _ hj).1.un.1.2.2.2.2.2.1
  obtain ⟨ti, -⟩ := hi.1.2.2 _ hk
  obtain ⟨tj, -⟩ := hi.1.2.2 _ hj
  have ri : zCl E (d + 4) 166 [zr (some w), zr (some (w + 28 + 20 * i))] (zwi S I) (Sum.inl (some (zi (gres G i))), zwi S I) := sp_X6_resultOf h hi hL hk
  have rj : zCl E (d + 4) 166 [zr (some w), zr (some (w + 28 + 20 * j))] (zwi S I) (Sum.inl (some (zi (gres G j))), zwi S I) := sp_X6_resultOf h hi hL hj
  have wi : zCl E (d + 4) 160 [zr (some w), zr (some (w + 28 + 20 * i))] (zwi S I) (Sum.inl (some (zi (gway G i))), zwi S I) := sp_X6_way gi hwn.1 (h.2.2.1.2 _ hk).1 h.2.2.1.1 ti.2.1.1 ti.2.1.2
  have wj : zCl E (d + 4) 160 [zr (some w), zr (some (w + 28 + 20 * j))] (zwi S I) (Sum.inl (some (zi (gway G j))), zwi S I) := sp_X6_way gj hwn.1 (h.2.2.1.2 _ hj).1 h.2.2.1.1 tj.2.1.1 tj.2.1.2
  have o0 : ((0 : Int32) == 0 || (0 : Int32) == 1) = true := by decide
  have o1 : ((1 : Int32) == 0 || (1 : Int32) == 1) = true := by decide
  have hjl : (Int32.ofNat j ≤ Int32.ofNat i) = (j ≤ i) := i_le (by omega) (by omega)
  have f210 : ∀ (p q a b v : Int32), (v = 0 ∨ v = 1) → zAt E (d + 5) 171 210 [some (zr (some w)), some (zi (Int32.ofNat i)), some (zi (Int32.ofNat j)), some (zr (some (w + 28 + 20 * i))), some (zr (some (w + 28 + 20 * j))), some (zi p), some (zi q), some (zi a), some (zi b)] [zi v] (zwi S I) (Sum.inl (some (zi v)), zwi S I) := by
    intro p q a b v hv
    have := z01 hv
    refine zat_in zP_X6_isAhead zk_X6_isAhead_210 ?_; simp (disch := omega) only [b_X6_isAhead_210, zif, zdr, zkb, mK_wi, mN_wi, mJ_wi, mI_wi, sI_wi, beq_self_eq_true, Bool.true_or, Bool.or_true, Bool.or_false, Bool.and_self, Bool.and_true, Bool.true_and, ↓reduceIte, ble_up0, i_cl, i_succ, zix_of, zfl_k, zup_k, zup_q, this]
    exact ev_r
  have f176 : ∀ (p q a b : Int32), zAt E (d + 5) 171 176 [some (zr (some w)), some (zi (Int32.ofNat i)), some (zi (Int32.ofNat j)), some (zr (some (w + 28 + 20 * i))), some (zr (some (w + 28 + 20 * j))), some (zi p), some (zi q), some (zi a), none] [zi b] (zwi S I) (Sum.inl (some (zi (if a = b then (if j ≤ i then 0 else 1) else if b ≤ a then 0 else 1))), zwi S I) := by
    intro p q a b
    by_cases c1 : a = b
    · rw [if_pos c1]
      refine zat_in zP_X6_isAhead zk_X6_isAhead_176 ?_
      simp (disch := omega) only [b_X6_isAhead_176, zif, zdr, zkb, mK_wi, mN_wi, mJ_wi, mI_wi, sI_wi, beq_self_eq_true, Bool.true_or, Bool.or_true, Bool.or_false, Bool.and_self, Bool.and_true, Bool.true_and, ↓reduceIte, ble_up0, i_cl, i_succ, zix_of, zfl_k, zup_k, zup_q, eq_true c1]
      refine ev_bk ?_
      by_cases c2 : j ≤ i
      · rw [if_pos c2]
        refine zat_in zP_X6_isAhead zk_X6_isAhead_200 ?_
        simp (disch := omega) only [b_X6_isAhead_200, zif, zdr, zkb, mK_wi, mN_wi, mJ_wi, mI_wi, sI_wi, beq_self_eq_true, Bool.true_or, Bool.or_true, Bool.or_false, Bool.and_self, Bool.and_true, Bool.true_and, ↓reduceIte, ble_up0, i_cl, i_succ, zix_of, zfl_k, zup_k, zup_q, hjl, eq_true c2]
        refine ev_bk ?_
        have e209 := @b_X6_isAhead_209
        refine zat_in zP_X6_isAhead zk_X6_isAhead_209 ?_
        simp only [e209]
        refine ev_tl zP_X6_isAhead zk_X6_isAhead_210 ?_
        exact f210 _ _ _ _ _ (Or.inl rfl)
      · rw [if_neg c2]
        refine zat_in zP_X6_isAhead zk_X6_isAhead_200 ?_
        simp (disch := omega) only [b_X6_isAhead_200, zif, zdr, zkb, mK_wi, mN_wi, mJ_wi, mI_wi, sI_wi, beq_self_eq_true, Bool.true_or, Bool.or_true, Bool.or_false, Bool.and_self, Bool.and_true, Bool.true_and, ↓reduceIte, ble_up0, i_cl, i_succ, zix_of, zfl_k, zup_k, zup_q, hjl, eq_false c2]
        exact ev_bk (f210 _ _ _ _ _ (Or.inr rfl))
    · rw [if_neg c1]
      refine zat_in zP_X6_isAhead zk_X6_isAhead_176 ?_
      simp (disch := omega) only [b_X6_isAhead_176, zif, zdr, zkb, mK_wi, mN_wi, mJ_wi, mI_wi, sI_wi, beq_self_eq_true, Bool.true_or, Bool.or_true, Bool.or_false, Bool.and_self, Bool.and_true, Bool.true_and, ↓reduceIte, ble_up0, i_cl, i_succ, zix_of, zfl_k, zup_k, zup_q, eq_false c1]
      refine ev_th _ (fun z => ?_) (fun z => ?_)
      · rw [if_pos z]
        refine ev_bk ?_
        refine zat_in zP_X6_isAhead zk_X6_isAhead_196 ?_; simp (disch := omega) only [b_X6_isAhead_196, zif, zdr, zkb, mK_wi, mN_wi, mJ_wi, mI_wi, sI_wi, beq_self_eq_true, Bool.true_or, Bool.or_true, Bool.or_false, Bool.and_self, Bool.and_true, Bool.true_and, ↓reduceIte, ble_up0, i_cl, i_succ, zix_of, zfl_k, zup_k, zup_q]
        exact ev_bk (f210 _ _ _ _ _ (Or.inl rfl))
      · rw [if_neg z]
        exact ev_bk (f210 _ _ _ _ _ (Or.inr rfl))
  have f143 : ∀ (p q a : Int32), zAt E (d + 5) 171 143 [some (zr (some w)), some (zi (Int32.ofNat i)), some (zi (Int32.ofNat j)), some (zr (some (w + 28 + 20 * i))), some (zr (some (w + 28 + 20 * j))), some (zi p), some (zi q), none, none] [zi a] (zwi S I) (Sum.inl (some (zi (if a = mkv G j p then (if j ≤ i then 0 else 1) else if mkv G j p ≤ a then 0 else 1))), zwi S I) := by
    intro p q a
    unfold mkv
    by_cases c1 : p = 0
    · rw [if_pos c1]
      refine zat_in zP_X6_isAhead zk_X6_isAhead_143 ?_
      simp (disch := omega) only [b_X6_isAhead_143, zif, zdr, zkb, mK_wi, mN_wi, mJ_wi, mI_wi, sI_wi, beq_self_eq_true, Bool.true_or, Bool.or_true, Bool.or_false, Bool.and_self, Bool.and_true, Bool.true_and, ↓reduceIte, ble_up0, i_cl, i_succ, zix_of, zfl_k, zup_k, zup_q, w0, eq_true c1]
      refine ev_ci rj ?_
      exact ev_bk (f176 _ _ _ _)
    rw [if_neg c1]
    refine zat_in zP_X6_isAhead zk_X6_isAhead_143 ?_
    simp (disch := omega) only [b_X6_isAhead_143, zif, zdr, zkb, mK_wi, mN_wi, mJ_wi, mI_wi, sI_wi, beq_self_eq_true, Bool.true_or, Bool.or_true, Bool.or_false, Bool.and_self, Bool.and_true, Bool.true_and, ↓reduceIte, ble_up0, i_cl, i_succ, zix_of, zfl_k, zup_k, zup_q, eq_false c1]
    refine ev_bk ?_
    by_cases c2 : p = 1
    · rw [if_pos c2]
      refine zat_in zP_X6_isAhead zk_X6_isAhead_159 ?_
      simp (disch := omega) only [b_X6_isAhead_159, zif, zdr, zkb, mK_wi, mN_wi, mJ_wi, mI_wi, sI_wi, beq_self_eq_true, Bool.true_or, Bool.or_true, Bool.or_false, Bool.and_self, Bool.and_true, Bool.true_and, ↓reduceIte, ble_up0, i_cl, i_succ, zix_of, zfl_k, zup_k, zup_q, w0, eq_true c2]
      refine ev_ci wj ?_
      exact ev_bk (f176 _ _ _ _)
    · rw [if_neg c2]
      refine zat_in zP_X6_isAhead zk_X6_isAhead_159 ?_
      simp (disch := omega) only [b_X6_isAhead_159, zif, zdr, zkb, mK_wi, mN_wi, mJ_wi, mI_wi, sI_wi, beq_self_eq_true, Bool.true_or, Bool.or_true, Bool.or_false, Bool.and_self, Bool.and_true, Bool.true_and, ↓reduceIte, ble_up0, i_cl, i_succ, zix_of, zfl_k, zup_k, zup_q, eq_false c2]
      refine ev_bk ?_
      have e175 := @b_X6_isAhead_175
      refine zat_in zP_X6_isAhead zk_X6_isAhead_175 ?_
      simp only [e175]
      refine ev_tl zP_X6_isAhead zk_X6_isAhead_176 ?_
      exact f176 _ _ _ _
  have f114 : ∀ (p q : Int32), zAt E (d + 5) 171 114 [some (zr (some w)), some (zi (Int32.ofNat i)), some (zi (Int32.ofNat j)), some (zr (some (w + 28 + 20 * i))), some (zr (some (w + 28 + 20 * j))), some (zi p), some (zi q), none, none] [] (zwi S I) (Sum.inl (some (zi (if mkv G i p = mkv G j p then (if j ≤ i then 0 else 1) else if mkv G j p ≤ mkv G i p then 0 else 1))), zwi S I) := by
    intro p q
    have := f143 p q (mkv G i p)
    by_cases c1 : p = 0
    · have e : mkv G i p = gres G i := if_pos c1
      rw [e] at this ⊢
      refine zat_in zP_X6_isAhead zk_X6_isAhead_114 ?_
      simp (disch := omega) only [b_X6_isAhead_114, zif, zdr, zkb, mK_wi, mN_wi, mJ_wi, mI_wi, sI_wi, beq_self_eq_true, Bool.true_or, Bool.or_true, Bool.or_false, Bool.and_self, Bool.and_true, Bool.true_and, ↓reduceIte, ble_up0, i_cl, i_succ, zix_of, zfl_k, zup_k, zup_q, w0, eq_true c1]
      refine ev_ci ri ?_
      exact ev_bk this
    refine zat_in zP_X6_isAhead zk_X6_isAhead_114 ?_
    simp (disch := omega) only [b_X6_isAhead_114, zif, zdr, zkb, mK_wi, mN_wi, mJ_wi, mI_wi, sI_wi, beq_self_eq_true, Bool.true_or, Bool.or_true, Bool.or_false, Bool.and_self, Bool.and_true, Bool.true_and, ↓reduceIte, ble_up0, i_cl, i_succ, zix_of, zfl_k, zup_k, zup_q, eq_false c1]
    refine ev_bk ?_
    by_cases c2 : p = 1
    · have e : mkv G i p = -gway G i := by unfold mkv; rw [if_neg c1, if_pos c2]
      rw [e] at this ⊢
      refine zat_in zP_X6_isAhead zk_X6_isAhead_127 ?_
      simp (disch := omega) only [b_X6_isAhead_127, zif, zdr, zkb, mK_wi, mN_wi, mJ_wi, mI_wi, sI_wi, beq_self_eq_true, Bool.true_or, Bool.or_true, Bool.or_false, Bool.and_self, Bool.and_true, Bool.true_and, ↓reduceIte, ble_up0, i_cl, i_succ, zix_of, zfl_k, zup_k, zup_q, w0, eq_true c2]
      refine ev_ci wi ?_
      exact ev_bk this
    · have e : mkv G i p = 0 := by unfold mkv; rw [if_neg c1, if_neg c2]
      rw [e] at this ⊢
      refine zat_in zP_X6_isAhead zk_X6_isAhead_127 ?_
      simp (disch := omega) only [b_X6_isAhead_127, zif, zdr, zkb, mK_wi, mN_wi, mJ_wi, mI_wi, sI_wi, beq_self_eq_true, Bool.true_or, Bool.or_true, Bool.or_false, Bool.and_self, Bool.and_true, Bool.true_and, ↓reduceIte, ble_up0, i_cl, i_succ, zix_of, zfl_k, zup_k, zup_q, eq_false c2]
      refine ev_bk ?_
      have e142 := @b_X6_isAhead_142
      refine zat_in zP_X6_isAhead zk_X6_isAhead_142 ?_
      simp only [e142]
      refine ev_tl zP_X6_isAhead zk_X6_isAhead_143 ?_
      exact this
  have f92 : ∀ p q : Int32, p = rk (gT G i) → q = rk (gT G j) → zAt E (d + 5) 171 92 [some (zr (some w)), some (zi (Int32.ofNat i)), some (zi (Int32.ofNat j)), some (zr (some (w + 28 + 20 * i))), some (zr (some (w + 28 + 20 * j))), some (zi p), none, none, none] [zi q] (zwi S I) (Sum.inl (some (zi (mah G i j))), zwi S I) := by
    intro p q hp hq
    unfold mah
    rw [← hp, ← hq]
    by_cases c1 : p = q
    · rw [if_pos c1]
      refine zat_in zP_X6_isAhead zk_X6_isAhead_92 ?_
      simp (disch := omega) only [b_X6_isAhead_92, zif, zdr, zkb, mK_wi, mN_wi, mJ_wi, mI_wi, sI_wi, beq_self_eq_true, Bool.true_or, Bool.or_true, Bool.or_false, Bool.and_self, Bool.and_true, Bool.true_and, ↓reduceIte, ble_up0, i_cl, i_succ, zix_of, zfl_k, zup_k, zup_q, eq_true c1]
      exact ev_bk (f114 _ _)
    · rw [if_neg c1]
      refine zat_in zP_X6_isAhead zk_X6_isAhead_92 ?_
      simp (disch := omega) only [b_X6_isAhead_92, zif, zdr, zkb, mK_wi, mN_wi, mJ_wi, mI_wi, sI_wi, beq_self_eq_true, Bool.true_or, Bool.or_true, Bool.or_false, Bool.and_self, Bool.and_true, Bool.true_and, ↓reduceIte, ble_up0, i_cl, i_succ, zix_of, zfl_k, zup_k, zup_q, eq_false c1]
      refine ev_th _ (fun z => ?_) (fun z => ?_)
      · rw [if_pos z]
        refine ev_bk ?_
        have e112 := @b_X6_isAhead_112
        refine zat_in zP_X6_isAhead zk_X6_isAhead_112 ?_
        simp only [e112]
        refine ev_tl zP_X6_isAhead zk_X6_isAhead_113 ?_
        refine zat_in zP_X6_isAhead zk_X6_isAhead_113 ?_; simp (disch := omega) only [b_X6_isAhead_113, zif, zdr, zkb, mK_wi, mN_wi, mJ_wi, mI_wi, sI_wi, beq_self_eq_true, Bool.true_or, Bool.or_true, Bool.or_false, Bool.and_self, Bool.and_true, Bool.true_and, ↓reduceIte, ble_up0, i_cl, i_succ, zix_of, zfl_k, zup_k, zup_q, o0]
        exact ev_r
      · rw [if_neg z]
        refine ev_bk ?_
        refine zat_in zP_X6_isAhead zk_X6_isAhead_113 ?_; simp (disch := omega) only [b_X6_isAhead_113, zif, zdr, zkb, mK_wi, mN_wi, mJ_wi, mI_wi, sI_wi, beq_self_eq_true, Bool.true_or, Bool.or_true, Bool.or_false, Bool.and_self, Bool.and_true, Bool.true_and, ↓reduceIte, ble_up0, i_cl, i_succ, zix_of, zfl_k, zup_k, zup_q, o1]
        exact ev_r
  have f51 : ∀ p : Int32, p = rk (gT G i) → zAt E (d + 5) 171 51 [some (zr (some w)), some (zi (Int32.ofNat i)), some (zi (Int32.ofNat j)), some (zr (some (w + 28 + 20 * i))), some (zr (some (w + 28 + 20 * j))), none, none, none, none] [zi p] (zwi S I) (Sum.inl (some (zi (mah G i j))), zwi S I) := by
    intro p hp
    have rj2 : rk (gT G j) = if gT G j 0 5 = 2 then 0 else if gT G j 0 5 = 1 then 1 else if gT G j 0 5 = 0 then 2 else 3 := rfl
    refine zat_in zP_X6_isAhead zk_X6_isAhead_51 ?_
    simp (disch := omega) only [b_X6_isAhead_51, zif, zdr, zkb, mK_wi, mN_wi, mJ_wi, mI_wi, sI_wi, beq_self_eq_true, Bool.true_or, Bool.or_true, Bool.or_false, Bool.and_self, Bool.and_true, Bool.true_and, ↓reduceIte, ble_up0, i_cl, i_succ, zix_of, zfl_k, zup_k, zup_q, qj, ej]
    refine ev_th _ (fun z => ?_) (fun z => ?_)
    · rw [if_pos z] at rj2
      exact ev_bk (f92 _ _ hp rj2.symm)
    rw [if_neg z] at rj2
    refine ev_bk ?_
    refine zat_in zP_X6_isAhead zk_X6_isAhead_66 ?_
    simp (disch := omega) only [b_X6_isAhead_66, zif, zdr, zkb, mK_wi, mN_wi, mJ_wi, mI_wi, sI_wi, beq_self_eq_true, Bool.true_or, Bool.or_true, Bool.or_false, Bool.and_self, Bool.and_true, Bool.true_and, ↓reduceIte, ble_up0, i_cl, i_succ, zix_of, zfl_k, zup_k, zup_q, qj, ej]
    refine ev_th _ (fun z => ?_) (fun z => ?_)
    · rw [if_pos z] at rj2
      exact ev_bk (f92 _ _ hp rj2.symm)
    rw [if_neg z] at rj2
    refine ev_bk ?_
    refine zat_in zP_X6_isAhead zk_X6_isAhead_79 ?_
    simp (disch := omega) only [b_X6_isAhead_79, zif, zdr, zkb, mK_wi, mN_wi, mJ_wi, mI_wi, sI_wi, beq_self_eq_true, Bool.true_or, Bool.or_true, Bool.or_false, Bool.and_self, Bool.and_true, Bool.true_and, ↓reduceIte, ble_up0, i_cl, i_succ, zix_of, zfl_k, zup_k, zup_q, qj, ej]
    refine ev_th _ (fun z => ?_) (fun z => ?_)
    · rw [if_pos z] at rj2
      exact ev_bk (f92 _ _ hp rj2.symm)
    rw [if_neg z] at rj2
    refine ev_bk ?_
    have e91 := @b_X6_isAhead_91
    refine zat_in zP_X6_isAhead zk_X6_isAhead_91 ?_
    simp only [e91]
    refine ev_tl zP_X6_isAhead zk_X6_isAhead_92 ?_
    exact f92 _ _ hp rj2.symm
  have ri2 : rk (gT G i) = if gT G i 0 5 = 2 then 0 else if gT G i 0 5 = 1 then 1 else if gT G i 0 5 = 0 then 2 else 3 := rfl
  refine zcl_in' zP_X6_isAhead ?_; rw [zn_3_9]
  refine zat_in zP_X6_isAhead zk_X6_isAhead_0 ?_
  simp (disch := omega) only [b_X6_isAhead_0, zif, zdr, zkb, mK_wi, mN_wi, mJ_wi, mI_wi, sI_wi, beq_self_eq_true, Bool.true_or, Bool.or_true, Bool.or_false, Bool.and_self, Bool.and_true, Bool.true_and, ↓reduceIte, ble_up0, i_cl, i_succ, zix_of, zfl_k, zup_k, zup_q, w0, wa1, wa2, wa3, wb1, wb2, wb3, wc1, wc2, wc3, w1, w2, w3, gi2, gj2, qi, ei]
  refine ev_th _ (fun z => ?_) (fun z => ?_)
  · rw [if_pos z] at ri2
    exact ev_bk (f51 _ ri2.symm)
  rw [if_neg z] at ri2
  refine ev_bk ?_
  refine zat_in zP_X6_isAhead zk_X6_isAhead_27 ?_
  simp (disch := omega) only [b_X6_isAhead_27, zif, zdr, zkb, mK_wi, mN_wi, mJ_wi, mI_wi, sI_wi, beq_self_eq_true, Bool.true_or, Bool.or_true, Bool.or_false, Bool.and_self, Bool.and_true, Bool.true_and, ↓reduceIte, ble_up0, i_cl, i_succ, zix_of, zfl_k, zup_k, zup_q, qi, ei]
  refine ev_th _ (fun z => ?_) (fun z => ?_)
  · rw [if_pos z] at ri2
    exact ev_bk (f51 _ ri2.symm)
  rw [if_neg z] at ri2
  refine ev_bk ?_
  refine zat_in zP_X6_isAhead zk_X6_isAhead_39 ?_
  simp (disch := omega) only [b_X6_isAhead_39, zif, zdr, zkb, mK_wi, mN_wi, mJ_wi, mI_wi, sI_wi, beq_self_eq_true, Bool.true_or, Bool.or_true, Bool.or_false, Bool.and_self, Bool.and_true, Bool.true_and, ↓reduceIte, ble_up0, i_cl, i_succ, zix_of, zfl_k, zup_k, zup_q, qi, ei]
  refine ev_th _ (fun z => ?_) (fun z => ?_)
  · rw [if_pos z] at ri2
    exact ev_bk (f51 _ ri2.symm)
  rw [if_neg z] at ri2
  refine ev_bk ?_
  have e50 := @b_X6_isAhead_50
  refine zat_in zP_X6_isAhead zk_X6_isAhead_50 ?_
  simp only [e50]
  refine ev_tl zP_X6_isAhead zk_X6_isAhead_51 ?_
  exact f51 _ ri2.symm
end
