/-! ===== which of two teams stands ahead ===== -/
set_option maxRecDepth 100000
def rk (T : zT) : Int32 := if T 0 5 = 2 then 0 else if T 0 5 = 1 then 1 else if T 0 5 = 0 then 2 else 3
def gres (G : zGl) (k : Nat) : Int32 := tres (gV G) (gT G k) (gW G) (gn G)
def gway (G : zGl) (k : Nat) : Int32 := tway (gT G k 0 7) (gV G) (nn (gT G k 0 6))
def xah (G : zGl) (i j : Nat) : Int32 := if rk (gT G i) = rk (gT G j) then (if rk (gT G i) = 0 then (if gres G j < gres G i then 0 else 1) else if rk (gT G i) = 1 then (if gway G i < gway G j then 0 else 1) else 1) else if rk (gT G j) ≤ rk (gT G i) then 0 else 1
def mkv (G : zGl) (k : Nat) (r : Int32) : Int32 := if r = 0 then gres G k else if r = 1 then -gway G k else 0
def mah (G : zGl) (i j : Nat) : Int32 := if rk (gT G i) = rk (gT G j) then (if mkv G i (rk (gT G i)) = mkv G j (rk (gT G i)) then (if j ≤ i then 0 else 1) else if mkv G j (rk (gT G i)) ≤ mkv G i (rk (gT G i)) then 0 else 1) else if rk (gT G j) ≤ rk (gT G i) then 0 else 1
section
variable {E : zE} {d B w i j : Nat} {S : zM} {I : Nat → Nat → Int32} {G : zGl}
theorem sp_X0_isAhead (h : XG S I B G) (hi : IG G) (hL : IL G) (hk : i < nn (gV G 0 1)) (hj : j < nn (gV G 0 1)) : zCl E (d + 4) 60 [zr (some B), zr (some (B + 5 + 5 + 23 * i)), zr (some (B + 5 + 5 + 23 * j))] (zwi S I) (Sum.inl (some (zi (xah G i j))), zwi S I) := by
  have hcs := h.1
  obtain ⟨b0, ⟨b3, b4, b5⟩, hwn, hwk, hal, ⟨b7, bk7, bn7⟩, ⟨b8, bk8, bn8⟩, ⟨b9, bk9, bn9⟩, ⟨b12, bk12⟩, ⟨ba0, bka0, bna0⟩, b2, bk2, ⟨br0, brk0⟩, br1, br2, brk2, brn2⟩ := id hcs
  have w0 := hwn.1.1
  have hnt := hi.1.1.2.1.2
  have gi := (hwn.2.2 i (by omega)).1
  have gj := (hwn.2.2 j (by omega)).1
  have qi := gi.1.1
  have qj := gj.1.1
  have ei := (h.2.2.1.2 _ hk).un.1.2.2.2.2.2.1
  have ej := (h.2.2.1.2 _ hj).un.1.2.2.2.2.2.1
  obtain ⟨ti, -⟩ := hi.1.2.2 _ hk
  obtain ⟨tj, -⟩ := hi.1.2.2 _ hj
  have ri : zCl E (d + 3) 57 [zr (some B), zr (some (B + 5 + 5 + 23 * i))] (zwi S I) (Sum.inl (some (zi (gres G i))), zwi S I) := sp_X0_resultOf h hi hL hk
  have rj : zCl E (d + 3) 57 [zr (some B), zr (some (B + 5 + 5 + 23 * j))] (zwi S I) (Sum.inl (some (zi (gres G j))), zwi S I) := sp_X0_resultOf h hi hL hj
  have wi : zCl E (d + 3) 107 [zr (some (B + 5 + 5 + 23 * i)), zr (some (B + 5))] (zwi S I) (Sum.inl (some (zi (gway G i))), zwi S I) := sp_X4_way gi hwn.1 (h.2.2.1.2 _ hk) h.2.2.1.1 ti.2.1.1 ti.2.1.2
  have wj : zCl E (d + 3) 107 [zr (some (B + 5 + 5 + 23 * j)), zr (some (B + 5))] (zwi S I) (Sum.inl (some (zi (gway G j))), zwi S I) := sp_X4_way gj hwn.1 (h.2.2.1.2 _ hj) h.2.2.1.1 tj.2.1.1 tj.2.1.2
  have o0 : ((0 : Int32) == 0 || (0 : Int32) == 1) = true := by decide
  have o1 : ((1 : Int32) == 0 || (1 : Int32) == 1) = true := by decide
  -- from 73 on
  have f73 : ∀ p q : Int32, p = rk (gT G i) → q = rk (gT G j) → zAt E (d + 4) 60 73 [some (zr (some B)), some (zr (some (B + 5 + 5 + 23 * i))), some (zr (some (B + 5 + 5 + 23 * j))), some (zi p), none] [zi q] (zwi S I) (Sum.inl (some (zi (xah G i j))), zwi S I) := by
    intro p q hp hq
    unfold xah
    rw [← hp, ← hq]
    by_cases c1 : p = q
    · rw [if_pos c1]
      refine zat_in zP_X0_isAhead zk_X0_isAhead_73 ?_
      simp (disch := omega) only [b_X0_isAhead_73, zif, zdr, zkb, mK_wi, mN_wi, mJ_wi, mI_wi, sI_wi, beq_self_eq_true, Bool.true_or, Bool.or_true, Bool.or_false, Bool.and_self, Bool.and_true, Bool.true_and, ↓reduceIte, ble_up0, i_cl, i_succ, zix_of, zfl_k, zup_k, zup_q, eq_true c1]
      refine ev_bk ?_
      by_cases c2 : p = 0
      · rw [if_pos c2]
        refine zat_in zP_X0_isAhead zk_X0_isAhead_93 ?_
        simp (disch := omega) only [b_X0_isAhead_93, zif, zdr, zkb, mK_wi, mN_wi, mJ_wi, mI_wi, sI_wi, beq_self_eq_true, Bool.true_or, Bool.or_true, Bool.or_false, Bool.and_self, Bool.and_true, Bool.true_and, ↓reduceIte, ble_up0, i_cl, i_succ, zix_of, zfl_k, zup_k, zup_q, b0, b3, qi, qj, w0, eq_true c2]
        refine ev_ci ri ?_
        simp (disch := omega) only [zif, zdr, zkb, mK_wi, mN_wi, mJ_wi, mI_wi, sI_wi, beq_self_eq_true, Bool.true_or, Bool.or_true, Bool.or_false, Bool.and_self, Bool.and_true, Bool.true_and, ↓reduceIte, ble_up0, i_cl, i_succ, zix_of, zfl_k, zup_k, zup_q, b0, b3, qi, qj, w0]
        refine ev_ci rj ?_
        refine ev_th _ (fun z => ?_) (fun z => ?_)
        · rw [if_pos z]
          refine ev_bk ?_
          have e114 := @b_X0_isAhead_114
          refine zat_in zP_X0_isAhead zk_X0_isAhead_114 ?_
          simp only [e114]
          refine ev_tl zP_X0_isAhead zk_X0_isAhead_115 ?_
          refine zat_in zP_X0_isAhead zk_X0_isAhead_115 ?_; simp (disch := omega) only [b_X0_isAhead_115, zif, zdr, zkb, mK_wi, mN_wi, mJ_wi, mI_wi, sI_wi, beq_self_eq_true, Bool.true_or, Bool.or_true, Bool.or_false, Bool.and_self, Bool.and_true, Bool.true_and, ↓reduceIte, ble_up0, i_cl, i_succ, zix_of, zfl_k, zup_k, zup_q, o0]
          exact ev_r
        · rw [if_neg z]
          refine ev_bk ?_
          refine zat_in zP_X0_isAhead zk_X0_isAhead_115 ?_; simp (disch := omega) only [b_X0_isAhead_115, zif, zdr, zkb, mK_wi, mN_wi, mJ_wi, mI_wi, sI_wi, beq_self_eq_true, Bool.true_or, Bool.or_true, Bool.or_false, Bool.and_self, Bool.and_true, Bool.true_and, ↓reduceIte, ble_up0, i_cl, i_succ, zix_of, zfl_k, zup_k, zup_q, o1]
          exact ev_r
      · rw [if_neg c2]
        refine zat_in zP_X0_isAhead zk_X0_isAhead_93 ?_
        simp (disch := omega) only [b_X0_isAhead_93, zif, zdr, zkb, mK_wi, mN_wi, mJ_wi, mI_wi, sI_wi, beq_self_eq_true, Bool.true_or, Bool.or_true, Bool.or_false, Bool.and_self, Bool.and_true, Bool.true_and, ↓reduceIte, ble_up0, i_cl, i_succ, zix_of, zfl_k, zup_k, zup_q, eq_false c2]
        refine ev_bk ?_
        by_cases c3 : p = 1
        · rw [if_pos c3]
          refine zat_in zP_X0_isAhead zk_X0_isAhead_116 ?_
          simp (disch := omega) only [b_X0_isAhead_116, zif, zdr, zkb, mK_wi, mN_wi, mJ_wi, mI_wi, sI_wi, beq_self_eq_true, Bool.true_or, Bool.or_true, Bool.or_false, Bool.and_self, Bool.and_true, Bool.true_and, ↓reduceIte, ble_up0, i_cl, i_succ, zix_of, zfl_k, zup_k, zup_q, b0, b3, qi, qj, w0, eq_true c3]
          refine ev_ci wi ?_
          simp (disch := omega) only [zif, zdr, zkb, mK_wi, mN_wi, mJ_wi, mI_wi, sI_wi, beq_self_eq_true, Bool.true_or, Bool.or_true, Bool.or_false, Bool.and_self, Bool.and_true, Bool.true_and, ↓reduceIte, ble_up0, i_cl, i_succ, zix_of, zfl_k, zup_k, zup_q, b0, b3, qi, qj, w0]
          refine ev_ci wj ?_
          refine ev_th _ (fun z => ?_) (fun z => ?_)
          · rw [if_pos z]
            refine ev_bk ?_
            have e144 := @b_X0_isAhead_144
            refine zat_in zP_X0_isAhead zk_X0_isAhead_144 ?_
            simp only [e144]
            refine ev_tl zP_X0_isAhead zk_X0_isAhead_145 ?_
            refine zat_in zP_X0_isAhead zk_X0_isAhead_145 ?_; simp (disch := omega) only [b_X0_isAhead_145, zif, zdr, zkb, mK_wi, mN_wi, mJ_wi, mI_wi, sI_wi, beq_self_eq_true, Bool.true_or, Bool.or_true, Bool.or_false, Bool.and_self, Bool.and_true, Bool.true_and, ↓reduceIte, ble_up0, i_cl, i_succ, zix_of, zfl_k, zup_k, zup_q, o0]
            exact ev_r
          · rw [if_neg z]
            refine ev_tl zP_X0_isAhead zk_X0_isAhead_140 ?_
            refine zat_in zP_X0_isAhead zk_X0_isAhead_140 ?_; simp (disch := omega) only [b_X0_isAhead_140, zif, zdr, zkb, mK_wi, mN_wi, mJ_wi, mI_wi, sI_wi, beq_self_eq_true, Bool.true_or, Bool.or_true, Bool.or_false, Bool.and_self, Bool.and_true, Bool.true_and, ↓reduceIte, ble_up0, i_cl, i_succ, zix_of, zfl_k, zup_k, zup_q]
            refine ev_bk ?_
            refine zat_in zP_X0_isAhead zk_X0_isAhead_145 ?_; simp (disch := omega) only [b_X0_isAhead_145, zif, zdr, zkb, mK_wi, mN_wi, mJ_wi, mI_wi, sI_wi, beq_self_eq_true, Bool.true_or, Bool.or_true, Bool.or_false, Bool.and_self, Bool.and_true, Bool.true_and, ↓reduceIte, ble_up0, i_cl, i_succ, zix_of, zfl_k, zup_k, zup_q, o1]
            exact ev_r
        · rw [if_neg c3]
          refine zat_in zP_X0_isAhead zk_X0_isAhead_116 ?_
          simp (disch := omega) only [b_X0_isAhead_116, zif, zdr, zkb, mK_wi, mN_wi, mJ_wi, mI_wi, sI_wi, beq_self_eq_true, Bool.true_or, Bool.or_true, Bool.or_false, Bool.and_self, Bool.and_true, Bool.true_and, ↓reduceIte, ble_up0, i_cl, i_succ, zix_of, zfl_k, zup_k, zup_q, eq_false c3]
          refine ev_bk ?_
          refine zat_in zP_X0_isAhead zk_X0_isAhead_140 ?_; simp (disch := omega) only [b_X0_isAhead_140, zif, zdr, zkb, mK_wi, mN_wi, mJ_wi, mI_wi, sI_wi, beq_self_eq_true, Bool.true_or, Bool.or_true, Bool.or_false, Bool.and_self, Bool.and_true, Bool.true_and, ↓reduceIte, ble_up0, i_cl, i_succ, zix_of, zfl_k, zup_k, zup_q]
          refine ev_bk ?_
          refine zat_in zP_X0_isAhead zk_X0_isAhead_145 ?_; simp (disch := omega) only [b_X0_isAhead_145, zif, zdr, zkb, mK_wi, mN_wi, mJ_wi, mI_wi, sI_wi, beq_self_eq_true, Bool.true_or, Bool.or_true, Bool.or_false, Bool.and_self, Bool.and_true, Bool.true_and, ↓reduceIte, ble_up0, i_cl, i_succ, zix_of, zfl_k, zup_k, zup_q, o1]
          exact ev_r
    · rw [if_neg c1]
      refine zat_in zP_X0_isAhead zk_X0_isAhead_73 ?_
      simp (disch := omega) only [b_X0_isAhead_73, zif, zdr, zkb, mK_wi, mN_wi, mJ_wi, mI_wi, sI_wi, beq_self_eq_true, Bool.true_or, Bool.or_true, Bool.or_false, Bool.and_self, Bool.and_true, Bool.true_and, ↓reduceIte, ble_up0, i_cl, i_succ, zix_of, zfl_k, zup_k, zup_q, eq_false c1]
      refine ev_th _ (fun z => ?_) (fun z => ?_)
      · rw [if_pos z]
        refine ev_bk ?_
        have e91 := @b_X0_isAhead_91
        refine zat_in zP_X0_isAhead zk_X0_isAhead_91 ?_
        simp only [e91]
        refine ev_tl zP_X0_isAhead zk_X0_isAhead_92 ?_
        refine zat_in zP_X0_isAhead zk_X0_isAhead_92 ?_; simp (disch := omega) only [b_X0_isAhead_92, zif, zdr, zkb, mK_wi, mN_wi, mJ_wi, mI_wi, sI_wi, beq_self_eq_true, Bool.true_or, Bool.or_true, Bool.or_false, Bool.and_self, Bool.and_true, Bool.true_and, ↓reduceIte, ble_up0, i_cl, i_succ, zix_of, zfl_k, zup_k, zup_q, o0]
        exact ev_r
      · rw [if_neg z]
        refine ev_bk ?_
        refine zat_in zP_X0_isAhead zk_X0_isAhead_92 ?_; simp (disch := omega) only [b_X0_isAhead_92, zif, zdr, zkb, mK_wi, mN_wi, mJ_wi, mI_wi, sI_wi, beq_self_eq_true, Bool.true_or, Bool.or_true, Bool.or_false, Bool.and_self, Bool.and_true, Bool.true_and, ↓reduceIte, ble_up0, i_cl, i_succ, zix_of, zfl_k, zup_k, zup_q, o1]
        exact ev_r
  have f36 : ∀ p : Int32, p = rk (gT G i) → zAt E (d + 4) 60 36 [some (zr (some B)), some (zr (some (B + 5 + 5 + 23 * i))), some (zr (some (B + 5 + 5 + 23 * j))), none, none] [zi p] (zwi S I) (Sum.inl (some (zi (xah G i j))), zwi S I) := by
    intro p hp
    have rj2 : rk (gT G j) = if gT G j 0 5 = 2 then 0 else if gT G j 0 5 = 1 then 1 else if gT G j 0 5 = 0 then 2 else 3 := rfl
    refine zat_in zP_X0_isAhead zk_X0_isAhead_36 ?_
    simp (disch := omega) only [b_X0_isAhead_36, zif, zdr, zkb, mK_wi, mN_wi, mJ_wi, mI_wi, sI_wi, beq_self_eq_true, Bool.true_or, Bool.or_true, Bool.or_false, Bool.and_self, Bool.and_true, Bool.true_and, ↓reduceIte, ble_up0, i_cl, i_succ, zix_of, zfl_k, zup_k, zup_q, qj, ej]
    refine ev_th _ (fun z => ?_) (fun z => ?_)
    · rw [if_pos z] at rj2
      exact ev_bk (f73 _ _ hp rj2.symm)
    rw [if_neg z] at rj2
    refine ev_bk ?_
    refine zat_in zP_X0_isAhead zk_X0_isAhead_49 ?_
    simp (disch := omega) only [b_X0_isAhead_49, zif, zdr, zkb, mK_wi, mN_wi, mJ_wi, mI_wi, sI_wi, beq_self_eq_true, Bool.true_or, Bool.or_true, Bool.or_false, Bool.and_self, Bool.and_true, Bool.true_and, ↓reduceIte, ble_up0, i_cl, i_succ, zix_of, zfl_k, zup_k, zup_q, qj, ej]
    refine ev_th _ (fun z => ?_) (fun z => ?_)
    · rw [if_pos z] at rj2
      exact ev_bk (f73 _ _ hp rj2.symm)
    rw [if_neg z] at rj2
    refine ev_bk ?_
    refine zat_in zP_X0_isAhead zk_X0_isAhead_61 ?_
    simp (disch := omega) only [b_X0_isAhead_61, zif, zdr, zkb, mK_wi, mN_wi, mJ_wi, mI_wi, sI_wi, beq_self_eq_true, Bool.true_or, Bool.or_true, Bool.or_false, Bool.and_self, Bool.and_true, Bool.true_and, ↓reduceIte, ble_up0, i_cl, i_succ, zix_of, zfl_k, zup_k, zup_q, qj, ej]
    refine ev_th _ (fun z => ?_) (fun z => ?_)
    · rw [if_pos z] at rj2
      exact ev_bk (f73 _ _ hp rj2.symm)
    rw [if_neg z] at rj2
    refine ev_bk ?_
    have e72 := @b_X0_isAhead_72
    refine zat_in zP_X0_isAhead zk_X0_isAhead_72 ?_
    simp only [e72]
    refine ev_tl zP_X0_isAhead zk_X0_isAhead_73 ?_
    exact f73 _ _ hp rj2.symm
  have ri2 : rk (gT G i) = if gT G i 0 5 = 2 then 0 else if gT G i 0 5 = 1 then 1 else if gT G i 0 5 = 0 then 2 else 3 := rfl
  refine zcl_in' zP_X0_isAhead ?_; rw [zn_3_5]
  refine zat_in zP_X0_isAhead zk_X0_isAhead_0 ?_
  simp (disch := omega) only [b_X0_isAhead_0, zif, zdr, zkb, mK_wi, mN_wi, mJ_wi, mI_wi, sI_wi, beq_self_eq_true, Bool.true_or, Bool.or_true, Bool.or_false, Bool.and_self, Bool.and_true, Bool.true_and, ↓reduceIte, ble_up0, i_cl, i_succ, zix_of, zfl_k, zup_k, zup_q, qi, ei]
  refine ev_th _ (fun z => ?_) (fun z => ?_)
  · rw [if_pos z] at ri2
    exact ev_bk (f36 _ ri2.symm)
  rw [if_neg z] at ri2
  refine ev_bk ?_
  refine zat_in zP_X0_isAhead zk_X0_isAhead_12 ?_
  simp (disch := omega) only [b_X0_isAhead_12, zif, zdr, zkb, mK_wi, mN_wi, mJ_wi, mI_wi, sI_wi, beq_self_eq_true, Bool.true_or, Bool.or_true, Bool.or_false, Bool.and_self, Bool.and_true, Bool.true_and, ↓reduceIte, ble_up0, i_cl, i_succ, zix_of, zfl_k, zup_k, zup_q, qi, ei]
  refine ev_th _ (fun z => ?_) (fun z => ?_)
  · rw [if_pos z] at ri2
    exact ev_bk (f36 _ ri2.symm)
  rw [if_neg z] at ri2
  refine ev_bk ?_
  refine zat_in zP_X0_isAhead zk_X0_isAhead_24 ?_
  simp (disch := omega) only [b_X0_isAhead_24, zif, zdr, zkb, mK_wi, mN_wi, mJ_wi, mI_wi, sI_wi, beq_self_eq_true, Bool.true_or, Bool.or_true, Bool.or_false, Bool.and_self, Bool.and_true, Bool.true_and, ↓reduceIte, ble_up0, i_cl, i_succ, zix_of, zfl_k, zup_k, zup_q, qi, ei]
  refine ev_th _ (fun z => ?_) (fun z => ?_)
  · rw [if_pos z] at ri2
    exact ev_bk (f36 _ ri2.symm)
  rw [if_neg z] at ri2
  refine ev_bk ?_
  have e35 := @b_X0_isAhead_35
  refine zat_in zP_X0_isAhead zk_X0_isAhead_35 ?_
  simp only [e35]
  refine ev_tl zP_X0_isAhead zk_X0_isAhead_36 ?_
  exact f36 _ ri2.symm
end
