/-! ===== lacks, result ===== -/
set_option maxRecDepth 100000
def IL (G : zGl) : Prop := (∀ k, k < nn (gV G 0 1) → IR (gT G k)) ∧ (∀ k, k < nn (kV G 0 1) → IR (kT G k)) ∧ ∀ i, i < gn G → ∀ j, j < 4 → sm (gW G i j) 9999
def qLacks (G : zGl) (t i : Int32) : Int32 := if isT G t = 0 then -1 else if gT G (nn t) 0 5 = 2 then (if tin i 0 (Int32.ofNat (gn G) - 1) = 0 then -1 else tlk (gV G) (gT G (nn t)) (gW G (nn i))) else -1
def trs (V T W : zT) : Nat → Int32 × Int32 × Int32 × Int32
  | 0 => (0, 0, 2, 60)
  | k + 1 => if W k 0 = 3 then ((trs V T W k).1, (trs V T W k).2.1, W k 1, W k 2) else if W k 0 = 2 then ((trs V T W k).1, (trs V T W k).2.1 + tlk V T (W k), (trs V T W k).2.2.1, (trs V T W k).2.2.2) else ((trs V T W k).1 + tlk V T (W k), (trs V T W k).2.1, (trs V T W k).2.2.1, (trs V T W k).2.2.2)
def tres (V T W : zT) (n : Nat) : Int32 := ((T 4 (nn (V 0 0)) - T 0 3) + (trs V T W n).2.2.1 * (trs V T W n).1) + (trs V T W n).2.2.2 * (trs V T W n).2.1
def qResult (G : zGl) (t : Int32) : Int32 := if isT G t = 0 then -1 else if gT G (nn t) 0 5 = 2 then tres (gV G) (gT G (nn t)) (gW G) (gn G) else -1
section
variable {E : zE} {d B w t ng n lo a : Nat} {S : zM} {I : Nat → Nat → Int32} {G : zGl} {V T W : zT}
theorem sp_rest13 (hk : mK S a = 13 ∨ mK S a = 14) : zCl E d 206 [zr (some a)] (zwi S I) (Sum.inl (some (zi 1)), zwi S I) := by
  refine zcl_in' zP_X13_isRest ?_; rw [zn_1_1]
  refine zat_in zP_X13_isRest zk_X13_isRest_0 ?_
  exact ev_r
theorem sp_rest12 : zCl E d 201 [zr (some a)] (zwi S I) (Sum.inl (some (zi 0)), zwi S I) := by
  refine zcl_in' zP_X12_isRest ?_; rw [zn_1_1]
  refine zat_in zP_X12_isRest zk_X12_isRest_0 ?_
  exact ev_r
theorem lp_X0_resultOf (b0 : mK S B = 1) (b3 : mJ S B 3 = some (B + 5)) (b8 : mJ S B 8 = some (B + 315)) (bk8 : mK S (B + 315) = 110) (bn8 : mN S (B + 315) = 10) (w0 : mK S (B + 5) = 4) (hS : xTS S t) (hP : xP I t (nn (T 0 0)) ng T) (h0 : sm (T 0 0) 16) (hT : IR T) (hLT : xLT S I lo (B + 315) n W) (hW : ∀ i, i < n → ∀ j, j < 4 → sm (W i j) 9999) (e11 : I B 11 = Int32.ofNat n) (el : I (B + 5) 4 = Int32.ofNat (nn (V 0 0))) (hl : nn (V 0 0) ≤ 12) : ∀ c k : Nat, k + c = n → ∀ u7 u8 : Option zV, zAt E (d + 3) 57 14 [some (zr (some B)), some (zr (some t)), some (zi (trs V T W k).1), some (zi (trs V T W k).2.1), some (zi (trs V T W k).2.2.1), some (zi (trs V T W k).2.2.2), some (zi (Int32.ofNat k)), u7, u8] [] (zwi S I) (Sum.inl (some (zi (tres V T W n))), zwi S I) := by
  have hn := hLT.1
  intro c
  induction c with
  | zero =>
    intro k hk u7 u8
    obtain rfl : k = n := hk
    have hS' := hS
    obtain ⟨⟨q1, q2, q3, q4⟩, ⟨qi1, qi2, qi3⟩, ⟨qa1, qa2, qa3⟩, ⟨qs1, qs2, qs3⟩, ⟨qf1, qf2, qf3⟩, ⟨qt1, qt2, qt3⟩, q5⟩ := hS
    have x4 := hP.un.2.2.2.2.2.1 (nn (V 0 0)) (by omega)
    have x3 := hP.un.1.2.2.2.1
    unfold tres
    refine zat_in zP_X0_resultOf zk_X0_resultOf_14 ?_
    simp (disch := omega) only [b_X0_resultOf_14, zif, zdr, zkb, mK_wi, mN_wi, mJ_wi, mI_wi, sI_wi, beq_self_eq_true, Bool.true_or, Bool.or_true, Bool.or_false, Bool.and_self, Bool.and_true, Bool.true_and, ↓reduceIte, ble_up0, i_cl, i_succ, zix_of, zfl_k, zup_k, zup_q, b0, e11, i_le, Nat.le_refl]
    refine ev_bk ?_
    refine zat_in zP_X0_resultOf zk_X0_resultOf_98 ?_; simp (disch := omega) only [b_X0_resultOf_98, zif, zdr, zkb, mK_wi, mN_wi, mJ_wi, mI_wi, sI_wi, beq_self_eq_true, Bool.true_or, Bool.or_true, Bool.or_false, Bool.and_self, Bool.and_true, Bool.true_and, ↓reduceIte, ble_up0, i_cl, i_succ, zix_of, zfl_k, zup_k, zup_q, b0, b3, w0, q1, q2, q3, q4, qi1, qi2, qi3, qa1, qa2, qa3, qs1, qs2, qs3, qf1, qf2, qf3, qt1, qt2, qt3, el, x4, x3]
    exact ev_r
  | succ c ih =>
    intro k hk u7 u8
    have hlt : (n ≤ k) = False := eq_false (by omega)
    obtain ⟨a, ha, hx⟩ := hLT.2 k (by omega)
    have hz : zix (Int32.ofNat k) 10 = true := zix_of (by omega) (by omega)
    have call := xlw_k (E := E) (d := d) (V := V) (w := B + 5) hx hS w0 hP h0 hT (hW k (by omega)) el hl
    have q1 := hS.1.1
    have j1 : ((14 : Nat) = 13) = False := eq_false (by decide)
    have j2 : ((15 : Nat) = 13) = False := eq_false (by decide)
    have j3 : ((15 : Nat) = 14) = False := eq_false (by decide)
    have j4 : ((16 : Nat) = 13) = False := eq_false (by decide)
    have j5 : ((16 : Nat) = 14) = False := eq_false (by decide)
    have j6 : ((16 : Nat) = 15) = False := eq_false (by decide)
    have n1 : ((1 : Int32) = 0) = False := eq_false (by decide)
    have f92 : ∀ (s dd x y v : Int32) (r : zR), zAt E (d + 3) 57 14 [some (zr (some B)), some (zr (some t)), some (zi s), some (zi dd), some (zi x), some (zi y), some (zi (Int32.ofNat (k + 1))), some (zr (some a)), some (zi v)] [] (zwi S I) r → zAt E (d + 3) 57 92 [some (zr (some B)), some (zr (some t)), some (zi s), some (zi dd), some (zi x), some (zi y), some (zi (Int32.ofNat k)), some (zr (some a)), some (zi v)] [] (zwi S I) r := by
      intro s dd x y v r hr
      refine zat_in zP_X0_resultOf zk_X0_resultOf_92 ?_; simp (disch := omega) only [b_X0_resultOf_92, zif, zdr, zkb, mK_wi, mN_wi, mJ_wi, mI_wi, sI_wi, beq_self_eq_true, Bool.true_or, Bool.or_true, Bool.or_false, Bool.and_self, Bool.and_true, Bool.true_and, ↓reduceIte, ble_up0, i_cl, i_succ, zix_of, zfl_k, zup_k, zup_q]
      exact ev_bk hr
    have ih' := ih (k + 1) (by omega)
    have hu : trs V T W (k + 1) = if W k 0 = 3 then ((trs V T W k).1, (trs V T W k).2.1, W k 1, W k 2) else if W k 0 = 2 then ((trs V T W k).1, (trs V T W k).2.1 + tlk V T (W k), (trs V T W k).2.2.1, (trs V T W k).2.2.2) else ((trs V T W k).1 + tlk V T (W k), (trs V T W k).2.1, (trs V T W k).2.2.1, (trs V T W k).2.2.2) := rfl
    have hx2 := hx.2.2
    rcases call with ⟨hk2, cl⟩ | ⟨hk2, cl⟩ | ⟨hk2, cl⟩
    · have w0' : ¬ W k 0 = 3 ∧ ¬ W k 0 = 2 := by
        rcases hx2 with q | q | q | q
        · rw [q.2.1]; exact ⟨by decide, by decide⟩
        · rw [q.2.1]; exact ⟨by decide, by decide⟩
        · rcases hk2 with z | z <;> exact absurd (q.1.symm.trans z) (by decide)
        · rcases hk2 with z | z <;> exact absurd (q.1.symm.trans z) (by decide)
      rw [hu, if_neg w0'.1, if_neg w0'.2] at ih'
      have f65 : ∀ (r : zR), zAt E (d + 3) 57 14 [some (zr (some B)), some (zr (some t)), some (zi ((trs V T W k).1 + tlk V T (W k))), some (zi (trs V T W k).2.1), some (zi (trs V T W k).2.2.1), some (zi (trs V T W k).2.2.2), some (zi (Int32.ofNat (k + 1))), some (zr (some a)), some (zi (tlk V T (W k)))] [] (zwi S I) r → zAt E (d + 3) 57 65 [some (zr (some B)), some (zr (some t)), some (zi ((trs V T W k).1 + tlk V T (W k))), some (zi (trs V T W k).2.1), some (zi (trs V T W k).2.2.1), some (zi (trs V T W k).2.2.2), some (zi (Int32.ofNat k)), some (zr (some a)), some (zi (tlk V T (W k)))] [] (zwi S I) r := by
        intro r hr
        rcases hk2 with z | z
        · have zb : (13 == 16) = false := by decide
          refine zat_in zP_X0_resultOf zk_X0_resultOf_65 ?_
          simp (disch := omega) only [b_X0_resultOf_65, zif, zdr, zkb, mK_wi, mN_wi, mJ_wi, mI_wi, sI_wi, beq_self_eq_true, Bool.true_or, Bool.or_true, Bool.or_false, Bool.and_self, Bool.and_true, Bool.true_and, ↓reduceIte, ble_up0, i_cl, i_succ, zix_of, zfl_k, zup_k, zup_q, z, zb, cond_false]
          exact ev_bk (f92 _ _ _ _ _ _ hr)
        · have zb : (14 == 16) = false := by decide
          refine zat_in zP_X0_resultOf zk_X0_resultOf_65 ?_
          simp (disch := omega) only [b_X0_resultOf_65, zif, zdr, zkb, mK_wi, mN_wi, mJ_wi, mI_wi, sI_wi, beq_self_eq_true, Bool.true_or, Bool.or_true, Bool.or_false, Bool.and_self, Bool.and_true, Bool.true_and, ↓reduceIte, ble_up0, i_cl, i_succ, zix_of, zfl_k, zup_k, zup_q, z, zb, cond_false]
          exact ev_bk (f92 _ _ _ _ _ _ hr)
      rcases hk2 with z | z
      · refine zat_in zP_X0_resultOf zk_X0_resultOf_14 ?_
        simp (disch := omega) only [b_X0_resultOf_14, zif, zdr, zkb, mK_wi, mN_wi, mJ_wi, mI_wi, sI_wi, beq_self_eq_true, Bool.true_or, Bool.or_true, Bool.or_false, Bool.and_self, Bool.and_true, Bool.true_and, ↓reduceIte, ble_up0, i_cl, i_succ, zix_of, zfl_k, zup_k, zup_q, b0, b3, b8, bk8, bn8, q1, w0, e11, i_le, hlt, hz, ha, z]
        refine ev_ci cl ?_
        simp (disch := omega) only [zif, zdr, zkb, mK_wi, mN_wi, mJ_wi, mI_wi, sI_wi, beq_self_eq_true, Bool.true_or, Bool.or_true, Bool.or_false, Bool.and_self, Bool.and_true, Bool.true_and, ↓reduceIte, ble_up0, i_cl, i_succ, zix_of, zfl_k, zup_k, zup_q, b0, b3, b8, bk8, bn8, q1, w0, hz, ha, z]
        refine ev_ci (sp_rest13 (Or.inl z)) ?_
        simp (disch := omega) only [zif, zdr, zkb, mK_wi, mN_wi, mJ_wi, mI_wi, sI_wi, beq_self_eq_true, Bool.true_or, Bool.or_true, Bool.or_false, Bool.and_self, Bool.and_true, Bool.true_and, ↓reduceIte, ble_up0, i_cl, i_succ, zix_of, zfl_k, zup_k, zup_q, n1, ha]
        exact ev_bk (f65 _ (ih' _ _))
      · refine zat_in zP_X0_resultOf zk_X0_resultOf_14 ?_
        simp (disch := omega) only [b_X0_resultOf_14, zif, zdr, zkb, mK_wi, mN_wi, mJ_wi, mI_wi, sI_wi, beq_self_eq_true, Bool.true_or, Bool.or_true, Bool.or_false, Bool.and_self, Bool.and_true, Bool.true_and, ↓reduceIte, ble_up0, i_cl, i_succ, zix_of, zfl_k, zup_k, zup_q, b0, b3, b8, bk8, bn8, q1, w0, e11, i_le, hlt, hz, ha, z, j1]
        refine ev_ci cl ?_
        simp (disch := omega) only [zif, zdr, zkb, mK_wi, mN_wi, mJ_wi, mI_wi, sI_wi, beq_self_eq_true, Bool.true_or, Bool.or_true, Bool.or_false, Bool.and_self, Bool.and_true, Bool.true_and, ↓reduceIte, ble_up0, i_cl, i_succ, zix_of, zfl_k, zup_k, zup_q, b0, b3, b8, bk8, bn8, q1, w0, hz, ha, z, j1]
        refine ev_ci (sp_rest13 (Or.inr z)) ?_
        simp (disch := omega) only [zif, zdr, zkb, mK_wi, mN_wi, mJ_wi, mI_wi, sI_wi, beq_self_eq_true, Bool.true_or, Bool.or_true, Bool.or_false, Bool.and_self, Bool.and_true, Bool.true_and, ↓reduceIte, ble_up0, i_cl, i_succ, zix_of, zfl_k, zup_k, zup_q, n1, ha]
        exact ev_bk (f65 _ (ih' _ _))
    · have w0' : W k 0 = 2 := by
        rcases hx2 with q | q | q | q
        · exact absurd (q.1.symm.trans hk2) (by decide)
        · exact absurd (q.1.symm.trans hk2) (by decide)
        · exact q.2.1
        · exact absurd (q.1.symm.trans hk2) (by decide)
      rw [hu, if_neg (by rw [w0']; decide), if_pos w0'] at ih'
      have zb : (15 == 16) = false := by decide
      refine zat_in zP_X0_resultOf zk_X0_resultOf_14 ?_
      simp (disch := omega) only [b_X0_resultOf_14, zif, zdr, zkb, mK_wi, mN_wi, mJ_wi, mI_wi, sI_wi, beq_self_eq_true, Bool.true_or, Bool.or_true, Bool.or_false, Bool.and_self, Bool.and_true, Bool.true_and, ↓reduceIte, ble_up0, i_cl, i_succ, zix_of, zfl_k, zup_k, zup_q, b0, b3, b8, bk8, bn8, q1, w0, e11, i_le, hlt, hz, ha, hk2, j2, j3]
      refine ev_ci cl ?_
      simp (disch := omega) only [zif, zdr, zkb, mK_wi, mN_wi, mJ_wi, mI_wi, sI_wi, beq_self_eq_true, Bool.true_or, Bool.or_true, Bool.or_false, Bool.and_self, Bool.and_true, Bool.true_and, ↓reduceIte, ble_up0, i_cl, i_succ, zix_of, zfl_k, zup_k, zup_q, b0, b3, b8, bk8, bn8, q1, w0, hz, ha, hk2, j2, j3]
      refine ev_ci sp_rest12 ?_
      simp (disch := omega) only [zif, zdr, zkb, mK_wi, mN_wi, mJ_wi, mI_wi, sI_wi, beq_self_eq_true, Bool.true_or, Bool.or_true, Bool.or_false, Bool.and_self, Bool.and_true, Bool.true_and, ↓reduceIte, ble_up0, i_cl, i_succ, zix_of, zfl_k, zup_k, zup_q, ha]
      refine ev_bk ?_
      refine zat_in zP_X0_resultOf zk_X0_resultOf_60 ?_
      simp only [b_X0_resultOf_60]
      refine ev_tl zP_X0_resultOf zk_X0_resultOf_65 ?_
      refine zat_in zP_X0_resultOf zk_X0_resultOf_65 ?_
      simp (disch := omega) only [b_X0_resultOf_65, zif, zdr, zkb, mK_wi, mN_wi, mJ_wi, mI_wi, sI_wi, beq_self_eq_true, Bool.true_or, Bool.or_true, Bool.or_false, Bool.and_self, Bool.and_true, Bool.true_and, ↓reduceIte, ble_up0, i_cl, i_succ, zix_of, zfl_k, zup_k, zup_q, hk2, zb, cond_false]
      exact ev_bk (f92 _ _ _ _ _ _ (ih' _ _))
    · have w0' : W k 0 = 3 ∧ I a 1 = W k 1 ∧ I a 2 = W k 2 := by
        rcases hx2 with q | q | q | q
        · exact absurd (q.1.symm.trans hk2) (by decide)
        · exact absurd (q.1.symm.trans hk2) (by decide)
        · exact absurd (q.1.symm.trans hk2) (by decide)
        · exact ⟨q.2.1, q.2.2.1, q.2.2.2.1⟩
      rw [hu, if_pos w0'.1] at ih'
      have zl : tlk V T (W k) = 0 := by
        unfold tlk
        rw [w0'.1, if_neg (by decide), if_neg (by decide), if_neg (by decide)]
      rw [zl] at cl
      have zb : (16 == 16) = true := by decide
      have za : (trs V T W k).2.1 + 0 = (trs V T W k).2.1 := by simp
      refine zat_in zP_X0_resultOf zk_X0_resultOf_14 ?_
      simp (disch := omega) only [b_X0_resultOf_14, zif, zdr, zkb, mK_wi, mN_wi, mJ_wi, mI_wi, sI_wi, beq_self_eq_true, Bool.true_or, Bool.or_true, Bool.or_false, Bool.and_self, Bool.and_true, Bool.true_and, ↓reduceIte, ble_up0, i_cl, i_succ, zix_of, zfl_k, zup_k, zup_q, b0, b3, b8, bk8, bn8, q1, w0, e11, i_le, hlt, hz, ha, hk2, j4, j5, j6]
      refine ev_ci cl ?_
      simp (disch := omega) only [zif, zdr, zkb, mK_wi, mN_wi, mJ_wi, mI_wi, sI_wi, beq_self_eq_true, Bool.true_or, Bool.or_true, Bool.or_false, Bool.and_self, Bool.and_true, Bool.true_and, ↓reduceIte, ble_up0, i_cl, i_succ, zix_of, zfl_k, zup_k, zup_q, b0, b3, b8, bk8, bn8, q1, w0, hz, ha, hk2, j4, j5, j6]
      refine ev_ci sp_rest12 ?_
      simp (disch := omega) only [zif, zdr, zkb, mK_wi, mN_wi, mJ_wi, mI_wi, sI_wi, beq_self_eq_true, Bool.true_or, Bool.or_true, Bool.or_false, Bool.and_self, Bool.and_true, Bool.true_and, ↓reduceIte, ble_up0, i_cl, i_succ, zix_of, zfl_k, zup_k, zup_q, ha]
      refine ev_bk ?_
      refine zat_in zP_X0_resultOf zk_X0_resultOf_60 ?_
      simp only [b_X0_resultOf_60, za]
      refine ev_tl zP_X0_resultOf zk_X0_resultOf_65 ?_
      refine zat_in zP_X0_resultOf zk_X0_resultOf_65 ?_
      simp (disch := omega) only [b_X0_resultOf_65, zif, zdr, zkb, mK_wi, mN_wi, mJ_wi, mI_wi, sI_wi, beq_self_eq_true, Bool.true_or, Bool.or_true, Bool.or_false, Bool.and_self, Bool.and_true, Bool.true_and, ↓reduceIte, ble_up0, i_cl, i_succ, zix_of, zfl_k, zup_k, zup_q, hk2, zb, cond_true, n1]
      refine ev_bk ?_
      refine zat_in zP_X0_resultOf zk_X0_resultOf_76 ?_
      simp (disch := omega) only [b_X0_resultOf_76, zif, zdr, zkb, mK_wi, mN_wi, mJ_wi, mI_wi, sI_wi, beq_self_eq_true, Bool.true_or, Bool.or_true, Bool.or_false, Bool.and_self, Bool.and_true, Bool.true_and, ↓reduceIte, ble_up0, i_cl, i_succ, zix_of, zfl_k, zup_k, zup_q, hk2, j4, j5, j6]
      refine ev_ci (xnum16 (v := W k 1) hk2 (by rw [if_pos rfl]; exact w0'.2.1)) ?_
      simp (disch := omega) only [zif, zdr, zkb, mK_wi, mN_wi, mJ_wi, mI_wi, sI_wi, beq_self_eq_true, Bool.true_or, Bool.or_true, Bool.or_false, Bool.and_self, Bool.and_true, Bool.true_and, ↓reduceIte, ble_up0, i_cl, i_succ, zix_of, zfl_k, zup_k, zup_q, hk2, j4, j5, j6]
      refine ev_ci (xnum16 (v := W k 2) hk2 (by rw [if_neg (by decide), if_pos rfl]; exact w0'.2.2)) ?_
      refine ev_tl zP_X0_resultOf zk_X0_resultOf_92 ?_
      exact f92 _ _ _ _ _ _ (ih' _ _)
end
