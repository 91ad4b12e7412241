/-! ===== the gaps of the radio, both sides ===== -/
set_option maxRecDepth 100000
def tgap (T : zT) (st : Int32) : Nat → Int32
  | 0 => 0
  | k + 1 => if tgap T st k = 0 then (if st < T 6 k then 0 else if T 7 k < st then 0 else 1) else 1
theorem tgap_b {T : zT} {st : Int32} : ∀ k, tgap T st k = 0 ∨ tgap T st k = 1
  | 0 => Or.inl rfl
  | k + 1 => by
    unfold tgap
    split
    · split
      · exact Or.inl rfl
      · split
        · exact Or.inl rfl
        · exact Or.inr rfl
    · exact Or.inr rfl
theorem tgap_1 {T : zT} {st : Int32} {k : Nat} (h : ¬ tgap T st k = 0) : ∀ c, tgap T st (k + c) = 1
  | 0 => (tgap_b k).resolve_left h
  | c + 1 => by
    show tgap T st (k + c + 1) = 1
    unfold tgap
    rw [if_neg (by rw [tgap_1 h c]; decide)]
section
variable {E : zE} {d t nd ng : Nat} {S : zM} {I : Nat → Nat → Int32} {T : zT}
theorem lp_X4_isQuiet {st : Int32} (hS : xTS S t) (hg : ng ≤ 4) (hP : xP I t nd ng T) (hg0 : T 0 13 = Int32.ofNat ng) : ∀ c k : Nat, k + c = ng → zAt E d 106 4 [some (zr (some t)), some (zi st), some (zi (tgap T st k)), some (zi (Int32.ofNat k))] [] (zwi S I) (Sum.inl (some (zi (tgap T st ng))), zwi S I) := by
  obtain ⟨⟨q1, q2, q3, q4⟩, ⟨qi1, qi2, qi3⟩, ⟨qa1, qa2, qa3⟩, ⟨qs1, qs2, qs3⟩, ⟨qf1, qf2, qf3⟩, ⟨qt1, qt2, qt3⟩, q5⟩ := hS
  have e0 : I t 19 = Int32.ofNat ng := (hP 0 13 (Or.inl ⟨rfl, by omega⟩)).trans hg0
  intro c
  induction c with
  | zero =>
    intro k hk
    obtain rfl : k = ng := hk
    refine zat_in zP_X4_isQuiet zk_X4_isQuiet_4 ?_; simp (disch := omega) only [b_X4_isQuiet_4, zif, zdr, zkb, mK_wi, mN_wi, mJ_wi, mI_wi, sI_wi, beq_self_eq_true, Bool.true_or, Bool.or_true, Bool.or_false, Bool.and_self, Bool.and_true, Bool.true_and, ↓reduceIte, q1, q2, q3, q4, qi1, qi2, qi3, qa1, qa2, qa3, qs1, qs2, qs3, qf1, qf2, qf3, qt1, qt2, qt3, e0, i_le, Nat.le_refl]
    refine ev_bk ?_
    refine zat_in zP_X4_isQuiet zk_X4_isQuiet_48 ?_; simp (disch := omega) only [b_X4_isQuiet_48, zif, zdr, zkb, mK_wi, mN_wi, mJ_wi, mI_wi, sI_wi, beq_self_eq_true, Bool.true_or, Bool.or_true, Bool.or_false, Bool.and_self, Bool.and_true, Bool.true_and, ↓reduceIte, z01 (tgap_b _)]
    exact ev_r
  | succ c ih =>
    intro k hk
    have hl : (ng ≤ k) = False := eq_false (by omega)
    have e1 : I (t + 5) k = T 6 k := hP 6 k (Or.inr (Or.inr (Or.inr (Or.inr (Or.inr (Or.inr (Or.inl ⟨rfl, by omega⟩)))))))
    have e2 : I (t + 6) k = T 7 k := hP 7 k (Or.inr (Or.inr (Or.inr (Or.inr (Or.inr (Or.inr (Or.inr (Or.inl ⟨rfl, by omega⟩))))))))
    have hz : zix (Int32.ofNat k) 4 = true := zix_of (by omega) (by omega)
    have h3 := ih (k + 1) (by omega)
    have hu : tgap T st (k + 1) = if tgap T st k = 0 then (if st < T 6 k then 0 else if T 7 k < st then 0 else 1) else 1 := rfl
    rw [hu] at h3
    by_cases h : tgap T st k = 0
    · rw [if_pos h] at h3
      refine zat_in zP_X4_isQuiet zk_X4_isQuiet_4 ?_; simp (disch := omega) only [b_X4_isQuiet_4, zif, zdr, zkb, mK_wi, mN_wi, mJ_wi, mI_wi, sI_wi, beq_self_eq_true, Bool.true_or, Bool.or_true, Bool.or_false, Bool.and_self, Bool.and_true, Bool.true_and, ↓reduceIte, q1, q2, q3, q4, qi1, qi2, qi3, qa1, qa2, qa3, qs1, qs2, qs3, qf1, qf2, qf3, qt1, qt2, qt3, e0, e1, e2, i_le, i_cl, hl, hz, eq_true h]
      refine ev_th _ (fun h => ?_) (fun h => ?_)
      · rw [if_pos h] at h3
        refine ev_bk ?_
        refine zat_in zP_X4_isQuiet zk_X4_isQuiet_40 ?_; simp (disch := omega) only [b_X4_isQuiet_40, zc_X4_isQuiet_41, b_X4_isQuiet_41, zif, zdr, zkb, mK_wi, mN_wi, mJ_wi, mI_wi, sI_wi, beq_self_eq_true, Bool.true_or, Bool.or_true, Bool.or_false, Bool.and_self, Bool.and_true, Bool.true_and, ↓reduceIte, i_succ]
        exact ev_bk h3
      · rw [if_neg h] at h3
        refine ev_th _ (fun h => ?_) (fun h => ?_)
        · rw [if_pos h] at h3
          refine ev_bk ?_
          refine zat_in zP_X4_isQuiet zk_X4_isQuiet_40 ?_; simp (disch := omega) only [b_X4_isQuiet_40, zc_X4_isQuiet_41, b_X4_isQuiet_41, zif, zdr, zkb, mK_wi, mN_wi, mJ_wi, mI_wi, sI_wi, beq_self_eq_true, Bool.true_or, Bool.or_true, Bool.or_false, Bool.and_self, Bool.and_true, Bool.true_and, ↓reduceIte, i_succ]
          exact ev_bk h3
        · rw [if_neg h] at h3
          refine ev_bk ?_
          refine zat_in zP_X4_isQuiet zk_X4_isQuiet_41 ?_; simp (disch := omega) only [b_X4_isQuiet_41, zif, zdr, zkb, mK_wi, mN_wi, mJ_wi, mI_wi, sI_wi, beq_self_eq_true, Bool.true_or, Bool.or_true, Bool.or_false, Bool.and_self, Bool.and_true, Bool.true_and, ↓reduceIte, i_succ]
          exact ev_bk h3
    · have h4 := tgap_1 h (c + 1)
      rw [hk] at h4
      have h5 := (tgap_b (T := T) (st := st) k).resolve_left h
      refine zat_in zP_X4_isQuiet zk_X4_isQuiet_4 ?_; simp (disch := omega) only [b_X4_isQuiet_4, zif, zdr, zkb, mK_wi, mN_wi, mJ_wi, mI_wi, sI_wi, beq_self_eq_true, Bool.true_or, Bool.or_true, Bool.or_false, Bool.and_self, Bool.and_true, Bool.true_and, ↓reduceIte, q1, q2, q3, q4, qi1, qi2, qi3, qa1, qa2, qa3, qs1, qs2, qs3, qf1, qf2, qf3, qt1, qt2, qt3, e0, i_le, hl, eq_false h]
      refine ev_bk ?_
      refine zat_in zP_X4_isQuiet zk_X4_isQuiet_48 ?_; simp (disch := omega) only [b_X4_isQuiet_48, zif, zdr, zkb, mK_wi, mN_wi, mJ_wi, mI_wi, sI_wi, beq_self_eq_true, Bool.true_or, Bool.or_true, Bool.or_false, Bool.and_self, Bool.and_true, Bool.true_and, ↓reduceIte, z01 (tgap_b _)]
      rw [h4, h5]
      exact ev_r
theorem sp_X4_isQuiet {st : Int32} (hS : xTS S t) (hg : ng ≤ 4) (hP : xP I t nd ng T) (hg0 : T 0 13 = Int32.ofNat ng) : zCl E d 106 [zr (some t), zi st] (zwi S I) (Sum.inl (some (zi (tgap T st ng))), zwi S I) := by
  refine zcl_in' zP_X4_isQuiet ?_; rw [zn_2_4]
  refine zat_in zP_X4_isQuiet zk_X4_isQuiet_0 ?_
  simp only [b_X4_isQuiet_0]
  exact ev_tl zP_X4_isQuiet zk_X4_isQuiet_4 (lp_X4_isQuiet hS hg hP hg0 ng 0 (by omega))
theorem lp_X7_inGap {st : Int32} (hS : mTS S t) (hg : ng ≤ 4) (hP : mP I t nd ng T) (hg0 : T 0 13 = Int32.ofNat ng) : ∀ c k : Nat, k + c = ng → zAt E d 186 4 [some (zr (some t)), some (zi st), some (zi (tgap T st k)), some (zi (Int32.ofNat k))] [] (zwi S I) (Sum.inl (some (zi (tgap T st ng))), zwi S I) := by
  obtain ⟨p0, ⟨ps1, ps2, ps3⟩, ⟨pt1, pt2, pt3⟩, ⟨pl1, pl2, pl3⟩, ⟨pc1, pc2, pc3⟩, ⟨pw1, pw2, pw3⟩, ⟨pn1, pn2, pn3⟩, ⟨py1, py2, py3⟩, ⟨pf1, pf2, pf3⟩, ⟨pg1, pg2, pg3⟩⟩ := hS
  have e0 : I t 12 = Int32.ofNat ng := (hP 0 13 (Or.inl ⟨rfl, by omega⟩) (by omega)).trans hg0
  intro c
  induction c with
  | zero =>
    intro k hk
    obtain rfl : k = ng := hk
    refine zat_in zP_X7_inGap zk_X7_inGap_4 ?_; simp (disch := omega) only [b_X7_inGap_4, zc_X7_inGap_36, b_X7_inGap_36, zif, zdr, zkb, mK_wi, mN_wi, mJ_wi, mI_wi, sI_wi, beq_self_eq_true, Bool.true_or, Bool.or_true, Bool.or_false, Bool.and_self, Bool.and_true, Bool.true_and, ↓reduceIte, p0, ps1, ps2, ps3, pt1, pt2, pt3, pl1, pl2, pl3, pc1, pc2, pc3, pw1, pw2, pw3, pn1, pn2, pn3, py1, py2, py3, pf1, pf2, pf3, pg1, pg2, pg3, e0, i_le, Nat.le_refl]
    refine ev_bk ?_
    refine zat_in zP_X7_inGap zk_X7_inGap_48 ?_; simp (disch := omega) only [b_X7_inGap_48, zif, zdr, zkb, mK_wi, mN_wi, mJ_wi, mI_wi, sI_wi, beq_self_eq_true, Bool.true_or, Bool.or_true, Bool.or_false, Bool.and_self, Bool.and_true, Bool.true_and, ↓reduceIte, z01 (tgap_b _)]
    exact ev_r
  | succ c ih =>
    intro k hk
    have hl : (ng ≤ k) = False := eq_false (by omega)
    have e1 : I (t + 8) k = T 6 k := hP 6 k (Or.inr (Or.inr (Or.inr (Or.inr (Or.inr (Or.inr (Or.inl ⟨rfl, by omega⟩))))))) (by omega)
    have e2 : I (t + 9) k = T 7 k := hP 7 k (Or.inr (Or.inr (Or.inr (Or.inr (Or.inr (Or.inr (Or.inr (Or.inl ⟨rfl, by omega⟩)))))))) (by omega)
    have hz : zix (Int32.ofNat k) 4 = true := zix_of (by omega) (by omega)
    have h3 := ih (k + 1) (by omega)
    have hu : tgap T st (k + 1) = if tgap T st k = 0 then (if st < T 6 k then 0 else if T 7 k < st then 0 else 1) else 1 := rfl
    rw [hu] at h3
    by_cases h : tgap T st k = 0
    · rw [if_pos h] at h3
      refine zat_in zP_X7_inGap zk_X7_inGap_4 ?_
      simp (disch := omega) only [b_X7_inGap_4, zif, zdr, zkb, mK_wi, mN_wi, mJ_wi, mI_wi, sI_wi, beq_self_eq_true, Bool.true_or, Bool.or_true, Bool.or_false, Bool.and_self, Bool.and_true, Bool.true_and, ↓reduceIte, p0, ps1, ps2, ps3, pt1, pt2, pt3, pl1, pl2, pl3, pc1, pc2, pc3, pw1, pw2, pw3, pn1, pn2, pn3, py1, py2, py3, pf1, pf2, pf3, pg1, pg2, pg3, e0, e1, e2, i_le, i_cl, hl, hz, eq_true h]
      refine ev_th _ (fun h => ?_) (fun h => ?_)
      · rw [if_pos h] at h3
        refine ev_bk ?_
        refine zat_in zP_X7_inGap zk_X7_inGap_40 ?_; simp (disch := omega) only [b_X7_inGap_40, zc_X7_inGap_41, b_X7_inGap_41, zif, zdr, zkb, mK_wi, mN_wi, mJ_wi, mI_wi, sI_wi, beq_self_eq_true, Bool.true_or, Bool.or_true, Bool.or_false, Bool.and_self, Bool.and_true, Bool.true_and, ↓reduceIte, i_succ]
        exact ev_bk h3
      · rw [if_neg h] at h3
        refine ev_th _ (fun h => ?_) (fun h => ?_)
        · rw [if_pos h] at h3
          refine ev_bk ?_
          refine zat_in zP_X7_inGap zk_X7_inGap_40 ?_; simp (disch := omega) only [b_X7_inGap_40, zc_X7_inGap_41, b_X7_inGap_41, zif, zdr, zkb, mK_wi, mN_wi, mJ_wi, mI_wi, sI_wi, beq_self_eq_true, Bool.true_or, Bool.or_true, Bool.or_false, Bool.and_self, Bool.and_true, Bool.true_and, ↓reduceIte, i_succ]
          exact ev_bk h3
        · rw [if_neg h] at h3
          refine ev_tl zP_X7_inGap zk_X7_inGap_36 ?_
          refine zat_in zP_X7_inGap zk_X7_inGap_36 ?_; simp (disch := omega) only [b_X7_inGap_36, zif, zdr, zkb, mK_wi, mN_wi, mJ_wi, mI_wi, sI_wi, beq_self_eq_true, Bool.true_or, Bool.or_true, Bool.or_false, Bool.and_self, Bool.and_true, Bool.true_and, ↓reduceIte]
          refine ev_bk ?_
          refine zat_in zP_X7_inGap zk_X7_inGap_41 ?_; simp (disch := omega) only [b_X7_inGap_41, zif, zdr, zkb, mK_wi, mN_wi, mJ_wi, mI_wi, sI_wi, beq_self_eq_true, Bool.true_or, Bool.or_true, Bool.or_false, Bool.and_self, Bool.and_true, Bool.true_and, ↓reduceIte, i_succ]
          exact ev_bk h3
    · rw [if_neg h] at h3
      refine zat_in zP_X7_inGap zk_X7_inGap_4 ?_
      simp (disch := omega) only [b_X7_inGap_4, zif, zdr, zkb, mK_wi, mN_wi, mJ_wi, mI_wi, sI_wi, beq_self_eq_true, Bool.true_or, Bool.or_true, Bool.or_false, Bool.and_self, Bool.and_true, Bool.true_and, ↓reduceIte, p0, ps1, ps2, ps3, pt1, pt2, pt3, pl1, pl2, pl3, pc1, pc2, pc3, pw1, pw2, pw3, pn1, pn2, pn3, py1, py2, py3, pf1, pf2, pf3, pg1, pg2, pg3, e0, i_le, hl, eq_false h]
      refine ev_bk ?_
      refine zat_in zP_X7_inGap zk_X7_inGap_36 ?_; simp (disch := omega) only [b_X7_inGap_36, zif, zdr, zkb, mK_wi, mN_wi, mJ_wi, mI_wi, sI_wi, beq_self_eq_true, Bool.true_or, Bool.or_true, Bool.or_false, Bool.and_self, Bool.and_true, Bool.true_and, ↓reduceIte]
      refine ev_bk ?_
      refine zat_in zP_X7_inGap zk_X7_inGap_41 ?_; simp (disch := omega) only [b_X7_inGap_41, zif, zdr, zkb, mK_wi, mN_wi, mJ_wi, mI_wi, sI_wi, beq_self_eq_true, Bool.true_or, Bool.or_true, Bool.or_false, Bool.and_self, Bool.and_true, Bool.true_and, ↓reduceIte, i_succ]
      exact ev_bk h3
theorem sp_X7_inGap {st : Int32} (hS : mTS S t) (hg : ng ≤ 4) (hP : mP I t nd ng T) (hg0 : T 0 13 = Int32.ofNat ng) : zCl E d 186 [zr (some t), zi st] (zwi S I) (Sum.inl (some (zi (tgap T st ng))), zwi S I) := by
  refine zcl_in' zP_X7_inGap ?_; rw [zn_2_4]
  refine zat_in zP_X7_inGap zk_X7_inGap_0 ?_
  simp only [b_X7_inGap_0]
  exact ev_tl zP_X7_inGap zk_X7_inGap_4 (lp_X7_inGap hS hg hP hg0 ng 0 (by omega))
end
