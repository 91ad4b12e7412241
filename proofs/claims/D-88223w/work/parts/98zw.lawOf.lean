/-! ===== a law is read (class) ===== -/
set_option maxRecDepth 100000
/-- a law of these numbers, new from m on -/
def xLn (S : zM) (I : Nat → Nat → Int32) (m a : Nat) (t : Int32 × Int32 × Int32 × Int32) : Prop := m ≤ a ∧ a < mS S ∧ I a 0 = t.1 ∧ ((mK S a = 14 ∧ t.1 = 0 ∧ I a 1 = t.2.1 ∧ I a 2 = t.2.2.1 ∧ I a 3 = t.2.2.1 ∧ t.2.2.2 = 0) ∨ (mK S a = 13 ∧ t.1 = 1 ∧ I a 1 = t.2.1 ∧ I a 2 = t.2.2.1 ∧ I a 3 = t.2.2.2) ∨ (mK S a = 15 ∧ t.1 = 2 ∧ I a 1 = t.2.1 ∧ t.2.2.1 = 0 ∧ t.2.2.2 = 0) ∨ (mK S a = 16 ∧ t.1 = 3 ∧ I a 1 = t.2.1 ∧ I a 2 = t.2.2.1 ∧ t.2.2.2 = 0))
theorem iw_n {X : zTx} {e i : Nat} (h : iw X e i = 0) : ¬ isw X e i := fun q => by
  rw [iw_1 q] at h
  exact absurd h (by decide)
theorem iw_y {X : zTx} {e i : Nat} (h : ¬ iw X e i = 0) : isw X e i := Classical.byContradiction (fun q => h (iw_0 q))
section
variable {E : zE} {d B m c u e a : Nat} {S S' : zM} {I I' J : Nat → Nat → Int32} {X : zTx} {n b v : Int32}
theorem xRD.wr (hR : xRD E S I B X e) (ha : B + 466 ≤ a) (hk : mK S a ≠ 17) (hk2 : mK S a ≠ 102) (hJ : ∀ x k, x ≠ a → J x k = I x k) : xRD E S J B X e :=
  hR.fx (Nat.le_refl _) (fun _ _ => ⟨rfl, rfl⟩) (fun _ _ _ _ => rfl) (fun x i hx hq => hJ x i (fun z => by
    subst z
    rcases hq with hq | hq | hq
    · omega
    · exact hk hq
    · exact hk2 hq)) hR.2.2.2.2.1
theorem rFr.wr (h : rFr B m c u S S' I I') (ha : m ≤ a) (hJ : ∀ x k, x ≠ a → J x k = I' x k) : rFr B m c u S S' I J := by
  obtain ⟨h1, h2, h3, h4, h5⟩ := h
  exact ⟨h1, h2, h3, fun x k hx hk hr => (hJ x k (by omega)).trans (h4 x k hx hk hr), h5⟩
theorem sp_X14_init (hB : E.1 ≤ a) (hk : mK S a = 14) : zCl E (d + 2) 208 [zr (some a), zi n, zi b] (zwi S I) (Sum.inl none, zwi S (zup (zup (zup (zup I a 0 0) a 1 n) a 2 b) a 3 b)) := by
  have c12 : zCl E d 199 [zr (some a), zi 0] (zwi S I) (Sum.inl none, zwi S (zup I a 0 0)) := by
    refine zcl_in' zP_X12_init ?_; rw [zn_2_2]
    refine zat_in zP_X12_init zk_X12_init_0 ?_
    simp (disch := omega) only [b_X12_init_0, zif, zdr, zkb, mK_wi, mN_wi, mJ_wi, mI_wi, sI_wi, beq_self_eq_true, Bool.true_or, Bool.or_true, Bool.or_false, Bool.and_self, Bool.and_true, Bool.true_and, ↓reduceIte, ble_up0, i_cl, i_succ, zix_of, zfl_k, zup_k, zup_q, hk]
    exact ev_r
  have c13 : zCl E (d + 1) 203 [zr (some a), zi 0, zi n, zi b, zi b] (zwi S I) (Sum.inl none, zwi S (zup (zup (zup (zup I a 0 0) a 1 n) a 2 b) a 3 b)) := by
    refine zcl_in' zP_X13_init ?_; rw [zn_5_5]
    refine zat_in zP_X13_init zk_X13_init_0 ?_
    simp (disch := omega) only [b_X13_init_0, zif, zdr, zkb, mK_wi, mN_wi, mJ_wi, mI_wi, sI_wi, beq_self_eq_true, Bool.true_or, Bool.or_true, Bool.or_false, Bool.and_self, Bool.and_true, Bool.true_and, ↓reduceIte, ble_up0, i_cl, i_succ, zix_of, zfl_k, zup_k, zup_q]
    refine ev_cv c12 ?_
    try simp (disch := omega) only [zif, zdr, zkb, mK_wi, mN_wi, mJ_wi, mI_wi, sI_wi, beq_self_eq_true, Bool.true_or, Bool.or_true, Bool.or_false, Bool.and_self, Bool.and_true, Bool.true_and, ↓reduceIte, ble_up0, i_cl, i_succ, zix_of, zfl_k, zup_k, zup_q, hk]
    exact ev_r
  refine zcl_in' zP_X14_init ?_; rw [zn_3_3]
  refine zat_in zP_X14_init zk_X14_init_0 ?_
  simp (disch := omega) only [b_X14_init_0, zif, zdr, zkb, mK_wi, mN_wi, mJ_wi, mI_wi, sI_wi, beq_self_eq_true, Bool.true_or, Bool.or_true, Bool.or_false, Bool.and_self, Bool.and_true, Bool.true_and, ↓reduceIte, ble_up0, i_cl, i_succ, zix_of, zfl_k, zup_k, zup_q]
  refine ev_cv c13 ?_
  exact ev_r
theorem sp_X13_init_2 (hB : E.1 ≤ a) (hk : mK S a = 13) : zCl E (d + 2) 204 [zr (some a), zi n, zi b, zi v] (zwi S I) (Sum.inl none, zwi S (zup (zup (zup (zup I a 0 1) a 1 n) a 2 b) a 3 v)) := by
  have c12 : zCl E d 199 [zr (some a), zi 1] (zwi S I) (Sum.inl none, zwi S (zup I a 0 1)) := by
    refine zcl_in' zP_X12_init ?_; rw [zn_2_2]
    refine zat_in zP_X12_init zk_X12_init_0 ?_
    simp (disch := omega) only [b_X12_init_0, zif, zdr, zkb, mK_wi, mN_wi, mJ_wi, mI_wi, sI_wi, beq_self_eq_true, Bool.true_or, Bool.or_true, Bool.or_false, Bool.and_self, Bool.and_true, Bool.true_and, ↓reduceIte, ble_up0, i_cl, i_succ, zix_of, zfl_k, zup_k, zup_q, hk]
    exact ev_r
  have c13 : zCl E (d + 1) 203 [zr (some a), zi 1, zi n, zi b, zi v] (zwi S I) (Sum.inl none, zwi S (zup (zup (zup (zup I a 0 1) a 1 n) a 2 b) a 3 v)) := by
    refine zcl_in' zP_X13_init ?_; rw [zn_5_5]
    refine zat_in zP_X13_init zk_X13_init_0 ?_
    simp (disch := omega) only [b_X13_init_0, zif, zdr, zkb, mK_wi, mN_wi, mJ_wi, mI_wi, sI_wi, beq_self_eq_true, Bool.true_or, Bool.or_true, Bool.or_false, Bool.and_self, Bool.and_true, Bool.true_and, ↓reduceIte, ble_up0, i_cl, i_succ, zix_of, zfl_k, zup_k, zup_q]
    refine ev_cv c12 ?_
    try simp (disch := omega) only [zif, zdr, zkb, mK_wi, mN_wi, mJ_wi, mI_wi, sI_wi, beq_self_eq_true, Bool.true_or, Bool.or_true, Bool.or_false, Bool.and_self, Bool.and_true, Bool.true_and, ↓reduceIte, ble_up0, i_cl, i_succ, zix_of, zfl_k, zup_k, zup_q, hk]
    exact ev_r
  refine zcl_in' zP_X13_init_2 ?_; rw [zn_4_4]
  refine zat_in zP_X13_init_2 zk_X13_init_2_0 ?_
  simp (disch := omega) only [b_X13_init_2_0, zif, zdr, zkb, mK_wi, mN_wi, mJ_wi, mI_wi, sI_wi, beq_self_eq_true, Bool.true_or, Bool.or_true, Bool.or_false, Bool.and_self, Bool.and_true, Bool.true_and, ↓reduceIte, ble_up0, i_cl, i_succ, zix_of, zfl_k, zup_k, zup_q]
  refine ev_cv c13 ?_
  exact ev_r
theorem sp_X15_init (hB : E.1 ≤ a) (hk : mK S a = 15) : zCl E (d + 1) 210 [zr (some a), zi n] (zwi S I) (Sum.inl none, zwi S (zup (zup I a 0 2) a 1 n)) := by
  have c12 : zCl E d 199 [zr (some a), zi 2] (zwi S I) (Sum.inl none, zwi S (zup I a 0 2)) := by
    refine zcl_in' zP_X12_init ?_; rw [zn_2_2]
    refine zat_in zP_X12_init zk_X12_init_0 ?_
    simp (disch := omega) only [b_X12_init_0, zif, zdr, zkb, mK_wi, mN_wi, mJ_wi, mI_wi, sI_wi, beq_self_eq_true, Bool.true_or, Bool.or_true, Bool.or_false, Bool.and_self, Bool.and_true, Bool.true_and, ↓reduceIte, ble_up0, i_cl, i_succ, zix_of, zfl_k, zup_k, zup_q, hk]
    exact ev_r
  refine zcl_in' zP_X15_init ?_; rw [zn_2_2]
  refine zat_in zP_X15_init zk_X15_init_0 ?_
  simp (disch := omega) only [b_X15_init_0, zif, zdr, zkb, mK_wi, mN_wi, mJ_wi, mI_wi, sI_wi, beq_self_eq_true, Bool.true_or, Bool.or_true, Bool.or_false, Bool.and_self, Bool.and_true, Bool.true_and, ↓reduceIte, ble_up0, i_cl, i_succ, zix_of, zfl_k, zup_k, zup_q]
  refine ev_cv c12 ?_
  try simp (disch := omega) only [zif, zdr, zkb, mK_wi, mN_wi, mJ_wi, mI_wi, sI_wi, beq_self_eq_true, Bool.true_or, Bool.or_true, Bool.or_false, Bool.and_self, Bool.and_true, Bool.true_and, ↓reduceIte, ble_up0, i_cl, i_succ, zix_of, zfl_k, zup_k, zup_q, hk]
  exact ev_r
theorem sp_X16_init (hB : E.1 ≤ a) (hk : mK S a = 16) : zCl E (d + 1) 213 [zr (some a), zi n, zi b] (zwi S I) (Sum.inl none, zwi S (zup (zup (zup I a 0 3) a 1 n) a 2 b)) := by
  have c12 : zCl E d 199 [zr (some a), zi 3] (zwi S I) (Sum.inl none, zwi S (zup I a 0 3)) := by
    refine zcl_in' zP_X12_init ?_; rw [zn_2_2]
    refine zat_in zP_X12_init zk_X12_init_0 ?_
    simp (disch := omega) only [b_X12_init_0, zif, zdr, zkb, mK_wi, mN_wi, mJ_wi, mI_wi, sI_wi, beq_self_eq_true, Bool.true_or, Bool.or_true, Bool.or_false, Bool.and_self, Bool.and_true, Bool.true_and, ↓reduceIte, ble_up0, i_cl, i_succ, zix_of, zfl_k, zup_k, zup_q, hk]
    exact ev_r
  refine zcl_in' zP_X16_init ?_; rw [zn_3_3]
  refine zat_in zP_X16_init zk_X16_init_0 ?_
  simp (disch := omega) only [b_X16_init_0, zif, zdr, zkb, mK_wi, mN_wi, mJ_wi, mI_wi, sI_wi, beq_self_eq_true, Bool.true_or, Bool.or_true, Bool.or_false, Bool.and_self, Bool.and_true, Bool.true_and, ↓reduceIte, ble_up0, i_cl, i_succ, zix_of, zfl_k, zup_k, zup_q]
  refine ev_cv c12 ?_
  try simp (disch := omega) only [zif, zdr, zkb, mK_wi, mN_wi, mJ_wi, mI_wi, sI_wi, beq_self_eq_true, Bool.true_or, Bool.or_true, Bool.or_false, Bool.and_self, Bool.and_true, Bool.true_and, ↓reduceIte, ble_up0, i_cl, i_succ, zix_of, zfl_k, zup_k, zup_q, hk]
  exact ev_r
/-- a new cell, then a number: both ways -/
theorem al_num (κ w : Nat) (hB : E.1 ≤ B) (hR : xRD E S I B X e) : (tK X e ≠ 3 → ∃ I', zCl E (d + 6) 81 [zr (some (B + 2))] (zwi (zal S κ 0 w) (zwn I (mS S))) (Sum.inr (B + 3), zwi (zal S κ 0 w) I') ∧ xTh I' B 1 (kA X e) ∧ rFr B (mS S) 1 w S (zal S κ 0 w) I I') ∧ (tK X e = 3 → ∃ S' I', zCl E (d + 6) 81 [zr (some (B + 2))] (zwi (zal S κ 0 w) (zwn I (mS S))) (Sum.inl (some (zi (tN X e))), zwi S' I') ∧ xRD E S' I' B X (tE X e) ∧ mK S' (mS S) = κ ∧ mS S < mS S' ∧ rFr B (mS S) 3 (w + 12) S S' I I') := by
  have R1 := hR.al (κ := κ) (n := 0) (w := w)
  have f1 := rFr.al (B := B) (S := S) (I := I) (κ := κ) (n := 0) (w := w) hR.2.2.2.2.1
  refine ⟨fun h => ?_, fun h => ?_⟩
  · obtain ⟨I2, a2, b2, f2⟩ := sp_X1_number_0 (d := d + 3) hB R1 h
    exact ⟨I2, a2, b2, (f1.tr (f2.wd (show mS S ≤ mS S + 1 by omega) (Nat.le_refl _) (Nat.le_refl _))).wd (Nat.le_refl _) (by omega) (by omega)⟩
  · obtain ⟨S2, I2, a2, R2, f2⟩ := sp_X1_number_1 (d := d + 1) hB R1 h
    have h1 : mS S + 1 ≤ mS S2 := f2.1.1
    exact ⟨S2, I2, a2, R2, (f2.2.1 (mS S) (show mS S < mS S + 1 by omega)).1.trans (mK_al_q rfl), by omega, (f1.tr (f2.wd (show mS S ≤ mS S + 1 by omega) (Nat.le_refl _) (Nat.le_refl _))).wd (Nat.le_refl _) (by omega) (by omega)⟩
theorem sp_X0_lawOf (hB : E.1 ≤ B) (hR : xRD E S I B X e) : (∀ f p, pLw X e = Sum.inl (f, p) → ∃ S' I', zCl E (d + 7) 42 [zr (some (B + 2))] (zwi S I) (Sum.inr (B + 3), zwi S' I') ∧ xTh I' B f p ∧ rFr B (mS S) 13 76 S S' I I') ∧ (∀ t e', pLw X e = Sum.inr (t, e') → ∃ S' I' a, zCl E (d + 7) 42 [zr (some (B + 2))] (zwi S I) (Sum.inl (some (zr (some a))), zwi S' I') ∧ xRD E S' I' B X e' ∧ xLn S' I' (mS S) a t ∧ rFr B (mS S) 13 76 S S' I I') := by
  have bk2 := hR.1.2.1
  have hm := hR.2.2.2.1
  have e0 := @b_X0_lawOf_0
  have e36 := @b_X0_lawOf_36
  have e67 := @b_X0_lawOf_67
  have e88 := @b_X0_lawOf_88
  unfold pLw
  by_cases c5 : iw X e 5 = 0
  · have t5 := sp_X1_takes_0 (E := E) (d := d + 3) hR (i := 5) (by decide) (iw_n c5)
    rw [if_pos c5]
    have st67 : ∀ z, zAt E (d + 7) 42 67 [some (zr (some (B + 2))), none, none] [] (zwi S I) z → zCl E (d + 7) 42 [zr (some (B + 2))] (zwi S I) z := by
      intro z hz
      refine zcl_in' zP_X0_lawOf ?_; rw [zn_1_3]
      refine zat_in zP_X0_lawOf zk_X0_lawOf_0 ?_
      simp (disch := omega) only [e0, zif, zdr, zkb, mK_wi, mN_wi, mJ_wi, mI_wi, sI_wi, beq_self_eq_true, Bool.true_or, Bool.or_true, Bool.or_false, Bool.and_self, Bool.and_true, Bool.true_and, ↓reduceIte, ble_up0, i_cl, i_succ, zix_of, zfl_k, zup_k, zup_q, bk2]
      refine ev_ci t5 ?_
      refine ev_th _ (fun _ => ev_bk hz) (fun h => (h (by first | rfl | trivial)).elim)
    by_cases c10 : iw X e 10 = 0
    · have t10 := sp_X1_takes_0 (E := E) (d := d + 3) hR (i := 10) (by decide) (iw_n c10)
      rw [if_pos c10]
      have st88 : ∀ z, zAt E (d + 7) 42 88 [some (zr (some (B + 2))), none, none] [] (zwi S I) z → zCl E (d + 7) 42 [zr (some (B + 2))] (zwi S I) z := by
        intro z hz
        refine st67 z ?_
        refine zat_in zP_X0_lawOf zk_X0_lawOf_67 ?_
        simp (disch := omega) only [e67, zif, zdr, zkb, mK_wi, mN_wi, mJ_wi, mI_wi, sI_wi, beq_self_eq_true, Bool.true_or, Bool.or_true, Bool.or_false, Bool.and_self, Bool.and_true, Bool.true_and, ↓reduceIte, ble_up0, i_cl, i_succ, zix_of, zfl_k, zup_k, zup_q, bk2]
        refine ev_ci t10 ?_
        refine ev_th _ (fun _ => ev_bk hz) (fun h => (h (by first | rfl | trivial)).elim)
      by_cases c18 : iw X e 18 = 0
      · rw [if_pos c18]
        refine ⟨fun f p h => ?_, fun t e' h => by cases h⟩
        obtain ⟨rfl, rfl⟩ := Prod.mk.inj (Sum.inl.inj h)
        obtain ⟨I1, a1, b1, f1⟩ := sp_X1_must_0 (E := E) (d := d + 2) hB hR (i := 18) (by decide) (iw_n c18)
        refine ⟨S, I1, st88 _ ?_, b1, f1.wd (Nat.le_refl _) (by omega) (by omega)⟩
        refine zat_in zP_X0_lawOf zk_X0_lawOf_88 ?_
        simp (disch := omega) only [e88, zif, zdr, zkb, mK_wi, mN_wi, mJ_wi, mI_wi, sI_wi, beq_self_eq_true, Bool.true_or, Bool.or_true, Bool.or_false, Bool.and_self, Bool.and_true, Bool.true_and, ↓reduceIte, ble_up0, i_cl, i_succ, zix_of, zfl_k, zup_k, zup_q, bk2]
        refine ev_cvx a1 ?_
        exact ev_r
      · rw [if_neg c18]
        obtain ⟨S1, I1, a1, R1, f1⟩ := sp_X1_must_1 (E := E) (d := d) hB hR (i := 18) (by decide) (iw_y c18)
        have bk1 := R1.1.2.1
        have m1 := f1.1.1
        by_cases n1 : tK X (tE X e) = 3
        · rw [if_pos n1]
          obtain ⟨S2, I2, a2, R2, f2⟩ := sp_X1_number_1 (d := d + 1) hB R1 n1
          have bk2' := R2.1.2.1
          have m2 := f2.1.1
          by_cases c19 : iw X (tE X (tE X e)) 19 = 0
          · rw [if_pos c19]
            refine ⟨fun f p h => ?_, fun t e' h => by cases h⟩
            obtain ⟨rfl, rfl⟩ := Prod.mk.inj (Sum.inl.inj h)
            obtain ⟨I3, a3, b3, f3⟩ := sp_X1_must_0 (E := E) (d := d + 2) hB R2 (i := 19) (by decide) (iw_n c19)
            refine ⟨S2, I3, st88 _ ?_, b3, ((f1.tr (f2.wd m1 (Nat.le_refl _) (Nat.le_refl _))).tr (f3.wd (show mS S ≤ mS S2 by omega) (Nat.le_refl _) (Nat.le_refl _))).wd (Nat.le_refl _) (by omega) (by omega)⟩
            refine zat_in zP_X0_lawOf zk_X0_lawOf_88 ?_
            simp (disch := omega) only [e88, zif, zdr, zkb, mK_wi, mN_wi, mJ_wi, mI_wi, sI_wi, beq_self_eq_true, Bool.true_or, Bool.or_true, Bool.or_false, Bool.and_self, Bool.and_true, Bool.true_and, ↓reduceIte, ble_up0, i_cl, i_succ, zix_of, zfl_k, zup_k, zup_q, bk2]
            refine ev_cv a1 ?_
            try simp (disch := omega) only [zif, zdr, zkb, mK_wi, mN_wi, mJ_wi, mI_wi, sI_wi, beq_self_eq_true, Bool.true_or, Bool.or_true, Bool.or_false, Bool.and_self, Bool.and_true, Bool.true_and, ↓reduceIte, ble_up0, i_cl, i_succ, zix_of, zfl_k, zup_k, zup_q, bk1]
            refine ev_ci a2 ?_
            try simp (disch := omega) only [zif, zdr, zkb, mK_wi, mN_wi, mJ_wi, mI_wi, sI_wi, beq_self_eq_true, Bool.true_or, Bool.or_true, Bool.or_false, Bool.and_self, Bool.and_true, Bool.true_and, ↓reduceIte, ble_up0, i_cl, i_succ, zix_of, zfl_k, zup_k, zup_q, bk2']
            refine ev_cvx a3 ?_
            exact ev_r
          · rw [if_neg c19]
            obtain ⟨S3, I3, a3, R3, f3⟩ := sp_X1_must_1 (E := E) (d := d) hB R2 (i := 19) (by decide) (iw_y c19)
            have bk3 := R3.1.2.1
            have m3 := f3.1.1
            have fA := (f1.tr (f2.wd m1 (Nat.le_refl _) (Nat.le_refl _))).tr (f3.wd (show mS S ≤ mS S2 by omega) (Nat.le_refl _) (Nat.le_refl _))
            obtain ⟨x0, x1⟩ := al_num (d := d) 16 3 hB R3
            have kb : mK (zal S3 16 0 3) (B + 2) = 2 := (mK_al_k (by have := R3.2.2.2.1; omega)).trans bk3
            by_cases n3 : tK X (tE X (tE X (tE X e))) = 3
            · rw [if_pos n3]
              refine ⟨fun f p h => (by cases h), fun t e' h => ?_⟩
              obtain ⟨rfl, rfl⟩ := Prod.mk.inj (Sum.inr.inj h)
              obtain ⟨S4, I4, a4, R4, k4, m4, f4⟩ := x1 n3
              have ci := sp_X16_init (E := E) (d := d + 5) (S := S4) (I := I4) (a := mS S3) (n := tN X (tE X e)) (b := tN X (tE X (tE X (tE X e)))) (by omega) k4
              have hJ : ∀ x k, x ≠ mS S3 → (zup (zup (zup I4 (mS S3) 0 3) (mS S3) 1 (tN X (tE X e))) (mS S3) 2 (tN X (tE X (tE X (tE X e))))) x k = I4 x k := fun x k q => by rw [zup_k (by omega), zup_k (by omega), zup_k (by omega)]
              refine ⟨S4, _, mS S3, st88 _ ?_, R4.wr (by omega) (by omega) (by omega) hJ, ⟨by omega, m4, ?_, Or.inr (Or.inr (Or.inr ⟨k4, rfl, ?_, ?_, rfl⟩))⟩, ((fA.tr (f4.wd (show mS S ≤ mS S3 by omega) (Nat.le_refl _) (Nat.le_refl _))).wr (show mS S ≤ mS S3 by omega) hJ).wd (Nat.le_refl _) (by omega) (by omega)⟩
              · refine zat_in zP_X0_lawOf zk_X0_lawOf_88 ?_
                simp (disch := omega) only [e88, zif, zdr, zkb, mK_wi, mN_wi, mJ_wi, mI_wi, sI_wi, beq_self_eq_true, Bool.true_or, Bool.or_true, Bool.or_false, Bool.and_self, Bool.and_true, Bool.true_and, ↓reduceIte, ble_up0, i_cl, i_succ, zix_of, zfl_k, zup_k, zup_q, bk2]
                refine ev_cv a1 ?_
                try simp (disch := omega) only [zif, zdr, zkb, mK_wi, mN_wi, mJ_wi, mI_wi, sI_wi, beq_self_eq_true, Bool.true_or, Bool.or_true, Bool.or_false, Bool.and_self, Bool.and_true, Bool.true_and, ↓reduceIte, ble_up0, i_cl, i_succ, zix_of, zfl_k, zup_k, zup_q, bk1]
                refine ev_ci a2 ?_
                try simp (disch := omega) only [zif, zdr, zkb, mK_wi, mN_wi, mJ_wi, mI_wi, sI_wi, beq_self_eq_true, Bool.true_or, Bool.or_true, Bool.or_false, Bool.and_self, Bool.and_true, Bool.true_and, ↓reduceIte, ble_up0, i_cl, i_succ, zix_of, zfl_k, zup_k, zup_q, bk2']
                refine ev_cv a3 ?_
                try simp (disch := omega) only [zif, zdr, zkb, mK_wi, mN_wi, mJ_wi, mI_wi, sI_wi, beq_self_eq_true, Bool.true_or, Bool.or_true, Bool.or_false, Bool.and_self, Bool.and_true, Bool.true_and, ↓reduceIte, ble_up0, i_cl, i_succ, zix_of, zfl_k, zup_k, zup_q, al_wi, mS_wi, kb]
                refine ev_ci a4 ?_
                refine ev_cv ci ?_
                exact ev_r
              · rw [zup_k (by omega), zup_k (by omega), zup_q]
              · rw [zup_k (by omega), zup_q]
              · rw [zup_q]
            · rw [if_neg n3]
              refine ⟨fun f p h => ?_, fun t e' h => by cases h⟩
              obtain ⟨rfl, rfl⟩ := Prod.mk.inj (Sum.inl.inj h)
              obtain ⟨I4, a4, b4, f4⟩ := x0 n3
              refine ⟨_, I4, st88 _ ?_, b4, (fA.tr (f4.wd (show mS S ≤ mS S3 by omega) (Nat.le_refl _) (Nat.le_refl _))).wd (Nat.le_refl _) (by omega) (by omega)⟩
              refine zat_in zP_X0_lawOf zk_X0_lawOf_88 ?_
              simp (disch := omega) only [e88, zif, zdr, zkb, mK_wi, mN_wi, mJ_wi, mI_wi, sI_wi, beq_self_eq_true, Bool.true_or, Bool.or_true, Bool.or_false, Bool.and_self, Bool.and_true, Bool.true_and, ↓reduceIte, ble_up0, i_cl, i_succ, zix_of, zfl_k, zup_k, zup_q, bk2]
              refine ev_cv a1 ?_
              try simp (disch := omega) only [zif, zdr, zkb, mK_wi, mN_wi, mJ_wi, mI_wi, sI_wi, beq_self_eq_true, Bool.true_or, Bool.or_true, Bool.or_false, Bool.and_self, Bool.and_true, Bool.true_and, ↓reduceIte, ble_up0, i_cl, i_succ, zix_of, zfl_k, zup_k, zup_q, bk1]
              refine ev_ci a2 ?_
              try simp (disch := omega) only [zif, zdr, zkb, mK_wi, mN_wi, mJ_wi, mI_wi, sI_wi, beq_self_eq_true, Bool.true_or, Bool.or_true, Bool.or_false, Bool.and_self, Bool.and_true, Bool.true_and, ↓reduceIte, ble_up0, i_cl, i_succ, zix_of, zfl_k, zup_k, zup_q, bk2']
              refine ev_cv a3 ?_
              try simp (disch := omega) only [zif, zdr, zkb, mK_wi, mN_wi, mJ_wi, mI_wi, sI_wi, beq_self_eq_true, Bool.true_or, Bool.or_true, Bool.or_false, Bool.and_self, Bool.and_true, Bool.true_and, ↓reduceIte, ble_up0, i_cl, i_succ, zix_of, zfl_k, zup_k, zup_q, al_wi, mS_wi, kb]
              refine ev_cix a4 ?_
              exact ev_r
        · rw [if_neg n1]
          refine ⟨fun f p h => ?_, fun t e' h => by cases h⟩
          obtain ⟨rfl, rfl⟩ := Prod.mk.inj (Sum.inl.inj h)
          obtain ⟨I2, a2, b2, f2⟩ := sp_X1_number_0 (d := d + 3) hB R1 n1
          refine ⟨S1, I2, st88 _ ?_, b2, (f1.tr (f2.wd m1 (Nat.le_refl _) (Nat.le_refl _))).wd (Nat.le_refl _) (by omega) (by omega)⟩
          refine zat_in zP_X0_lawOf zk_X0_lawOf_88 ?_
          simp (disch := omega) only [e88, zif, zdr, zkb, mK_wi, mN_wi, mJ_wi, mI_wi, sI_wi, beq_self_eq_true, Bool.true_or, Bool.or_true, Bool.or_false, Bool.and_self, Bool.and_true, Bool.true_and, ↓reduceIte, ble_up0, i_cl, i_succ, zix_of, zfl_k, zup_k, zup_q, bk2]
          refine ev_cv a1 ?_
          try simp (disch := omega) only [zif, zdr, zkb, mK_wi, mN_wi, mJ_wi, mI_wi, sI_wi, beq_self_eq_true, Bool.true_or, Bool.or_true, Bool.or_false, Bool.and_self, Bool.and_true, Bool.true_and, ↓reduceIte, ble_up0, i_cl, i_succ, zix_of, zfl_k, zup_k, zup_q, bk1]
          refine ev_cix a2 ?_
          exact ev_r
    · rw [if_neg c10]
      obtain ⟨S1, I1, a1, R1, f1⟩ := sp_X1_takes_1 (E := E) (d := d + 1) hB hR (i := 10) (by decide) (iw_y c10)
      have bk1 := R1.1.2.1
      have m1 := f1.1.1
      obtain ⟨x0, x1⟩ := al_num (d := d) 15 2 hB R1
      have kb : mK (zal S1 15 0 2) (B + 2) = 2 := (mK_al_k (by have := R1.2.2.2.1; omega)).trans bk1
      by_cases n1 : tK X (tE X e) = 3
      · rw [if_pos n1]
        refine ⟨fun f p h => (by cases h), fun t e' h => ?_⟩
        obtain ⟨rfl, rfl⟩ := Prod.mk.inj (Sum.inr.inj h)
        obtain ⟨S4, I4, a4, R4, k4, m4, f4⟩ := x1 n1
        have ci := sp_X15_init (E := E) (d := d + 5) (S := S4) (I := I4) (a := mS S1) (n := tN X (tE X e)) (by omega) k4
        have hJ : ∀ x k, x ≠ mS S1 → (zup (zup I4 (mS S1) 0 2) (mS S1) 1 (tN X (tE X e))) x k = I4 x k := fun x k q => by rw [zup_k (by omega), zup_k (by omega)]
        refine ⟨S4, _, mS S1, st67 _ ?_, R4.wr (by omega) (by omega) (by omega) hJ, ⟨by omega, m4, ?_, Or.inr (Or.inr (Or.inl ⟨k4, rfl, ?_, rfl, rfl⟩))⟩, ((f1.tr (f4.wd m1 (Nat.le_refl _) (Nat.le_refl _))).wr (show mS S ≤ mS S1 by omega) hJ).wd (Nat.le_refl _) (by omega) (by omega)⟩
        · refine zat_in zP_X0_lawOf zk_X0_lawOf_67 ?_
          simp (disch := omega) only [e67, zif, zdr, zkb, mK_wi, mN_wi, mJ_wi, mI_wi, sI_wi, beq_self_eq_true, Bool.true_or, Bool.or_true, Bool.or_false, Bool.and_self, Bool.and_true, Bool.true_and, ↓reduceIte, ble_up0, i_cl, i_succ, zix_of, zfl_k, zup_k, zup_q, bk2]
          refine ev_ci a1 ?_
          refine ev_th _ (fun h => absurd h (by decide)) (fun _ => ?_)
          try simp (disch := omega) only [zif, zdr, zkb, mK_wi, mN_wi, mJ_wi, mI_wi, sI_wi, beq_self_eq_true, Bool.true_or, Bool.or_true, Bool.or_false, Bool.and_self, Bool.and_true, Bool.true_and, ↓reduceIte, ble_up0, i_cl, i_succ, zix_of, zfl_k, zup_k, zup_q, al_wi, mS_wi, kb]
          refine ev_ci a4 ?_
          refine ev_cv ci ?_
          exact ev_r
        · rw [zup_k (by omega), zup_q]
        · rw [zup_q]
      · rw [if_neg n1]
        refine ⟨fun f p h => ?_, fun t e' h => by cases h⟩
        obtain ⟨rfl, rfl⟩ := Prod.mk.inj (Sum.inl.inj h)
        obtain ⟨I4, a4, b4, f4⟩ := x0 n1
        refine ⟨_, I4, st67 _ ?_, b4, (f1.tr (f4.wd m1 (Nat.le_refl _) (Nat.le_refl _))).wd (Nat.le_refl _) (by omega) (by omega)⟩
        refine zat_in zP_X0_lawOf zk_X0_lawOf_67 ?_
        simp (disch := omega) only [e67, zif, zdr, zkb, mK_wi, mN_wi, mJ_wi, mI_wi, sI_wi, beq_self_eq_true, Bool.true_or, Bool.or_true, Bool.or_false, Bool.and_self, Bool.and_true, Bool.true_and, ↓reduceIte, ble_up0, i_cl, i_succ, zix_of, zfl_k, zup_k, zup_q, bk2]
        refine ev_ci a1 ?_
        refine ev_th _ (fun h => absurd h (by decide)) (fun _ => ?_)
        try simp (disch := omega) only [zif, zdr, zkb, mK_wi, mN_wi, mJ_wi, mI_wi, sI_wi, beq_self_eq_true, Bool.true_or, Bool.or_true, Bool.or_false, Bool.and_self, Bool.and_true, Bool.true_and, ↓reduceIte, ble_up0, i_cl, i_succ, zix_of, zfl_k, zup_k, zup_q, al_wi, mS_wi, kb]
        refine ev_cix a4 ?_
        exact ev_r
  · rw [if_neg c5]
    obtain ⟨S1, I1, a1, R1, f1⟩ := sp_X1_takes_1 (E := E) (d := d + 1) hB hR (i := 5) (by decide) (iw_y c5)
    have bk1 := R1.1.2.1
    have m1 := f1.1.1
    by_cases n1 : tK X (tE X e) = 3
    · rw [if_pos n1]
      obtain ⟨S2, I2, a2, R2, f2⟩ := sp_X1_number_1 (d := d + 1) hB R1 n1
      have bk2' := R2.1.2.1
      have m2 := f2.1.1
      have fA := f1.tr (f2.wd m1 (Nat.le_refl _) (Nat.le_refl _))
      by_cases c15 : iw X (tE X (tE X e)) 15 = 0
      · rw [if_pos c15]
        have t15 := sp_X1_takes_0 (E := E) (d := d + 3) R2 (i := 15) (by decide) (iw_n c15)
        have st36 : ∀ z, zAt E (d + 7) 42 36 [some (zr (some (B + 2))), some (zi (tN X (tE X e))), none] [] (zwi S2 I2) z → zCl E (d + 7) 42 [zr (some (B + 2))] (zwi S I) z := by
          intro z hz
          refine zcl_in' zP_X0_lawOf ?_; rw [zn_1_3]
          refine zat_in zP_X0_lawOf zk_X0_lawOf_0 ?_
          simp (disch := omega) only [e0, zif, zdr, zkb, mK_wi, mN_wi, mJ_wi, mI_wi, sI_wi, beq_self_eq_true, Bool.true_or, Bool.or_true, Bool.or_false, Bool.and_self, Bool.and_true, Bool.true_and, ↓reduceIte, ble_up0, i_cl, i_succ, zix_of, zfl_k, zup_k, zup_q, bk2]
          refine ev_ci a1 ?_
          refine ev_th _ (fun h => absurd h (by decide)) (fun _ => ?_)
          try simp (disch := omega) only [zif, zdr, zkb, mK_wi, mN_wi, mJ_wi, mI_wi, sI_wi, beq_self_eq_true, Bool.true_or, Bool.or_true, Bool.or_false, Bool.and_self, Bool.and_true, Bool.true_and, ↓reduceIte, ble_up0, i_cl, i_succ, zix_of, zfl_k, zup_k, zup_q, bk1]
          refine ev_ci a2 ?_
          try simp (disch := omega) only [zif, zdr, zkb, mK_wi, mN_wi, mJ_wi, mI_wi, sI_wi, beq_self_eq_true, Bool.true_or, Bool.or_true, Bool.or_false, Bool.and_self, Bool.and_true, Bool.true_and, ↓reduceIte, ble_up0, i_cl, i_succ, zix_of, zfl_k, zup_k, zup_q, bk2']
          refine ev_ci t15 ?_
          refine ev_th _ (fun _ => ev_bk hz) (fun h => (h (by first | rfl | trivial)).elim)
        by_cases c16 : iw X (tE X (tE X e)) 16 = 0
        · rw [if_pos c16]
          refine ⟨fun f p h => ?_, fun t e' h => by cases h⟩
          obtain ⟨rfl, rfl⟩ := Prod.mk.inj (Sum.inl.inj h)
          obtain ⟨I3, a3, b3, f3⟩ := sp_X1_must_0 (E := E) (d := d + 2) hB R2 (i := 16) (by decide) (iw_n c16)
          refine ⟨S2, I3, st36 _ ?_, b3, (fA.tr (f3.wd (show mS S ≤ mS S2 by omega) (Nat.le_refl _) (Nat.le_refl _))).wd (Nat.le_refl _) (by omega) (by omega)⟩
          refine zat_in zP_X0_lawOf zk_X0_lawOf_36 ?_
          simp (disch := omega) only [e36, zif, zdr, zkb, mK_wi, mN_wi, mJ_wi, mI_wi, sI_wi, beq_self_eq_true, Bool.true_or, Bool.or_true, Bool.or_false, Bool.and_self, Bool.and_true, Bool.true_and, ↓reduceIte, ble_up0, i_cl, i_succ, zix_of, zfl_k, zup_k, zup_q, bk2']
          refine ev_cvx a3 ?_
          exact ev_r
        · rw [if_neg c16]
          obtain ⟨S3, I3, a3, R3, f3⟩ := sp_X1_must_1 (E := E) (d := d) hB R2 (i := 16) (by decide) (iw_y c16)
          have bk3 := R3.1.2.1
          have m3 := f3.1.1
          have fB := fA.tr (f3.wd (show mS S ≤ mS S2 by omega) (Nat.le_refl _) (Nat.le_refl _))
          by_cases n3 : tK X (tE X (tE X (tE X e))) = 3
          · rw [if_pos n3]
            obtain ⟨S4, I4, a4, R4, f4⟩ := sp_X1_number_1 (d := d + 1) hB R3 n3
            have bk4 := R4.1.2.1
            have m4 := f4.1.1
            have fC := fB.tr (f4.wd (show mS S ≤ mS S3 by omega) (Nat.le_refl _) (Nat.le_refl _))
            by_cases c17 : iw X (tE X (tE X (tE X (tE X e)))) 17 = 0
            · rw [if_pos c17]
              refine ⟨fun f p h => ?_, fun t e' h => by cases h⟩
              obtain ⟨rfl, rfl⟩ := Prod.mk.inj (Sum.inl.inj h)
              obtain ⟨I5, a5, b5, f5⟩ := sp_X1_must_0 (E := E) (d := d + 2) hB R4 (i := 17) (by decide) (iw_n c17)
              refine ⟨S4, I5, st36 _ ?_, b5, (fC.tr (f5.wd (show mS S ≤ mS S4 by omega) (Nat.le_refl _) (Nat.le_refl _))).wd (Nat.le_refl _) (by omega) (by omega)⟩
              refine zat_in zP_X0_lawOf zk_X0_lawOf_36 ?_
              simp (disch := omega) only [e36, zif, zdr, zkb, mK_wi, mN_wi, mJ_wi, mI_wi, sI_wi, beq_self_eq_true, Bool.true_or, Bool.or_true, Bool.or_false, Bool.and_self, Bool.and_true, Bool.true_and, ↓reduceIte, ble_up0, i_cl, i_succ, zix_of, zfl_k, zup_k, zup_q, bk2']
              refine ev_cv a3 ?_
              try simp (disch := omega) only [zif, zdr, zkb, mK_wi, mN_wi, mJ_wi, mI_wi, sI_wi, beq_self_eq_true, Bool.true_or, Bool.or_true, Bool.or_false, Bool.and_self, Bool.and_true, Bool.true_and, ↓reduceIte, ble_up0, i_cl, i_succ, zix_of, zfl_k, zup_k, zup_q, bk3]
              refine ev_ci a4 ?_
              try simp (disch := omega) only [zif, zdr, zkb, mK_wi, mN_wi, mJ_wi, mI_wi, sI_wi, beq_self_eq_true, Bool.true_or, Bool.or_true, Bool.or_false, Bool.and_self, Bool.and_true, Bool.true_and, ↓reduceIte, ble_up0, i_cl, i_succ, zix_of, zfl_k, zup_k, zup_q, bk4]
              refine ev_cvx a5 ?_
              exact ev_r
            · rw [if_neg c17]
              obtain ⟨S5, I5, a5, R5, f5⟩ := sp_X1_must_1 (E := E) (d := d) hB R4 (i := 17) (by decide) (iw_y c17)
              have bk5 := R5.1.2.1
              have m5 := f5.1.1
              have fD := fC.tr (f5.wd (show mS S ≤ mS S4 by omega) (Nat.le_refl _) (Nat.le_refl _))
              obtain ⟨x0, x1⟩ := al_num (d := d) 13 4 hB R5
              have kb : mK (zal S5 13 0 4) (B + 2) = 2 := (mK_al_k (by have := R5.2.2.2.1; omega)).trans bk5
              by_cases n5 : tK X (tE X (tE X (tE X (tE X (tE X e))))) = 3
              · rw [if_pos n5]
                refine ⟨fun f p h => (by cases h), fun t e' h => ?_⟩
                obtain ⟨rfl, rfl⟩ := Prod.mk.inj (Sum.inr.inj h)
                obtain ⟨S6, I6, a6, R6, k6, m6, f6⟩ := x1 n5
                have ci := sp_X13_init_2 (E := E) (d := d + 4) (S := S6) (I := I6) (a := mS S5) (n := tN X (tE X e)) (b := tN X (tE X (tE X (tE X e)))) (v := tN X (tE X (tE X (tE X (tE X (tE X e)))))) (by omega) k6
                have hJ : ∀ x k, x ≠ mS S5 → (zup (zup (zup (zup I6 (mS S5) 0 1) (mS S5) 1 (tN X (tE X e))) (mS S5) 2 (tN X (tE X (tE X (tE X e))))) (mS S5) 3 (tN X (tE X (tE X (tE X (tE X (tE X e))))))) x k = I6 x k := fun x k q => by rw [zup_k (by omega), zup_k (by omega), zup_k (by omega), zup_k (by omega)]
                refine ⟨S6, _, mS S5, st36 _ ?_, R6.wr (by omega) (by omega) (by omega) hJ, ⟨by omega, m6, ?_, Or.inr (Or.inl ⟨k6, rfl, ?_, ?_, ?_⟩)⟩, ((fD.tr (f6.wd (show mS S ≤ mS S5 by omega) (Nat.le_refl _) (Nat.le_refl _))).wr (show mS S ≤ mS S5 by omega) hJ).wd (Nat.le_refl _) (by omega) (by omega)⟩
                · refine zat_in zP_X0_lawOf zk_X0_lawOf_36 ?_
                  simp (disch := omega) only [e36, zif, zdr, zkb, mK_wi, mN_wi, mJ_wi, mI_wi, sI_wi, beq_self_eq_true, Bool.true_or, Bool.or_true, Bool.or_false, Bool.and_self, Bool.and_true, Bool.true_and, ↓reduceIte, ble_up0, i_cl, i_succ, zix_of, zfl_k, zup_k, zup_q, bk2']
                  refine ev_cv a3 ?_
                  try simp (disch := omega) only [zif, zdr, zkb, mK_wi, mN_wi, mJ_wi, mI_wi, sI_wi, beq_self_eq_true, Bool.true_or, Bool.or_true, Bool.or_false, Bool.and_self, Bool.and_true, Bool.true_and, ↓reduceIte, ble_up0, i_cl, i_succ, zix_of, zfl_k, zup_k, zup_q, bk3]
                  refine ev_ci a4 ?_
                  try simp (disch := omega) only [zif, zdr, zkb, mK_wi, mN_wi, mJ_wi, mI_wi, sI_wi, beq_self_eq_true, Bool.true_or, Bool.or_true, Bool.or_false, Bool.and_self, Bool.and_true, Bool.true_and, ↓reduceIte, ble_up0, i_cl, i_succ, zix_of, zfl_k, zup_k, zup_q, bk4]
                  refine ev_cv a5 ?_
                  try simp (disch := omega) only [zif, zdr, zkb, mK_wi, mN_wi, mJ_wi, mI_wi, sI_wi, beq_self_eq_true, Bool.true_or, Bool.or_true, Bool.or_false, Bool.and_self, Bool.and_true, Bool.true_and, ↓reduceIte, ble_up0, i_cl, i_succ, zix_of, zfl_k, zup_k, zup_q, al_wi, mS_wi, kb]
                  refine ev_ci a6 ?_
                  refine ev_cv ci ?_
                  exact ev_r
                · rw [zup_k (by omega), zup_k (by omega), zup_k (by omega), zup_q]
                · rw [zup_k (by omega), zup_k (by omega), zup_q]
                · rw [zup_k (by omega), zup_q]
                · rw [zup_q]
              · rw [if_neg n5]
                refine ⟨fun f p h => ?_, fun t e' h => by cases h⟩
                obtain ⟨rfl, rfl⟩ := Prod.mk.inj (Sum.inl.inj h)
                obtain ⟨I6, a6, b6, f6⟩ := x0 n5
                refine ⟨_, I6, st36 _ ?_, b6, (fD.tr (f6.wd (show mS S ≤ mS S5 by omega) (Nat.le_refl _) (Nat.le_refl _))).wd (Nat.le_refl _) (by omega) (by omega)⟩
                refine zat_in zP_X0_lawOf zk_X0_lawOf_36 ?_
                simp (disch := omega) only [e36, zif, zdr, zkb, mK_wi, mN_wi, mJ_wi, mI_wi, sI_wi, beq_self_eq_true, Bool.true_or, Bool.or_true, Bool.or_false, Bool.and_self, Bool.and_true, Bool.true_and, ↓reduceIte, ble_up0, i_cl, i_succ, zix_of, zfl_k, zup_k, zup_q, bk2']
                refine ev_cv a3 ?_
                try simp (disch := omega) only [zif, zdr, zkb, mK_wi, mN_wi, mJ_wi, mI_wi, sI_wi, beq_self_eq_true, Bool.true_or, Bool.or_true, Bool.or_false, Bool.and_self, Bool.and_true, Bool.true_and, ↓reduceIte, ble_up0, i_cl, i_succ, zix_of, zfl_k, zup_k, zup_q, bk3]
                refine ev_ci a4 ?_
                try simp (disch := omega) only [zif, zdr, zkb, mK_wi, mN_wi, mJ_wi, mI_wi, sI_wi, beq_self_eq_true, Bool.true_or, Bool.or_true, Bool.or_false, Bool.and_self, Bool.and_true, Bool.true_and, ↓reduceIte, ble_up0, i_cl, i_succ, zix_of, zfl_k, zup_k, zup_q, bk4]
                refine ev_cv a5 ?_
                try simp (disch := omega) only [zif, zdr, zkb, mK_wi, mN_wi, mJ_wi, mI_wi, sI_wi, beq_self_eq_true, Bool.true_or, Bool.or_true, Bool.or_false, Bool.and_self, Bool.and_true, Bool.true_and, ↓reduceIte, ble_up0, i_cl, i_succ, zix_of, zfl_k, zup_k, zup_q, al_wi, mS_wi, kb]
                refine ev_cix a6 ?_
                exact ev_r
          · rw [if_neg n3]
            refine ⟨fun f p h => ?_, fun t e' h => by cases h⟩
            obtain ⟨rfl, rfl⟩ := Prod.mk.inj (Sum.inl.inj h)
            obtain ⟨I4, a4, b4, f4⟩ := sp_X1_number_0 (d := d + 3) hB R3 n3
            refine ⟨S3, I4, st36 _ ?_, b4, (fB.tr (f4.wd (show mS S ≤ mS S3 by omega) (Nat.le_refl _) (Nat.le_refl _))).wd (Nat.le_refl _) (by omega) (by omega)⟩
            refine zat_in zP_X0_lawOf zk_X0_lawOf_36 ?_
            simp (disch := omega) only [e36, zif, zdr, zkb, mK_wi, mN_wi, mJ_wi, mI_wi, sI_wi, beq_self_eq_true, Bool.true_or, Bool.or_true, Bool.or_false, Bool.and_self, Bool.and_true, Bool.true_and, ↓reduceIte, ble_up0, i_cl, i_succ, zix_of, zfl_k, zup_k, zup_q, bk2']
            refine ev_cv a3 ?_
            try simp (disch := omega) only [zif, zdr, zkb, mK_wi, mN_wi, mJ_wi, mI_wi, sI_wi, beq_self_eq_true, Bool.true_or, Bool.or_true, Bool.or_false, Bool.and_self, Bool.and_true, Bool.true_and, ↓reduceIte, ble_up0, i_cl, i_succ, zix_of, zfl_k, zup_k, zup_q, bk3]
            refine ev_cix a4 ?_
            exact ev_r
      · rw [if_neg c15]
        obtain ⟨S3, I3, a3, R3, f3⟩ := sp_X1_takes_1 (E := E) (d := d + 1) hB R2 (i := 15) (by decide) (iw_y c15)
        have bk3 := R3.1.2.1
        have m3 := f3.1.1
        have fB := fA.tr (f3.wd (show mS S ≤ mS S2 by omega) (Nat.le_refl _) (Nat.le_refl _))
        obtain ⟨x0, x1⟩ := al_num (d := d) 14 4 hB R3
        have kb : mK (zal S3 14 0 4) (B + 2) = 2 := (mK_al_k (by have := R3.2.2.2.1; omega)).trans bk3
        by_cases n3 : tK X (tE X (tE X (tE X e))) = 3
        · rw [if_pos n3]
          refine ⟨fun f p h => (by cases h), fun t e' h => ?_⟩
          obtain ⟨rfl, rfl⟩ := Prod.mk.inj (Sum.inr.inj h)
          obtain ⟨S4, I4, a4, R4, k4, m4, f4⟩ := x1 n3
          have ci := sp_X14_init (E := E) (d := d + 4) (S := S4) (I := I4) (a := mS S3) (n := tN X (tE X e)) (b := tN X (tE X (tE X (tE X e)))) (by omega) k4
          have hJ : ∀ x k, x ≠ mS S3 → (zup (zup (zup (zup I4 (mS S3) 0 0) (mS S3) 1 (tN X (tE X e))) (mS S3) 2 (tN X (tE X (tE X (tE X e))))) (mS S3) 3 (tN X (tE X (tE X (tE X e))))) x k = I4 x k := fun x k q => by rw [zup_k (by omega), zup_k (by omega), zup_k (by omega), zup_k (by omega)]
          refine ⟨S4, _, mS S3, ?_, R4.wr (by omega) (by omega) (by omega) hJ, ⟨by omega, m4, ?_, Or.inl ⟨k4, rfl, ?_, ?_, ?_, rfl⟩⟩, ((fB.tr (f4.wd (show mS S ≤ mS S3 by omega) (Nat.le_refl _) (Nat.le_refl _))).wr (show mS S ≤ mS S3 by omega) hJ).wd (Nat.le_refl _) (by omega) (by omega)⟩
          · refine zcl_in' zP_X0_lawOf ?_; rw [zn_1_3]
            refine zat_in zP_X0_lawOf zk_X0_lawOf_0 ?_
            simp (disch := omega) only [e0, zif, zdr, zkb, mK_wi, mN_wi, mJ_wi, mI_wi, sI_wi, beq_self_eq_true, Bool.true_or, Bool.or_true, Bool.or_false, Bool.and_self, Bool.and_true, Bool.true_and, ↓reduceIte, ble_up0, i_cl, i_succ, zix_of, zfl_k, zup_k, zup_q, bk2]
            refine ev_ci a1 ?_
            refine ev_th _ (fun h => absurd h (by decide)) (fun _ => ?_)
            try simp (disch := omega) only [zif, zdr, zkb, mK_wi, mN_wi, mJ_wi, mI_wi, sI_wi, beq_self_eq_true, Bool.true_or, Bool.or_true, Bool.or_false, Bool.and_self, Bool.and_true, Bool.true_and, ↓reduceIte, ble_up0, i_cl, i_succ, zix_of, zfl_k, zup_k, zup_q, bk1]
            refine ev_ci a2 ?_
            try simp (disch := omega) only [zif, zdr, zkb, mK_wi, mN_wi, mJ_wi, mI_wi, sI_wi, beq_self_eq_true, Bool.true_or, Bool.or_true, Bool.or_false, Bool.and_self, Bool.and_true, Bool.true_and, ↓reduceIte, ble_up0, i_cl, i_succ, zix_of, zfl_k, zup_k, zup_q, bk2']
            refine ev_ci a3 ?_
            refine ev_th _ (fun h => absurd h (by decide)) (fun _ => ?_)
            try simp (disch := omega) only [zif, zdr, zkb, mK_wi, mN_wi, mJ_wi, mI_wi, sI_wi, beq_self_eq_true, Bool.true_or, Bool.or_true, Bool.or_false, Bool.and_self, Bool.and_true, Bool.true_and, ↓reduceIte, ble_up0, i_cl, i_succ, zix_of, zfl_k, zup_k, zup_q, al_wi, mS_wi, kb]
            refine ev_ci a4 ?_
            refine ev_cv ci ?_
            exact ev_r
          · rw [zup_k (by omega), zup_k (by omega), zup_k (by omega), zup_q]
          · rw [zup_k (by omega), zup_k (by omega), zup_q]
          · rw [zup_k (by omega), zup_q]
          · rw [zup_q]
        · rw [if_neg n3]
          refine ⟨fun f p h => ?_, fun t e' h => by cases h⟩
          obtain ⟨rfl, rfl⟩ := Prod.mk.inj (Sum.inl.inj h)
          obtain ⟨I4, a4, b4, f4⟩ := x0 n3
          refine ⟨_, I4, ?_, b4, (fB.tr (f4.wd (show mS S ≤ mS S3 by omega) (Nat.le_refl _) (Nat.le_refl _))).wd (Nat.le_refl _) (by omega) (by omega)⟩
          refine zcl_in' zP_X0_lawOf ?_; rw [zn_1_3]
          refine zat_in zP_X0_lawOf zk_X0_lawOf_0 ?_
          simp (disch := omega) only [e0, zif, zdr, zkb, mK_wi, mN_wi, mJ_wi, mI_wi, sI_wi, beq_self_eq_true, Bool.true_or, Bool.or_true, Bool.or_false, Bool.and_self, Bool.and_true, Bool.true_and, ↓reduceIte, ble_up0, i_cl, i_succ, zix_of, zfl_k, zup_k, zup_q, bk2]
          refine ev_ci a1 ?_
          refine ev_th _ (fun h => absurd h (by decide)) (fun _ => ?_)
          try simp (disch := omega) only [zif, zdr, zkb, mK_wi, mN_wi, mJ_wi, mI_wi, sI_wi, beq_self_eq_true, Bool.true_or, Bool.or_true, Bool.or_false, Bool.and_self, Bool.and_true, Bool.true_and, ↓reduceIte, ble_up0, i_cl, i_succ, zix_of, zfl_k, zup_k, zup_q, bk1]
          refine ev_ci a2 ?_
          try simp (disch := omega) only [zif, zdr, zkb, mK_wi, mN_wi, mJ_wi, mI_wi, sI_wi, beq_self_eq_true, Bool.true_or, Bool.or_true, Bool.or_false, Bool.and_self, Bool.and_true, Bool.true_and, ↓reduceIte, ble_up0, i_cl, i_succ, zix_of, zfl_k, zup_k, zup_q, bk2']
          refine ev_ci a3 ?_
          refine ev_th _ (fun h => absurd h (by decide)) (fun _ => ?_)
          try simp (disch := omega) only [zif, zdr, zkb, mK_wi, mN_wi, mJ_wi, mI_wi, sI_wi, beq_self_eq_true, Bool.true_or, Bool.or_true, Bool.or_false, Bool.and_self, Bool.and_true, Bool.true_and, ↓reduceIte, ble_up0, i_cl, i_succ, zix_of, zfl_k, zup_k, zup_q, al_wi, mS_wi, kb]
          refine ev_cix a4 ?_
          exact ev_r
    · rw [if_neg n1]
      refine ⟨fun f p h => ?_, fun t e' h => by cases h⟩
      obtain ⟨rfl, rfl⟩ := Prod.mk.inj (Sum.inl.inj h)
      obtain ⟨I2, a2, b2, f2⟩ := sp_X1_number_0 (d := d + 3) hB R1 n1
      refine ⟨S1, I2, ?_, b2, (f1.tr (f2.wd m1 (Nat.le_refl _) (Nat.le_refl _))).wd (Nat.le_refl _) (by omega) (by omega)⟩
      refine zcl_in' zP_X0_lawOf ?_; rw [zn_1_3]
      refine zat_in zP_X0_lawOf zk_X0_lawOf_0 ?_
      simp (disch := omega) only [e0, zif, zdr, zkb, mK_wi, mN_wi, mJ_wi, mI_wi, sI_wi, beq_self_eq_true, Bool.true_or, Bool.or_true, Bool.or_false, Bool.and_self, Bool.and_true, Bool.true_and, ↓reduceIte, ble_up0, i_cl, i_succ, zix_of, zfl_k, zup_k, zup_q, bk2]
      refine ev_ci a1 ?_
      refine ev_th _ (fun h => absurd h (by decide)) (fun _ => ?_)
      try simp (disch := omega) only [zif, zdr, zkb, mK_wi, mN_wi, mJ_wi, mI_wi, sI_wi, beq_self_eq_true, Bool.true_or, Bool.or_true, Bool.or_false, Bool.and_self, Bool.and_true, Bool.true_and, ↓reduceIte, ble_up0, i_cl, i_succ, zix_of, zfl_k, zup_k, zup_q, bk1]
      refine ev_cix a2 ?_
      exact ev_r
end
