/-! ===== a plan is read (class) ===== -/
set_option maxRecDepth 100000
theorem iw_when {X : zTx} {e : Nat} : iw X e 20 = iw X e 22 := by
  unfold iw
  rw [v_20]
/-- a plan that is being read: r rules so far -/
def xPp (S : zM) (I : Nat → Nat → Int32) (lo pa ra r : Nat) (D : zPL) : Prop := (lo ≤ pa ∧ pa < mS S ∧ mK S pa = 10 ∧ I pa 1 = Int32.ofNat r ∧ r ≤ 12) ∧ (lo ≤ ra ∧ ra < mS S ∧ pa ≠ ra ∧ mJ S pa 0 = some ra ∧ mK S ra = 108 ∧ mN S ra = 12) ∧ ∀ j, j < r → ∃ rr, mJ S ra j = some rr ∧ xRq S I lo rr j D
theorem xPp.fr {B m c u lo pa ra r : Nat} {D : zPL} {S S' : zM} {I I' : Nat → Nat → Int32} (h : xPp S I lo pa ra r D) (hf : rFr B m c u S S' I I') (hm : mS S ≤ m) (hlo : B + 466 ≤ lo) : xPp S' I' lo pa ra r D := by
  have hf' := hf
  obtain ⟨⟨f1, -, -⟩, f4, f5, f6, -⟩ := hf
  obtain ⟨⟨a1, a2, a3, a4, a5⟩, ⟨b1, b2, b3, b4, b5, b6⟩, c⟩ := h
  refine ⟨⟨a1, by omega, (f4 _ (by omega)).1.trans a3, (f6 _ _ (by omega) (by omega) (fun q => by omega)).trans a4, a5⟩, ⟨b1, by omega, b3, (f5 _ _ (by omega) (by omega)).trans b4, (f4 _ (by omega)).1.trans b5, (f4 _ (by omega)).2.trans b6⟩, fun j hj => ?_⟩
  obtain ⟨rr, t1, t2⟩ := c j hj
  exact ⟨rr, (f5 _ _ (by omega) (by omega)).trans t1, t2.fr hf' hm hlo⟩
section
variable {E : zE} {d B e m lo pa ra : Nat} {S : zM} {I : Nat → Nat → Int32} {X : zTx} {D : zPL}
theorem lp_X9_read (hB : E.1 ≤ B) (hlo : B + 466 ≤ lo) : ∀ c r, r + c = 12 → ∀ D e S I (u : Option zV), xRD E S I B X e → xPp S I lo pa ra r D → lo ≤ mS S → m ≤ mS S ∧ m ≤ pa ∧ m ≤ ra → (∀ f p, pPl X c D r e = Sum.inl (f, p) → ∃ S' I', zAt E (d + 8) 189 2 [some (zr (some pa)), some (zr (some (B + 2))), some (zi 1), u] [] (zwi S I) (Sum.inr (B + 3), zwi S' I') ∧ xTh I' B f p ∧ rFr B m (60 * (c + 1)) (300 * (c + 1)) S S' I I') ∧ (∀ D' n, pPl X c D r e = Sum.inr (D', n) → ∃ S' I', zAt E (d + 8) 189 2 [some (zr (some pa)), some (zr (some (B + 2))), some (zi 1), u] [] (zwi S I) (Sum.inl none, zwi S' I') ∧ xPp S' I' lo pa ra n D' ∧ rFr B m (60 * (c + 1)) (300 * (c + 1)) S S' I I') := by
  have e2 := @b_X9_read_2
  have e44 := @b_X9_read_44
  have e48 := @b_X9_read_48
  have e53 := @b_X9_read_53
  have e86 := @b_X9_read_86
  have e96 := @b_X9_read_96
  intro c
  induction c with
  | zero =>
    intro r hr D e S I u hR hP hl hm
    obtain rfl : r = 12 := by omega
    have bk2 := hR.1.2.1
    have kpa := hP.1.2.2.1
    have npa := hP.1.2.2.2.1
    have d12 : (Int32.ofNat 12 = 12) = True := eq_true rfl
    refine ⟨fun f p h => ?_, fun D' n h => by cases h⟩
    obtain ⟨hf, rfl⟩ := Prod.mk.inj (Sum.inl.inj h)
    have g49 : ∀ (v : Int32) (I1 : Nat → Nat → Int32), xRD E S I1 B X e → rFr B (mS S) 0 0 S S I I1 → ∃ S' I', zAt E (d + 8) 189 49 [some (zr (some pa)), some (zr (some (B + 2))), some (zi 1), u] [zi v, zr (some (B + 2))] (zwi S I1) (Sum.inr (B + 3), zwi S' I') ∧ xTh I' B v (kA X e) ∧ rFr B m (60 * (0 + 1)) (300 * (0 + 1)) S S' I I' := by
      intro v I1 R1 f1
      have bk2 := R1.1.2.1
      have brk0 := R1.1.2.2.1.2
      obtain ⟨I2, a2, b2, f2⟩ := sp_X1_fail (E := E) (d := d + 5) (f := v) hB R1
      refine ⟨S, I2, ?_, b2, (f1.tr f2).wd hm.1 (by omega) (by omega)⟩
      refine zat_in zP_X9_read zk_X9_read_49 ?_
      simp (disch := omega) only [b_X9_read_49, zif, zdr, zkb, mK_wi, mN_wi, mJ_wi, mI_wi, sI_wi, beq_self_eq_true, Bool.true_or, Bool.or_true, Bool.or_false, Bool.and_self, Bool.and_true, Bool.true_and, ↓reduceIte, ble_up0, i_cl, i_succ, zix_of, zfl_k, zup_k, zup_q, bk2]
      refine ev_cr a2 ?_
      try simp (disch := omega) only [zif, zdr, zkb, mK_wi, mN_wi, mJ_wi, mI_wi, sI_wi, beq_self_eq_true, Bool.true_or, Bool.or_true, Bool.or_false, Bool.and_self, Bool.and_true, Bool.true_and, ↓reduceIte, ble_up0, i_cl, i_succ, zix_of, zfl_k, zup_k, zup_q, brk0]
      exact ev_r
    have cw := sp_X1_isWord (E := E) (d := d + 5) hR (i := 20) (by decide)
    have e5 := hR.2.2.1.2.2.1
    by_cases c1 : iw X e 20 = 0
    · rw [if_pos c1] at hf
      rw [c1] at cw
      by_cases c2 : tK X e = 2
      · obtain ⟨s, I1, w1, ks, a1, R1, f1⟩ := sp_X0_actOf (d := d + 3) hB hR c2
        have ep : pAc X e = wAct (tV X e) := if_pos c2
        rw [ep] at hf
        have d2 := eq_true c2
        by_cases c3 : wAct (tV X e) = -1
        · rw [if_pos c3] at hf
          obtain ⟨S2, I2, a2, b2, f2⟩ := g49 1 I1 R1 f1
          refine ⟨S2, I2, ?_, hf ▸ b2, f2⟩
          refine zat_in zP_X9_read zk_X9_read_2 ?_
          simp (disch := omega) only [e2, zif, zdr, zkb, mK_wi, mN_wi, mJ_wi, mI_wi, sI_wi, beq_self_eq_true, Bool.true_or, Bool.or_true, Bool.or_false, Bool.and_self, Bool.and_true, Bool.true_and, ↓reduceIte, ble_up0, i_cl, i_succ, zix_of, zfl_k, zup_k, zup_q, i10, kpa, npa, d12, bk2]
          refine ev_ci cw ?_
          refine ev_th _ (fun _ => ?_) (fun h => (h (by first | rfl | trivial)).elim)
          simp (disch := omega) only [zif, zdr, zkb, mK_wi, mN_wi, mJ_wi, mI_wi, sI_wi, beq_self_eq_true, Bool.true_or, Bool.or_true, Bool.or_false, Bool.and_self, Bool.and_true, Bool.true_and, ↓reduceIte, ble_up0, i_cl, i_succ, zix_of, zfl_k, zup_k, zup_q, bk2, e5, d2, w1]
          refine ev_ci a1 ?_
          refine ev_th _ (fun _ => ?_) (fun h => absurd c3 h)
          refine ev_bk ?_
          refine zat_in zP_X9_read zk_X9_read_48 ?_
          simp only [e48]
          exact ev_tl zP_X9_read zk_X9_read_49 a2
        · rw [if_neg c3] at hf
          obtain ⟨S2, I2, a2, b2, f2⟩ := g49 3 I1 R1 f1
          refine ⟨S2, I2, ?_, hf ▸ b2, f2⟩
          refine zat_in zP_X9_read zk_X9_read_2 ?_
          simp (disch := omega) only [e2, zif, zdr, zkb, mK_wi, mN_wi, mJ_wi, mI_wi, sI_wi, beq_self_eq_true, Bool.true_or, Bool.or_true, Bool.or_false, Bool.and_self, Bool.and_true, Bool.true_and, ↓reduceIte, ble_up0, i_cl, i_succ, zix_of, zfl_k, zup_k, zup_q, i10, kpa, npa, d12, bk2]
          refine ev_ci cw ?_
          refine ev_th _ (fun _ => ?_) (fun h => (h (by first | rfl | trivial)).elim)
          simp (disch := omega) only [zif, zdr, zkb, mK_wi, mN_wi, mJ_wi, mI_wi, sI_wi, beq_self_eq_true, Bool.true_or, Bool.or_true, Bool.or_false, Bool.and_self, Bool.and_true, Bool.true_and, ↓reduceIte, ble_up0, i_cl, i_succ, zix_of, zfl_k, zup_k, zup_q, bk2, e5, d2, w1]
          refine ev_ci a1 ?_
          refine ev_th _ (fun h => absurd h c3) (fun _ => ?_)
          refine ev_tl zP_X9_read zk_X9_read_44 ?_
          refine zat_in zP_X9_read zk_X9_read_44 ?_
          simp only [e44]
          exact ev_bk a2
      · have ep : pAc X e = -1 := if_neg c2
        rw [if_pos ep] at hf
        have d2 := eq_false c2
        obtain ⟨S2, I2, a2, b2, f2⟩ := g49 1 I hR (rFr.rf hR.2.2.2.2.1)
        refine ⟨S2, I2, ?_, hf ▸ b2, f2⟩
        refine zat_in zP_X9_read zk_X9_read_2 ?_
        simp (disch := omega) only [e2, zif, zdr, zkb, mK_wi, mN_wi, mJ_wi, mI_wi, sI_wi, beq_self_eq_true, Bool.true_or, Bool.or_true, Bool.or_false, Bool.and_self, Bool.and_true, Bool.true_and, ↓reduceIte, ble_up0, i_cl, i_succ, zix_of, zfl_k, zup_k, zup_q, i10, kpa, npa, d12, bk2]
        refine ev_ci cw ?_
        refine ev_th _ (fun _ => ?_) (fun h => (h (by first | rfl | trivial)).elim)
        simp (disch := omega) only [zif, zdr, zkb, mK_wi, mN_wi, mJ_wi, mI_wi, sI_wi, beq_self_eq_true, Bool.true_or, Bool.or_true, Bool.or_false, Bool.and_self, Bool.and_true, Bool.true_and, ↓reduceIte, ble_up0, i_cl, i_succ, zix_of, zfl_k, zup_k, zup_q, bk2, e5, d2]
        refine ev_bk ?_
        refine zat_in zP_X9_read zk_X9_read_48 ?_
        simp only [e48]
        exact ev_tl zP_X9_read zk_X9_read_49 a2
    · rw [if_neg c1] at hf
      obtain ⟨S2, I2, a2, b2, f2⟩ := g49 3 I hR (rFr.rf hR.2.2.2.2.1)
      refine ⟨S2, I2, ?_, hf ▸ b2, f2⟩
      refine zat_in zP_X9_read zk_X9_read_2 ?_
      simp (disch := omega) only [e2, zif, zdr, zkb, mK_wi, mN_wi, mJ_wi, mI_wi, sI_wi, beq_self_eq_true, Bool.true_or, Bool.or_true, Bool.or_false, Bool.and_self, Bool.and_true, Bool.true_and, ↓reduceIte, ble_up0, i_cl, i_succ, zix_of, zfl_k, zup_k, zup_q, i10, kpa, npa, d12, bk2]
      refine ev_ci cw ?_
      refine ev_th _ (fun h => absurd h c1) (fun _ => ?_)
      refine ev_bk ?_
      refine zat_in zP_X9_read zk_X9_read_44 ?_
      simp only [e44]
      exact ev_bk a2
  | succ c ih =>
    intro r hr D e S I u hR hP hl hm
    have kpa := hP.1.2.2.1
    have npa := hP.1.2.2.2.1
    have pa1 := hP.1.2.1
    have ra1 := hP.2.1.2.1
    have d12 : (Int32.ofNat r = 12) = False := by
      rw [show (12 : Int32) = Int32.ofNat 12 from rfl, i_eq (by omega) (by omega)]
      exact eq_false (by omega)
    -- the new rule
    have R1 := hR.al (κ := 11) (n := 0) (w := 3)
    have f1 := rFr.al (B := B) (S := S) (I := I) (κ := 11) (n := 0) (w := 3) hR.2.2.2.2.1
    have R2 := R1.al (κ := 107) (n := 4) (w := 4)
    have f2 := rFr.al (B := B) (S := zal S 11 0 3) (I := zwn I (mS S)) (κ := 107) (n := 4) (w := 4) R1.2.2.2.2.1
    have K2 : ∀ a, mK (zal (zal S 11 0 3) 107 4 4) a = if a = mS S + 1 then 107 else if a = mS S then 11 else mK S a := fun _ => rfl
    have N2 : ∀ a, mN (zal (zal S 11 0 3) 107 4 4) a = if a = mS S + 1 then 4 else if a = mS S then 0 else mN S a := fun _ => rfl
    have J3 : ∀ a k, mJ (sJ (zal (zal S 11 0 3) 107 4 4) (mS S) 0 (some (mS S + 1))) a k = if a = mS S ∧ k = 0 then some (mS S + 1) else if a = mS S + 1 then none else if a = mS S then none else mJ S a k := fun _ _ => rfl
    have hmB := hR.2.2.2.1
    have k11 : mK (zal (zal S 11 0 3) 107 4 4) (mS S) = 11 := by rw [K2, if_neg (by omega), if_pos rfl]
    have k107 : mK (zal (zal S 11 0 3) 107 4 4) (mS S + 1) = 107 := by rw [K2, if_pos rfl]
    have R3 : xRD E (sJ (zal (zal S 11 0 3) 107 4 4) (mS S) 0 (some (mS S + 1))) (zwn (zwn I (mS S)) (mS S + 1)) B X e := R2.fx (Nat.le_refl _) (fun _ _ => ⟨rfl, rfl⟩) (fun a i ha hk => if_neg (fun z => by
      rcases hk with hk | hk
      · omega
      · rw [z.1, k11] at hk
        omega)) (fun _ _ _ _ => rfl) R2.2.2.2.2.1
    have f3 : rFr B (mS S) 0 0 (zal (zal S 11 0 3) 107 4 4) (sJ (zal (zal S 11 0 3) 107 4 4) (mS S) 0 (some (mS S + 1))) (zwn (zwn I (mS S)) (mS S + 1)) (zwn (zwn I (mS S)) (mS S + 1)) := ⟨⟨Nat.le_refl _, Nat.le_refl _, Nat.le_refl _⟩, fun _ _ => ⟨rfl, rfl⟩, fun a i ha _ => if_neg (by omega), fun _ _ _ _ _ => rfl, R2.2.2.2.2.1⟩
    have fA := (f1.tr (f2.wd (show mS S ≤ mS S + 1 by omega) (Nat.le_refl _) (Nat.le_refl _))).tr f3
    have P3 := hP.fr fA (Nat.le_refl _) hlo
    have Q3 : xRp (sJ (zal (zal S 11 0 3) 107 4 4) (mS S) 0 (some (mS S + 1))) (zwn (zwn I (mS S)) (mS S + 1)) lo (mS S) (mS S + 1) r 0 D := by
      refine ⟨⟨hl, show mS S < mS S + 1 + 1 by omega, k11, ?_, by omega⟩, ⟨by omega, show mS S + 1 < mS S + 1 + 1 by omega, by omega, ?_, k107, ?_⟩, fun j hj => absurd hj (by omega)⟩
      · rw [zwn_k (by omega), zwn_q rfl]
        rfl
      · rw [J3, if_pos ⟨rfl, rfl⟩]
      · show mN (zal (zal S 11 0 3) 107 4 4) (mS S + 1) = 4
        rw [N2, if_pos rfl]
    have z4 : zsz 4 = true := by decide
    have t4 : Int32.toNatClampNeg 4 = 4 := by decide
    have ci : zCl E (d + 7) 192 [zr (some (mS S))] (zwi (zal S 11 0 3) (zwn I (mS S))) (Sum.inl none, zwi (sJ (zal (zal S 11 0 3) 107 4 4) (mS S) 0 (some (mS S + 1))) (zwn (zwn I (mS S)) (mS S + 1))) := by
      have e0 := @b_X10_init_0
      have ms1 : mS (zal S 11 0 3) = mS S + 1 := rfl
      refine zcl_in' zP_X10_init ?_; rw [zn_1_1]
      refine zat_in zP_X10_init zk_X10_init_0 ?_
      simp (disch := omega) only [e0, zif, zdr, zkb, mK_wi, mN_wi, mJ_wi, mI_wi, sI_wi, beq_self_eq_true, Bool.true_or, Bool.or_true, Bool.or_false, Bool.and_self, Bool.and_true, Bool.true_and, ↓reduceIte, ble_up0, i_cl, i_succ, zix_of, zfl_k, zup_k, zup_q, z4, t4, al_wi, mS_wi, ms1, k11, sJ_wi]
      exact ev_r
    have st : ∀ w, zEv (fun n => (fun (M1 : zM) => zif (mK M1 (mS S) == 11) (zcv (zcfX E zPm n (d + 8) 193 [zr (some (mS S)), zr (some (B + 2))] M1) (fun q5 M6 => some (Sum.inr q5, M6)) (fun M4 => zif (zkb (mK M4 pa) [10]) (zif (zkb (mK M4 pa) [10]) (zdr (mJ M4 pa 0) (fun p7 => zif (mK M4 p7 == 108) (zif (zkb (mK M4 (mS S)) [11]) (zif (Nat.ble E.1 p7) (zif (zix (mI M4 pa 1) (mN M4 p7)) (zif (zkb (mK (sJ M4 p7 (Int32.toNatClampNeg (mI M4 pa 1)) (some (mS S))) pa) [10]) (zif (zkb (mK (sJ M4 p7 (Int32.toNatClampNeg (mI M4 pa 1)) (some (mS S))) pa) [10]) (zif (Nat.ble E.1 pa) (zex E (zcfX E zPm n (d + 8)) (fun t ls st M => zX E zPm n (d + 8) 189 t ls st M) [] zc_X9_read_86 [some (zr (some pa)), some (zr (some (B + 2))), some (zi 1), some (zr (some (mS S)))] [] (sI (sJ M4 p7 (Int32.toNatClampNeg (mI M4 pa 1)) (some (mS S))) pa 1 ((mI (sJ M4 p7 (Int32.toNatClampNeg (mI M4 pa 1)) (some (mS S))) pa 1) + 1))))))))))))))) (zwi (sJ (zal (zal S 11 0 3) 107 4 4) (mS S) 0 (some (mS S + 1))) (zwn (zwn I (mS S)) (mS S + 1)))) w → zAt E (d + 8) 189 2 [some (zr (some pa)), some (zr (some (B + 2))), some (zi 1), u] [] (zwi S I) w := by
      intro w hw
      refine zat_in zP_X9_read zk_X9_read_2 ?_
      simp (disch := omega) only [e2, zif, zdr, zkb, mK_wi, mN_wi, mJ_wi, mI_wi, sI_wi, beq_self_eq_true, Bool.true_or, Bool.or_true, Bool.or_false, Bool.and_self, Bool.and_true, Bool.true_and, ↓reduceIte, ble_up0, i_cl, i_succ, zix_of, zfl_k, zup_k, zup_q, i10, kpa, npa, d12]
      refine ev_bk ?_
      refine zat_in zP_X9_read zk_X9_read_53 ?_
      simp (disch := omega) only [e53, zif, zdr, zkb, mK_wi, mN_wi, mJ_wi, mI_wi, sI_wi, beq_self_eq_true, Bool.true_or, Bool.or_true, Bool.or_false, Bool.and_self, Bool.and_true, Bool.true_and, ↓reduceIte, ble_up0, i_cl, i_succ, zix_of, zfl_k, zup_k, zup_q, al_wi, mS_wi]
      refine ev_cv ci ?_
      simp only [zif, zdr, zkb, mK_wi, mN_wi, mJ_wi, mI_wi, sI_wi, beq_self_eq_true, Bool.true_or, Bool.or_true, Bool.or_false, Bool.and_self, Bool.and_true, Bool.true_and, ↓reduceIte, ble_up0, i_cl, i_succ, zix_of, zfl_k, zup_k, zup_q] at hw
      try simp only [zif, zdr, zkb, mK_wi, mN_wi, mJ_wi, mI_wi, sI_wi, beq_self_eq_true, Bool.true_or, Bool.or_true, Bool.or_false, Bool.and_self, Bool.and_true, Bool.true_and, ↓reduceIte, ble_up0, i_cl, i_succ, zix_of, zfl_k, zup_k, zup_q]
      exact hw
    have ms3 : mS (sJ (zal (zal S 11 0 3) 107 4 4) (mS S) 0 (some (mS S + 1))) = mS S + 1 + 1 := rfl
    obtain ⟨x1, x2⟩ := sp_X10_read (d := d) (m := mS S) hB hlo R3 Q3 ⟨by omega, by omega, by omega⟩
    cases q : pRu X D r e with
    | inl s =>
      have hq : pPl X (c + 1) D r e = Sum.inl s := by unfold pPl; rw [q]
      rw [hq]
      refine ⟨fun f p h => ?_, fun D' n h => by cases h⟩
      obtain ⟨S4, I4, a4, b4, f4⟩ := x1 f p (q.trans h)
      refine ⟨S4, I4, st _ ?_, b4, (fA.tr f4).wd hm.1 (by omega) (by omega)⟩
      have k11' : mK (sJ (zal (zal S 11 0 3) 107 4 4) (mS S) 0 (some (mS S + 1))) (mS S) = 11 := k11
      simp (disch := omega) only [zif, zdr, zkb, mK_wi, mN_wi, mJ_wi, mI_wi, sI_wi, beq_self_eq_true, Bool.true_or, Bool.or_true, Bool.or_false, Bool.and_self, Bool.and_true, Bool.true_and, ↓reduceIte, ble_up0, i_cl, i_succ, zix_of, zfl_k, zup_k, zup_q, k11']
      exact ev_cvx a4 ev_r
    | inr s =>
      obtain ⟨D4, e4⟩ := s
      obtain ⟨S4, I4, a4, R4, Q4, f4, g4⟩ := x2 D4 e4 q
      have fB := fA.tr f4
      have P4 := hP.fr fB (Nat.le_refl _) hlo
      obtain ⟨ta4, Q4a, Q4b⟩ := id Q4
      have krr4 := Q4a.1.2.2.1
      have rr4 := Q4a.1.2.1
      obtain ⟨⟨p1, p2, p3, p4, p5⟩, ⟨p6, p7, p8, p9, p10, p11⟩, p12⟩ := P4
      -- the rule is put into its place
      have J5 : ∀ a i, mJ (sJ S4 ra r (some (mS S))) a i = if a = ra ∧ i = r then some (mS S) else mJ S4 a i := fun _ _ => rfl
      have R5 : xRD E (sJ S4 ra r (some (mS S))) (zup I4 pa 1 (Int32.ofNat (r + 1))) B X e4 := R4.fx (Nat.le_refl _) (fun _ _ => ⟨rfl, rfl⟩) (fun a i ha hk => if_neg (fun z => by
        rcases hk with hk | hk
        · omega
        · rw [z.1, p10] at hk
          omega)) (fun a i ha hk => zup_k (fun z => by
        rcases hk with hk | hk | hk
        · omega
        · rw [z.1, p3] at hk
          omega
        · rw [z.1, p3] at hk
          omega)) R4.2.2.2.2.1
      have f5 : rFr B m 0 0 S4 (sJ S4 ra r (some (mS S))) I4 (zup I4 pa 1 (Int32.ofNat (r + 1))) := ⟨⟨Nat.le_refl _, Nat.le_refl _, Nat.le_refl _⟩, fun _ _ => ⟨rfl, rfl⟩, fun a i ha _ => if_neg (by omega), fun a i ha _ _ => zup_k (by omega), R4.2.2.2.2.1⟩
      -- rules keep
      have keep : ∀ rr j (Dx : zPL), xRq S4 I4 lo rr j Dx → xRq (sJ S4 ra r (some (mS S))) (zup I4 pa 1 (Int32.ofNat (r + 1))) lo rr j Dx := by
        intro rr j Dx ⟨ta, ⟨⟨y1, y2, y3, y4, y5⟩, ⟨y6, y7, y8, y9, y10, y11⟩, y12⟩, y13⟩
        have n1 : rr ≠ ra := fun z => by rw [z, p10] at y3; omega
        have n2 : rr ≠ pa := fun z => by rw [z, p3] at y3; omega
        have n3 : ta ≠ ra := fun z => by rw [z, p10] at y10; omega
        refine ⟨ta, ⟨⟨y1, y2, y3, (zup_k (by omega)).trans y4, y5⟩, ⟨y6, y7, y8, (if_neg (by omega)).trans y9, y10, y11⟩, fun i hi => ?_⟩, (zup_k (by omega)).trans y13⟩
        obtain ⟨te, t1, t2, t3, t4, t5, t6, t7⟩ := y12 i hi
        have n4 : te ≠ pa := fun z => by rw [z, p3] at t4; omega
        exact ⟨te, (if_neg (by omega)).trans t1, t2, t3, t4, (zup_k (by omega)).trans t5, (zup_k (by omega)).trans t6, (zup_k (by omega)).trans t7⟩
      have P5 : xPp (sJ S4 ra r (some (mS S))) (zup I4 pa 1 (Int32.ofNat (r + 1))) lo pa ra (r + 1) D4 := by
        refine ⟨⟨p1, p2, p3, zup_q _ _ _ _, by omega⟩, ⟨p6, p7, p8, (if_neg (by omega)).trans p9, p10, p11⟩, fun j hj => ?_⟩
        by_cases z : j = r
        · subst z
          exact ⟨mS S, if_pos ⟨rfl, rfl⟩, keep _ _ _ Q4⟩
        · obtain ⟨rr, t1, t2⟩ := p12 j (by omega)
          exact ⟨rr, (if_neg (by omega)).trans t1, keep _ _ _ (t2.ag g4 z)⟩
      have st86 : ∀ w, zAt E (d + 8) 189 86 [some (zr (some pa)), some (zr (some (B + 2))), some (zi 1), some (zr (some (mS S)))] [] (zwi (sJ S4 ra r (some (mS S))) (zup I4 pa 1 (Int32.ofNat (r + 1)))) w → zAt E (d + 8) 189 2 [some (zr (some pa)), some (zr (some (B + 2))), some (zi 1), u] [] (zwi S I) w := by
        intro w hw
        refine st w ?_
        have k11' : mK (sJ (zal (zal S 11 0 3) 107 4 4) (mS S) 0 (some (mS S + 1))) (mS S) = 11 := k11
        simp (disch := omega) only [zif, zdr, zkb, mK_wi, mN_wi, mJ_wi, mI_wi, sI_wi, beq_self_eq_true, Bool.true_or, Bool.or_true, Bool.or_false, Bool.and_self, Bool.and_true, Bool.true_and, ↓reduceIte, ble_up0, i_cl, i_succ, zix_of, zfl_k, zup_k, zup_q, k11']
        refine ev_cv a4 ?_
        try simp (disch := omega) only [zif, zdr, zkb, mK_wi, mN_wi, mJ_wi, mI_wi, sI_wi, beq_self_eq_true, Bool.true_or, Bool.or_true, Bool.or_false, Bool.and_self, Bool.and_true, Bool.true_and, ↓reduceIte, ble_up0, i_cl, i_succ, zix_of, zfl_k, zup_k, zup_q, p3, p4, p9, p10, p11, krr4, sJ_wi, mK_sJ]
        exact ev_tl zP_X9_read zk_X9_read_86 hw
      have bk5 := R5.1.2.1
      have hm4 := fB.1.1
      have ms5 : mS (sJ S4 ra r (some (mS S))) = mS S4 := rfl
      have fC := (fB.wd hm.1 (Nat.le_refl _) (Nat.le_refl _)).tr f5
      by_cases c1 : tK X e4 = 59
      · have hq : pPl X (c + 1) D r e = pPl X c D4 (r + 1) (tE X e4) := by
          conv => lhs; unfold pPl
          rw [q]
          exact if_pos c1
        rw [hq]
        obtain ⟨S6, I6, a6, R6, f6⟩ := sp_X1_sign_1 (d := d + 2) hB R5 c1
        have P6 := P5.fr f6 (Nat.le_refl _) hlo
        have hm6 := f6.1.1
        have fD := fC.tr (f6.wd (m' := m) (by omega) (Nat.le_refl _) (Nat.le_refl _))
        obtain ⟨y1, y2⟩ := ih (r + 1) (by omega) D4 (tE X e4) S6 I6 (some (zr (some (mS S)))) R6 P6 (by omega) ⟨by omega, hm.2.1, hm.2.2⟩
        have st2 : ∀ w, zAt E (d + 8) 189 2 [some (zr (some pa)), some (zr (some (B + 2))), some (zi 1), some (zr (some (mS S)))] [] (zwi S6 I6) w → zAt E (d + 8) 189 2 [some (zr (some pa)), some (zr (some (B + 2))), some (zi 1), u] [] (zwi S I) w := by
          intro w hw
          refine st86 w ?_
          refine zat_in zP_X9_read zk_X9_read_86 ?_
          simp (disch := omega) only [e86, zif, zdr, zkb, mK_wi, mN_wi, mJ_wi, mI_wi, sI_wi, beq_self_eq_true, Bool.true_or, Bool.or_true, Bool.or_false, Bool.and_self, Bool.and_true, Bool.true_and, ↓reduceIte, ble_up0, i_cl, i_succ, zix_of, zfl_k, zup_k, zup_q, bk5]
          refine ev_ci a6 ?_
          exact ev_bk hw
        refine ⟨fun f p h => ?_, fun D' n h => ?_⟩
        · obtain ⟨S7, I7, a7, b7, f7⟩ := y1 f p h
          exact ⟨S7, I7, st2 _ a7, b7, (fD.tr f7).wd (Nat.le_refl _) (by omega) (by omega)⟩
        · obtain ⟨S7, I7, a7, b7, f7⟩ := y2 D' n h
          exact ⟨S7, I7, st2 _ a7, b7, (fD.tr f7).wd (Nat.le_refl _) (by omega) (by omega)⟩
      · have a6 := sp_X1_sign_0 (E := E) (d := d + 6) R5 c1
        have st96 : ∀ w, zAt E (d + 8) 189 96 [some (zr (some pa)), some (zr (some (B + 2))), some (zi 0), some (zr (some (mS S)))] [] (zwi (sJ S4 ra r (some (mS S))) (zup I4 pa 1 (Int32.ofNat (r + 1)))) w → zAt E (d + 8) 189 2 [some (zr (some pa)), some (zr (some (B + 2))), some (zi 1), u] [] (zwi S I) w := by
          intro w hw
          refine st86 w ?_
          refine zat_in zP_X9_read zk_X9_read_86 ?_
          simp (disch := omega) only [e86, zif, zdr, zkb, mK_wi, mN_wi, mJ_wi, mI_wi, sI_wi, beq_self_eq_true, Bool.true_or, Bool.or_true, Bool.or_false, Bool.and_self, Bool.and_true, Bool.true_and, ↓reduceIte, ble_up0, i_cl, i_succ, zix_of, zfl_k, zup_k, zup_q, bk5]
          refine ev_ci a6 ?_
          refine ev_bk ?_
          refine zat_in zP_X9_read zk_X9_read_2 ?_
          simp (disch := omega) only [e2, zif, zdr, zkb, mK_wi, mN_wi, mJ_wi, mI_wi, sI_wi, beq_self_eq_true, Bool.true_or, Bool.or_true, Bool.or_false, Bool.and_self, Bool.and_true, Bool.true_and, ↓reduceIte, ble_up0, i_cl, i_succ, zix_of, zfl_k, zup_k, zup_q]
          exact ev_bk hw
        by_cases c2 : tK X e4 = 0
        · have hq : pPl X (c + 1) D r e = Sum.inr (D4, r + 1) := by
            unfold pPl
            rw [q]
            show (if tK X e4 = 59 then pPl X c D4 (r + 1) (tE X e4) else if tK X e4 = 0 then Sum.inr (D4, r + 1) else Sum.inl (1, kA X e4)) = Sum.inr (D4, r + 1)
            rw [if_neg c1, if_pos c2]
          rw [hq]
          refine ⟨fun f p h => (by cases h), fun D' n h => ?_⟩
          obtain ⟨rfl, rfl⟩ := Prod.mk.inj (Sum.inr.inj h)
          have a7 := sp_X1_mustEnd_1 (E := E) (d := d + 7) R5 c2
          refine ⟨_, _, st96 _ ?_, P5, fC.wd (Nat.le_refl _) (by omega) (by omega)⟩
          refine zat_in zP_X9_read zk_X9_read_96 ?_
          simp (disch := omega) only [e96, zif, zdr, zkb, mK_wi, mN_wi, mJ_wi, mI_wi, sI_wi, beq_self_eq_true, Bool.true_or, Bool.or_true, Bool.or_false, Bool.and_self, Bool.and_true, Bool.true_and, ↓reduceIte, ble_up0, i_cl, i_succ, zix_of, zfl_k, zup_k, zup_q, bk5]
          refine ev_cv a7 ?_
          exact ev_r
        · have hq : pPl X (c + 1) D r e = Sum.inl (1, kA X e4) := by
            unfold pPl
            rw [q]
            show (if tK X e4 = 59 then pPl X c D4 (r + 1) (tE X e4) else if tK X e4 = 0 then Sum.inr (D4, r + 1) else Sum.inl (1, kA X e4)) = Sum.inl (1, kA X e4)
            rw [if_neg c1, if_neg c2]
          rw [hq]
          refine ⟨fun f p h => ?_, fun D' n h => by cases h⟩
          obtain ⟨rfl, rfl⟩ := Prod.mk.inj (Sum.inl.inj h)
          obtain ⟨I7, a7, b7, f7⟩ := sp_X1_mustEnd_0 (E := E) (d := d + 4) hB R5 c2
          refine ⟨_, I7, st96 _ ?_, b7, (fC.tr (f7.wd (m' := m) (by omega) (Nat.le_refl _) (Nat.le_refl _))).wd (Nat.le_refl _) (by omega) (by omega)⟩
          refine zat_in zP_X9_read zk_X9_read_96 ?_
          simp (disch := omega) only [e96, zif, zdr, zkb, mK_wi, mN_wi, mJ_wi, mI_wi, sI_wi, beq_self_eq_true, Bool.true_or, Bool.or_true, Bool.or_false, Bool.and_self, Bool.and_true, Bool.true_and, ↓reduceIte, ble_up0, i_cl, i_succ, zix_of, zfl_k, zup_k, zup_q, bk5]
          refine ev_cvx a7 ?_
          exact ev_r
theorem sp_X9_read (hB : E.1 ≤ B) (hlo : B + 466 ≤ lo) (hR : xRD E S I B X e) (hP : xPp S I lo pa ra 0 D) (hl : lo ≤ mS S) (hm : m ≤ mS S ∧ m ≤ pa ∧ m ≤ ra) : (∀ f p, pPl X 12 D 0 e = Sum.inl (f, p) → ∃ S' I', zCl E (d + 8) 189 [zr (some pa), zr (some (B + 2))] (zwi S I) (Sum.inr (B + 3), zwi S' I') ∧ xTh I' B f p ∧ rFr B m 780 3900 S S' I I') ∧ (∀ D' n, pPl X 12 D 0 e = Sum.inr (D', n) → ∃ S' I', zCl E (d + 8) 189 [zr (some pa), zr (some (B + 2))] (zwi S I) (Sum.inl none, zwi S' I') ∧ xPp S' I' lo pa ra n D' ∧ rFr B m 780 3900 S S' I I') := by
  have e0 := @b_X9_read_0
  obtain ⟨x1, x2⟩ := lp_X9_read (d := d) (m := m) hB hlo 12 0 rfl D e S I none hR hP hl hm
  refine ⟨fun f p h => ?_, fun D' n h => ?_⟩
  · obtain ⟨S1, I1, a1, b1, f1⟩ := x1 f p h
    refine ⟨S1, I1, ?_, b1, f1⟩
    refine zcl_in' zP_X9_read ?_; rw [zn_2_4]
    refine zat_in zP_X9_read zk_X9_read_0 ?_
    simp only [e0]
    exact ev_tl zP_X9_read zk_X9_read_2 a1
  · obtain ⟨S1, I1, a1, b1, f1⟩ := x2 D' n h
    refine ⟨S1, I1, ?_, b1, f1⟩
    refine zcl_in' zP_X9_read ?_; rw [zn_2_4]
    refine zat_in zP_X9_read zk_X9_read_0 ?_
    simp only [e0]
    exact ev_tl zP_X9_read zk_X9_read_2 a1
end
