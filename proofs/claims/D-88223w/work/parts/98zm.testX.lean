/-! ===== a test, a rule are read (class) ===== -/
set_option maxRecDepth 100000
/-- a rule that is being read: k tests so far -/
def xRp (S : zM) (I : Nat → Nat → Int32) (lo rr ta r k : Nat) (D : zPL) : Prop := (lo ≤ rr ∧ rr < mS S ∧ mK S rr = 11 ∧ I rr 1 = Int32.ofNat k ∧ k ≤ 4) ∧ (lo ≤ ta ∧ ta < mS S ∧ rr ≠ ta ∧ mJ S rr 0 = some ta ∧ mK S ta = 107 ∧ mN S ta = 4) ∧ ∀ j, j < k → ∃ te, mJ S ta j = some te ∧ te < mS S ∧ xTe S I lo te (4 * r + j) D
theorem xRp.fr {B m c u lo rr ta r k : Nat} {D : zPL} {S S' : zM} {I I' : Nat → Nat → Int32} (h : xRp S I lo rr ta r k D) (hf : rFr B m c u S S' I I') (hm : mS S ≤ m) (hlo : B + 466 ≤ lo) : xRp S' I' lo rr ta r k D := by
  obtain ⟨⟨f1, -, -⟩, f4, f5, f6, -⟩ := hf
  obtain ⟨⟨a1, a2, a3, a4, a5⟩, ⟨b1, b2, b3, b4, b5, b6⟩, c⟩ := h
  refine ⟨⟨a1, by omega, (f4 _ (by omega)).1.trans a3, (f6 _ _ (by omega) (by omega) (fun q => by omega)).trans a4, a5⟩, ⟨b1, by omega, b3, (f5 _ _ (by omega) (by omega)).trans b4, (f4 _ (by omega)).1.trans b5, (f4 _ (by omega)).2.trans b6⟩, fun j hj => ?_⟩
  obtain ⟨te, t1, t2, t3, t4, t5, t6, t7⟩ := c j hj
  exact ⟨te, (f5 _ _ (by omega) (by omega)).trans t1, by omega, t3, (f4 _ (by omega)).1.trans t4, (f6 _ _ (by omega) (by omega) (fun q => by omega)).trans t5, (f6 _ _ (by omega) (by omega) (fun q => by omega)).trans t6, (f6 _ _ (by omega) (by omega) (fun q => by omega)).trans t7⟩
section
variable {E : zE} {d B e e' m lo rr ta r k p : Nat} {S : zM} {I : Nat → Nat → Int32} {X : zTx} {D : zPL} {f v : Int32} {t : Int32 × Int32 × Int32}
theorem dT_3 : pA (dT D r k t) 3 (4 * r + k) = t.1 := by
  show zup (zup (zup (pA D) 3 (4 * r + k) t.1) 4 (4 * r + k) t.2.1) 5 (4 * r + k) t.2.2 3 (4 * r + k) = t.1
  rw [zup_k (by omega), zup_k (by omega), zup_q]
theorem dT_4 : pA (dT D r k t) 4 (4 * r + k) = t.2.1 := by
  show zup (zup (zup (pA D) 3 (4 * r + k) t.1) 4 (4 * r + k) t.2.1) 5 (4 * r + k) t.2.2 4 (4 * r + k) = t.2.1
  rw [zup_k (by omega), zup_q]
theorem dT_5 : pA (dT D r k t) 5 (4 * r + k) = t.2.2 := zup_q _ _ _ _
theorem dT_o {i q : Nat} (h : q ≠ 4 * r + k) : pA (dT D r k t) i q = pA D i q := by
  show zup (zup (zup (pA D) 3 (4 * r + k) t.1) 4 (4 * r + k) t.2.1) 5 (4 * r + k) t.2.2 i q = _
  rw [zup_k (by omega), zup_k (by omega), zup_k (by omega)]
theorem dA_q {a : Int32} : pA (dA D r a) 1 r = a := zup_q _ _ _ _
theorem dA_o {a : Int32} {i q : Nat} (h : i ≠ 1) : pA (dA D r a) i q = pA D i q := zup_k (by omega)
theorem sp_X10_test_e (hB : E.1 ≤ B) (hR : xRD E S I B X e) (hP : xRp S I lo rr ta r k D) (hlo : B + 466 ≤ lo) (h : pTst X e k = Sum.inl (f, p)) : ∃ S' I', zCl E (d + 6) 194 [zr (some rr), zr (some (B + 2))] (zwi S I) (Sum.inr (B + 3), zwi S' I') ∧ xTh I' B f p ∧ rFr B (mS S) 7 39 S S' I I' := by
  have bk2 := hR.1.2.1
  have brk0 := hR.1.2.2.1.2
  have e5 := hR.2.2.1.2.2.1
  obtain ⟨⟨p1, p2, p3, p4, p5⟩, ⟨p6, p7, p8, p9, p10, p11⟩, -⟩ := id hP
  by_cases c1 : tK X e = 2
  · have d1 := eq_true c1
    obtain ⟨s, I1, w1, ks, a1, R1, f1⟩ := sp_X0_nameOf (d := d + 1) hB hR c1
    have st14 : ∀ r, zEv (fun n => (fun (x4 : Int32) (M1 : zM) => if x4 = -1 then zif (zkb (mK M1 (B + 2)) [2]) (zci (zcfX E zPm n (d + 6) 195 [zr (mJ M1 (B + 2) 8)] M1) (fun q6 M7 => some (Sum.inr q6, M7)) (fun x8 M5 => if x8 = 0 then zX E zPm n (d + 6) 194 42 [some (zr (some rr)), some (zr (some (B + 2))), some (zi x4), none] [zr (some (B + 2))] M5 else zX E zPm n (d + 6) 194 43 [some (zr (some rr)), some (zr (some (B + 2))), some (zi x4), none] [zi 1, zr (some (B + 2))] M5)) else zX E zPm n (d + 6) 194 47 [some (zr (some rr)), some (zr (some (B + 2))), some (zi x4), none] [] M1) (wNam (tV X e)) (zwi S I1)) r → zCl E (d + 6) 194 [zr (some rr), zr (some (B + 2))] (zwi S I) r := by
      intro r hr
      have e14 := @b_X10_test_14
      refine zcl_in' zP_X10_test ?_; rw [zn_2_4]
      refine zat_in zP_X10_test zk_X10_test_0 ?_
      simp (disch := omega) only [b_X10_test_0, zif, zdr, zkb, mK_wi, mN_wi, mJ_wi, mI_wi, sI_wi, beq_self_eq_true, Bool.true_or, Bool.or_true, Bool.or_false, Bool.and_self, Bool.and_true, Bool.true_and, ↓reduceIte, ble_up0, i_cl, i_succ, zix_of, zfl_k, zup_k, zup_q, bk2, e5, d1]
      refine ev_bk ?_
      refine zat_in zP_X10_test zk_X10_test_14 ?_
      simp (disch := omega) only [e14, zif, zdr, zkb, mK_wi, mN_wi, mJ_wi, mI_wi, sI_wi, beq_self_eq_true, Bool.true_or, Bool.or_true, Bool.or_false, Bool.and_self, Bool.and_true, Bool.true_and, ↓reduceIte, ble_up0, i_cl, i_succ, zix_of, zfl_k, zup_k, zup_q, bk2, w1]
      refine ev_ci a1 ?_
      simp only [zif, zdr, zkb, mK_wi, mN_wi, mJ_wi, mI_wi, sI_wi, beq_self_eq_true, Bool.true_or, Bool.or_true, Bool.or_false, Bool.and_self, Bool.and_true, Bool.true_and, ↓reduceIte, ble_up0, i_cl, i_succ, zix_of, zfl_k, zup_k, zup_q] at hr
      try simp only [zif, zdr, zkb, mK_wi, mN_wi, mJ_wi, mI_wi, sI_wi, beq_self_eq_true, Bool.true_or, Bool.or_true, Bool.or_false, Bool.and_self, Bool.and_true, Bool.true_and, ↓reduceIte, ble_up0, i_cl, i_succ, zix_of, zfl_k, zup_k, zup_q]
      exact hr
    have R5 := R1.2.2.1.2.2.1
    have hm0 : I1 rr 1 = Int32.ofNat k := (hP.fr f1 (Nat.le_refl _) hlo).1.2.2.2.1
    by_cases c2 : wNam (tV X e) = -1
    · have hq : pTst X e k = Sum.inl (pKf (tV X e), kA X e) := by
        unfold pTst
        rw [if_pos c1, if_pos c2]
      rw [hq] at h
      obtain ⟨rfl, rfl⟩ := Prod.mk.inj (Sum.inl.inj h)
      obtain ⟨I2, v, a2, hv, R2, f2⟩ := sp_X10_isKept (d := d) hB R1 c1 w1 ks
      obtain ⟨I3, a3, b3, f3⟩ := sp_X1_fail (E := E) (d := d + 3) (f := pKf (tV X e)) hB R2
      refine ⟨S, I3, st14 _ ?_, b3, ((f1.tr f2).tr f3).wd (Nat.le_refl _) (by omega) (by omega)⟩
      have g43 : zAt E (d + 6) 194 43 [some (zr (some rr)), some (zr (some (B + 2))), some (zi (wNam (tV X e))), none] [zi (pKf (tV X e)), zr (some (B + 2))] (zwi S I2) (Sum.inr (B + 3), zwi S I3) := by
        refine zat_in zP_X10_test zk_X10_test_43 ?_
        simp (disch := omega) only [b_X10_test_43, zif, zdr, zkb, mK_wi, mN_wi, mJ_wi, mI_wi, sI_wi, beq_self_eq_true, Bool.true_or, Bool.or_true, Bool.or_false, Bool.and_self, Bool.and_true, Bool.true_and, ↓reduceIte, ble_up0, i_cl, i_succ, zix_of, zfl_k, zup_k, zup_q, bk2]
        refine ev_cr a3 ?_
        try simp (disch := omega) only [zif, zdr, zkb, mK_wi, mN_wi, mJ_wi, mI_wi, sI_wi, beq_self_eq_true, Bool.true_or, Bool.or_true, Bool.or_false, Bool.and_self, Bool.and_true, Bool.true_and, ↓reduceIte, ble_up0, i_cl, i_succ, zix_of, zfl_k, zup_k, zup_q, brk0]
        exact ev_r
      refine ev_th _ (fun _ => ?_) (fun h => absurd c2 h)
      simp (disch := omega) only [zif, zdr, zkb, mK_wi, mN_wi, mJ_wi, mI_wi, sI_wi, beq_self_eq_true, Bool.true_or, Bool.or_true, Bool.or_false, Bool.and_self, Bool.and_true, Bool.true_and, ↓reduceIte, ble_up0, i_cl, i_succ, zix_of, zfl_k, zup_k, zup_q, bk2, w1]
      refine ev_ci a2 ?_
      rcases hv with ⟨rfl, q⟩ | ⟨rfl, q⟩
      · rw [q] at g43
        refine ev_th _ (fun _ => ?_) (fun h => (h (by first | rfl | trivial)).elim)
        have e42 := @b_X10_test_42
        refine ev_bk ?_
        refine zat_in zP_X10_test zk_X10_test_42 ?_
        simp only [e42]
        exact ev_tl zP_X10_test zk_X10_test_43 g43
      · rw [q] at g43
        refine ev_th _ (fun h => absurd h (by decide)) (fun _ => ?_)
        exact ev_bk g43
    · by_cases c3 : k = 4
      · have hq : pTst X e k = Sum.inl (3, kA X e) := by
          unfold pTst
          rw [if_pos c1, if_neg c2, if_pos c3]
        rw [hq] at h
        obtain ⟨rfl, rfl⟩ := Prod.mk.inj (Sum.inl.inj h)
        obtain ⟨I3, a3, b3, f3⟩ := sp_X1_fail (E := E) (d := d + 3) (f := 3) hB R1
        refine ⟨S, I3, st14 _ ?_, b3, (f1.tr f3).wd (Nat.le_refl _) (by omega) (by omega)⟩
        refine ev_th _ (fun h => absurd h c2) (fun _ => ?_)
        have d4 : (Int32.ofNat k = 4) = True := by rw [c3]; exact eq_true rfl
        refine ev_bk ?_
        refine zat_in zP_X10_test zk_X10_test_47 ?_
        simp (disch := omega) only [b_X10_test_47, zif, zdr, zkb, mK_wi, mN_wi, mJ_wi, mI_wi, sI_wi, beq_self_eq_true, Bool.true_or, Bool.or_true, Bool.or_false, Bool.and_self, Bool.and_true, Bool.true_and, ↓reduceIte, ble_up0, i_cl, i_succ, zix_of, zfl_k, zup_k, zup_q, p3, hm0, d4, bk2]
        refine ev_cr a3 ?_
        try simp (disch := omega) only [zif, zdr, zkb, mK_wi, mN_wi, mJ_wi, mI_wi, sI_wi, beq_self_eq_true, Bool.true_or, Bool.or_true, Bool.or_false, Bool.and_self, Bool.and_true, Bool.true_and, ↓reduceIte, ble_up0, i_cl, i_succ, zix_of, zfl_k, zup_k, zup_q, brk0]
        exact ev_r
      · have d4 : (Int32.ofNat k = 4) = False := by
          rw [show (4 : Int32) = Int32.ofNat 4 from rfl, i_eq (by omega) (by omega)]
          exact eq_false c3
        obtain ⟨S2, I2, a2, R2, f2⟩ := R1.nx (d := d + 1) hB
        have bk2' := R2.1.2.1
        have brk0' := R2.1.2.2.1.2
        have st61 : ∀ r, zAt E (d + 6) 194 61 [some (zr (some rr)), some (zr (some (B + 2))), some (zi (wNam (tV X e))), none] [] (zwi S I1) r → zCl E (d + 6) 194 [zr (some rr), zr (some (B + 2))] (zwi S I) r := by
          intro r hr
          refine st14 _ ?_
          refine ev_th _ (fun h => absurd h c2) (fun _ => ?_)
          refine ev_bk ?_
          refine zat_in zP_X10_test zk_X10_test_47 ?_
          simp (disch := omega) only [b_X10_test_47, zif, zdr, zkb, mK_wi, mN_wi, mJ_wi, mI_wi, sI_wi, beq_self_eq_true, Bool.true_or, Bool.or_true, Bool.or_false, Bool.and_self, Bool.and_true, Bool.true_and, ↓reduceIte, ble_up0, i_cl, i_succ, zix_of, zfl_k, zup_k, zup_q, p3, hm0, d4]
          exact ev_bk hr
        by_cases c4 : tK X (tE X e) = 60 ∨ tK X (tE X e) = 62
        · have hq : pTst X e k = if tK X (tE X (tE X e)) = 3 then Sum.inr ((wNam (tV X e), if tK X (tE X e) = 60 then 1 else 0, tN X (tE X (tE X e))), tE X (tE X (tE X e))) else Sum.inl (1, kA X (tE X (tE X e))) := by
            unfold pTst
            rw [if_pos c1, if_neg c2, if_neg c3, if_pos c4]
          by_cases c5 : tK X (tE X (tE X e)) = 3
          · rw [hq, if_pos c5] at h
            cases h
          · rw [hq, if_neg c5] at h
            obtain ⟨rfl, rfl⟩ := Prod.mk.inj (Sum.inl.inj h)
            have fin : ∀ (x7 : Int32) (S3 : zM) (I3 : Nat → Nat → Int32), xRD E S3 I3 B X (tE X (tE X e)) → mK S3 rr = 11 → rFr B (mS S) 4 24 S S3 I I3 → ∃ S' I', zAt E (d + 6) 194 91 [some (zr (some rr)), some (zr (some (B + 2))), some (zi (wNam (tV X e))), some (zi x7)] [] (zwi S3 I3) (Sum.inr (B + 3), zwi S' I') ∧ xTh I' B 1 (kA X (tE X (tE X e))) ∧ rFr B (mS S) 7 39 S S' I I' := by
              intro x7 S3 I3 R3 krr fA
              have R4 := R3.al (κ := 12) (n := 0) (w := 3)
              have f4 := rFr.al (B := B) (S := S3) (I := I3) (κ := 12) (n := 0) (w := 3) R3.2.2.2.2.1
              obtain ⟨I5, a5, b5, f5⟩ := sp_X1_number_0 (d := d + 2) hB R4 c5
              have f4' := fA.1.1
              refine ⟨zal S3 12 0 3, I5, ?_, b5, ((fA.tr (f4.wd f4' (Nat.le_refl _) (Nat.le_refl _))).tr (f5.wd (show mS S ≤ mS S3 + 1 by omega) (Nat.le_refl _) (Nat.le_refl _))).wd (Nat.le_refl _) (by omega) (by omega)⟩
              have kb := R4.1.2.1
              refine zat_in zP_X10_test zk_X10_test_91 ?_
              simp (disch := omega) only [b_X10_test_91, zif, zdr, zkb, mK_wi, mN_wi, mJ_wi, mI_wi, sI_wi, beq_self_eq_true, Bool.true_or, Bool.or_true, Bool.or_false, Bool.and_self, Bool.and_true, Bool.true_and, ↓reduceIte, ble_up0, i_cl, i_succ, zix_of, zfl_k, zup_k, zup_q, krr, al_wi, mS_wi, kb]
              refine ev_cix a5 ?_
              exact ev_r
            by_cases c6 : tK X (tE X e) = 60
            · obtain ⟨S3, I3, a3, R3, f3⟩ := sp_X1_sign_1 (d := d) hB R2 c6
              have fA := ((f1.tr f2).tr (f3.wd f2.1.1 (Nat.le_refl _) (Nat.le_refl _))).wd (c' := 4) (u' := 24) (Nat.le_refl _) (by omega) (by omega)
              obtain ⟨S', I', a', b', f'⟩ := fin 1 S3 I3 R3 ((fA.2.1 _ p2).1.trans p3) fA
              refine ⟨S', I', st61 _ ?_, b', f'⟩
              refine zat_in zP_X10_test zk_X10_test_61 ?_
              simp (disch := omega) only [b_X10_test_61, zif, zdr, zkb, mK_wi, mN_wi, mJ_wi, mI_wi, sI_wi, beq_self_eq_true, Bool.true_or, Bool.or_true, Bool.or_false, Bool.and_self, Bool.and_true, Bool.true_and, ↓reduceIte, ble_up0, i_cl, i_succ, zix_of, zfl_k, zup_k, zup_q, bk2]
              refine ev_cv a2 ?_
              try simp (disch := omega) only [zif, zdr, zkb, mK_wi, mN_wi, mJ_wi, mI_wi, sI_wi, beq_self_eq_true, Bool.true_or, Bool.or_true, Bool.or_false, Bool.and_self, Bool.and_true, Bool.true_and, ↓reduceIte, ble_up0, i_cl, i_succ, zix_of, zfl_k, zup_k, zup_q, bk2']
              refine ev_ci a3 ?_
              refine ev_th _ (fun h => absurd h (by decide)) (fun _ => ?_)
              exact ev_bk a'
            · have c7 : tK X (tE X e) = 62 := by
                rcases c4 with q | q
                · exact absurd q c6
                · exact q
              have a3 := sp_X1_sign_0 (E := E) (d := d + 4) R2 c6
              obtain ⟨S3, I3, a4, R3, f3⟩ := sp_X1_sign_1 (d := d) hB R2 c7
              have fA := ((f1.tr f2).tr (f3.wd f2.1.1 (Nat.le_refl _) (Nat.le_refl _))).wd (c' := 4) (u' := 24) (Nat.le_refl _) (by omega) (by omega)
              obtain ⟨S', I', a', b', f'⟩ := fin 0 S3 I3 R3 ((fA.2.1 _ p2).1.trans p3) fA
              refine ⟨S', I', st61 _ ?_, b', f'⟩
              refine zat_in zP_X10_test zk_X10_test_61 ?_
              simp (disch := omega) only [b_X10_test_61, zif, zdr, zkb, mK_wi, mN_wi, mJ_wi, mI_wi, sI_wi, beq_self_eq_true, Bool.true_or, Bool.or_true, Bool.or_false, Bool.and_self, Bool.and_true, Bool.true_and, ↓reduceIte, ble_up0, i_cl, i_succ, zix_of, zfl_k, zup_k, zup_q, bk2]
              refine ev_cv a2 ?_
              try simp (disch := omega) only [zif, zdr, zkb, mK_wi, mN_wi, mJ_wi, mI_wi, sI_wi, beq_self_eq_true, Bool.true_or, Bool.or_true, Bool.or_false, Bool.and_self, Bool.and_true, Bool.true_and, ↓reduceIte, ble_up0, i_cl, i_succ, zix_of, zfl_k, zup_k, zup_q, bk2']
              refine ev_ci a3 ?_
              refine ev_th _ (fun _ => ?_) (fun h => (h (by first | rfl | trivial)).elim)
              simp (disch := omega) only [zif, zdr, zkb, mK_wi, mN_wi, mJ_wi, mI_wi, sI_wi, beq_self_eq_true, Bool.true_or, Bool.or_true, Bool.or_false, Bool.and_self, Bool.and_true, Bool.true_and, ↓reduceIte, ble_up0, i_cl, i_succ, zix_of, zfl_k, zup_k, zup_q, bk2']
              refine ev_ci a4 ?_
              refine ev_th _ (fun h => absurd h (by decide)) (fun _ => ?_)
              exact ev_bk a'
        · have hq : pTst X e k = Sum.inl (1, kA X (tE X e)) := by
            unfold pTst
            rw [if_pos c1, if_neg c2, if_neg c3, if_neg c4]
          rw [hq] at h
          obtain ⟨rfl, rfl⟩ := Prod.mk.inj (Sum.inl.inj h)
          have a3 := sp_X1_sign_0 (E := E) (d := d + 4) (v := 60) R2 (fun q => c4 (Or.inl q))
          have a4 := sp_X1_sign_0 (E := E) (d := d + 4) (v := 62) R2 (fun q => c4 (Or.inr q))
          obtain ⟨I3, a5, b3, f3⟩ := sp_X1_fail (E := E) (d := d + 3) (f := 1) hB R2
          refine ⟨S2, I3, st61 _ ?_, b3, ((f1.tr f2).tr (f3.wd f2.1.1 (Nat.le_refl _) (Nat.le_refl _))).wd (Nat.le_refl _) (by omega) (by omega)⟩
          refine zat_in zP_X10_test zk_X10_test_61 ?_
          simp (disch := omega) only [b_X10_test_61, zif, zdr, zkb, mK_wi, mN_wi, mJ_wi, mI_wi, sI_wi, beq_self_eq_true, Bool.true_or, Bool.or_true, Bool.or_false, Bool.and_self, Bool.and_true, Bool.true_and, ↓reduceIte, ble_up0, i_cl, i_succ, zix_of, zfl_k, zup_k, zup_q, bk2]
          refine ev_cv a2 ?_
          try simp (disch := omega) only [zif, zdr, zkb, mK_wi, mN_wi, mJ_wi, mI_wi, sI_wi, beq_self_eq_true, Bool.true_or, Bool.or_true, Bool.or_false, Bool.and_self, Bool.and_true, Bool.true_and, ↓reduceIte, ble_up0, i_cl, i_succ, zix_of, zfl_k, zup_k, zup_q, bk2']
          refine ev_ci a3 ?_
          refine ev_th _ (fun _ => ?_) (fun h => (h (by first | rfl | trivial)).elim)
          simp (disch := omega) only [zif, zdr, zkb, mK_wi, mN_wi, mJ_wi, mI_wi, sI_wi, beq_self_eq_true, Bool.true_or, Bool.or_true, Bool.or_false, Bool.and_self, Bool.and_true, Bool.true_and, ↓reduceIte, ble_up0, i_cl, i_succ, zix_of, zfl_k, zup_k, zup_q, bk2']
          refine ev_ci a4 ?_
          refine ev_th _ (fun _ => ?_) (fun h => (h (by first | rfl | trivial)).elim)
          simp (disch := omega) only [zif, zdr, zkb, mK_wi, mN_wi, mJ_wi, mI_wi, sI_wi, beq_self_eq_true, Bool.true_or, Bool.or_true, Bool.or_false, Bool.and_self, Bool.and_true, Bool.true_and, ↓reduceIte, ble_up0, i_cl, i_succ, zix_of, zfl_k, zup_k, zup_q, bk2']
          refine ev_cr a5 ?_
          try simp (disch := omega) only [zif, zdr, zkb, mK_wi, mN_wi, mJ_wi, mI_wi, sI_wi, beq_self_eq_true, Bool.true_or, Bool.or_true, Bool.or_false, Bool.and_self, Bool.and_true, Bool.true_and, ↓reduceIte, ble_up0, i_cl, i_succ, zix_of, zfl_k, zup_k, zup_q, brk0']
          exact ev_r
  · have hq : pTst X e k = Sum.inl (1, kA X e) := by
      unfold pTst
      rw [if_neg c1]
    rw [hq] at h
    obtain ⟨rfl, rfl⟩ := Prod.mk.inj (Sum.inl.inj h)
    have d1 := eq_false c1
    obtain ⟨I1, a1, b1, f1⟩ := sp_X1_fail (E := E) (d := d + 3) (f := 1) hB hR
    refine ⟨S, I1, ?_, b1, f1.wd (Nat.le_refl _) (by omega) (by omega)⟩
    refine zcl_in' zP_X10_test ?_; rw [zn_2_4]
    refine zat_in zP_X10_test zk_X10_test_0 ?_
    simp (disch := omega) only [b_X10_test_0, zif, zdr, zkb, mK_wi, mN_wi, mJ_wi, mI_wi, sI_wi, beq_self_eq_true, Bool.true_or, Bool.or_true, Bool.or_false, Bool.and_self, Bool.and_true, Bool.true_and, ↓reduceIte, ble_up0, i_cl, i_succ, zix_of, zfl_k, zup_k, zup_q, bk2, e5, d1]
    refine ev_cr a1 ?_
    try simp (disch := omega) only [zif, zdr, zkb, mK_wi, mN_wi, mJ_wi, mI_wi, sI_wi, beq_self_eq_true, Bool.true_or, Bool.or_true, Bool.or_false, Bool.and_self, Bool.and_true, Bool.true_and, ↓reduceIte, ble_up0, i_cl, i_succ, zix_of, zfl_k, zup_k, zup_q, brk0]
    exact ev_r
theorem pTst_i (h : pTst X e k = Sum.inr (t, e')) : tK X e = 2 ∧ wNam (tV X e) ≠ -1 ∧ k ≠ 4 ∧ (tK X (tE X e) = 60 ∨ tK X (tE X e) = 62) ∧ tK X (tE X (tE X e)) = 3 ∧ t = (wNam (tV X e), if tK X (tE X e) = 60 then 1 else 0, tN X (tE X (tE X e))) ∧ e' = tE X (tE X (tE X e)) := by
  unfold pTst at h
  by_cases c1 : tK X e = 2
  · rw [if_pos c1] at h
    by_cases c2 : wNam (tV X e) = -1
    · rw [if_pos c2] at h
      cases h
    · rw [if_neg c2] at h
      by_cases c3 : k = 4
      · rw [if_pos c3] at h
        cases h
      · rw [if_neg c3] at h
        by_cases c4 : tK X (tE X e) = 60 ∨ tK X (tE X e) = 62
        · rw [if_pos c4] at h
          by_cases c5 : tK X (tE X (tE X e)) = 3
          · rw [if_pos c5] at h
            obtain ⟨h1, h2⟩ := Prod.mk.inj (Sum.inr.inj h)
            exact ⟨c1, c2, c3, c4, c5, h1.symm, h2.symm⟩
          · rw [if_neg c5] at h
            cases h
        · rw [if_neg c4] at h
          cases h
  · rw [if_neg c1] at h
    cases h
theorem sp_X10_test_1 (hB : E.1 ≤ B) (hR : xRD E S I B X e) (hP : xRp S I lo rr ta r k D) (hlo : B + 466 ≤ lo) (hm : m ≤ mS S ∧ m ≤ rr ∧ m ≤ ta) (h : pTst X e k = Sum.inr (t, e')) : ∃ S' I', zCl E (d + 6) 194 [zr (some rr), zr (some (B + 2))] (zwi S I) (Sum.inl none, zwi S' I') ∧ xRD E S' I' B X e' ∧ xRp S' I' lo rr ta r (k + 1) (dT D r k t) ∧ rFr B m 7 39 S S' I I' ∧ I' rr 2 = I rr 2 := by
  obtain ⟨c1, c2, c3, c4, c5, rfl, rfl⟩ := pTst_i h
  have bk2 := hR.1.2.1
  have e5 := hR.2.2.1.2.2.1
  obtain ⟨⟨p1, p2, p3, p4, p5⟩, ⟨p6, p7, p8, p9, p10, p11⟩, -⟩ := id hP
  have d1 := eq_true c1
  obtain ⟨s, I1, w1, ks, a1, R1, f1⟩ := sp_X0_nameOf (d := d + 1) hB hR c1
  have hm0 : I1 rr 1 = Int32.ofNat k := (hP.fr f1 (Nat.le_refl _) hlo).1.2.2.2.1
  have d4 : (Int32.ofNat k = 4) = False := by
    rw [show (4 : Int32) = Int32.ofNat 4 from rfl, i_eq (by omega) (by omega)]
    exact eq_false c3
  obtain ⟨S2, I2, a2, R2, f2⟩ := R1.nx (d := d + 1) hB
  have bk2' := R2.1.2.1
  have st61 : ∀ r, zAt E (d + 6) 194 61 [some (zr (some rr)), some (zr (some (B + 2))), some (zi (wNam (tV X e))), none] [] (zwi S I1) r → zCl E (d + 6) 194 [zr (some rr), zr (some (B + 2))] (zwi S I) r := by
    intro r hr
    have e14 := @b_X10_test_14
    refine zcl_in' zP_X10_test ?_; rw [zn_2_4]
    refine zat_in zP_X10_test zk_X10_test_0 ?_
    simp (disch := omega) only [b_X10_test_0, zif, zdr, zkb, mK_wi, mN_wi, mJ_wi, mI_wi, sI_wi, beq_self_eq_true, Bool.true_or, Bool.or_true, Bool.or_false, Bool.and_self, Bool.and_true, Bool.true_and, ↓reduceIte, ble_up0, i_cl, i_succ, zix_of, zfl_k, zup_k, zup_q, bk2, e5, d1]
    refine ev_bk ?_
    refine zat_in zP_X10_test zk_X10_test_14 ?_
    simp (disch := omega) only [e14, zif, zdr, zkb, mK_wi, mN_wi, mJ_wi, mI_wi, sI_wi, beq_self_eq_true, Bool.true_or, Bool.or_true, Bool.or_false, Bool.and_self, Bool.and_true, Bool.true_and, ↓reduceIte, ble_up0, i_cl, i_succ, zix_of, zfl_k, zup_k, zup_q, bk2, w1]
    refine ev_ci a1 ?_
    refine ev_th _ (fun h => absurd h c2) (fun _ => ?_)
    refine ev_bk ?_
    refine zat_in zP_X10_test zk_X10_test_47 ?_
    simp (disch := omega) only [b_X10_test_47, zif, zdr, zkb, mK_wi, mN_wi, mJ_wi, mI_wi, sI_wi, beq_self_eq_true, Bool.true_or, Bool.or_true, Bool.or_false, Bool.and_self, Bool.and_true, Bool.true_and, ↓reduceIte, ble_up0, i_cl, i_succ, zix_of, zfl_k, zup_k, zup_q, p3, hm0, d4]
    exact ev_bk hr
  have fin : ∀ (x7 : Int32) (S3 : zM) (I3 : Nat → Nat → Int32), x7 = 0 ∨ x7 = 1 → xRD E S3 I3 B X (tE X (tE X e)) → rFr B (mS S) 4 24 S S3 I I3 → ∃ S' I', zAt E (d + 6) 194 91 [some (zr (some rr)), some (zr (some (B + 2))), some (zi (wNam (tV X e))), some (zi x7)] [] (zwi S3 I3) (Sum.inl none, zwi S' I') ∧ xRD E S' I' B X (tE X (tE X (tE X e))) ∧ xRp S' I' lo rr ta r (k + 1) (dT D r k (wNam (tV X e), x7, tN X (tE X (tE X e)))) ∧ rFr B m 7 39 S S' I I' ∧ I' rr 2 = I rr 2 := by
    intro x7 S3 I3 hx R3 fA
    have P3 := hP.fr fA (Nat.le_refl _) hlo
    have R4 := R3.al (κ := 12) (n := 0) (w := 3)
    have f4 := rFr.al (B := B) (S := S3) (I := I3) (κ := 12) (n := 0) (w := 3) R3.2.2.2.2.1
    have P4 := P3.fr f4 (Nat.le_refl _) hlo
    have f4' := fA.1.1
    have hm3 := R3.2.2.2.1
    obtain ⟨S5, I5, a5, R5, f5⟩ := sp_X1_number_1 (d := d) hB R4 c5
    have P5 := P4.fr f5 (Nat.le_refl _) hlo
    have f5' : mS S3 + 1 ≤ mS S5 := f5.1.1
    obtain ⟨⟨g1, g2, g3, g4, g5⟩, ⟨g6, g7, g8, g9, g10, g11⟩, g12⟩ := P5
    have k4 : mK S5 (mS S3) = 12 := (f5.2.1 _ (show mS S3 < mS S3 + 1 by omega)).1.trans (mK_al_q rfl)
    have r3 : mK S3 rr = 11 := P3.1.2.2.1
    have r4 : I3 rr 1 = Int32.ofNat k := P3.1.2.2.2.1
    have r5 : mJ S3 rr 0 = some ta := P3.2.1.2.2.2.1
    have kb := R4.1.2.1
    have z01' := z01 hx
    have rr3 : rr < mS S3 := P3.1.2.1
    have ta3 : ta < mS S3 := P3.2.1.2.1
    -- what is there in the end
    have J7 : ∀ a i, mJ (sJ S5 ta k (some (mS S3))) a i = if a = ta ∧ i = k then some (mS S3) else mJ S5 a i := fun _ _ => rfl
    refine ⟨sJ S5 ta k (some (mS S3)), zup (zup (zup (zup I5 (mS S3) 0 (wNam (tV X e))) (mS S3) 2 x7) (mS S3) 1 (tN X (tE X (tE X e)))) rr 1 (Int32.ofNat (k + 1)), ?_, ?_, ?_, ?_, ?_⟩
    · have c11 : zCl E (d + 5) 197 [zr (some (mS S3)), zi (wNam (tV X e)), zi x7, zi (tN X (tE X (tE X e)))] (zwi S5 I5) (Sum.inl none, zwi S5 (zup (zup (zup I5 (mS S3) 0 (wNam (tV X e))) (mS S3) 2 x7) (mS S3) 1 (tN X (tE X (tE X e))))) := by
        refine zcl_in' zP_X11_init ?_; rw [zn_4_4]
        refine zat_in zP_X11_init zk_X11_init_0 ?_
        simp (disch := omega) only [b_X11_init_0, zif, zdr, zkb, mK_wi, mN_wi, mJ_wi, mI_wi, sI_wi, beq_self_eq_true, Bool.true_or, Bool.or_true, Bool.or_false, Bool.and_self, Bool.and_true, Bool.true_and, ↓reduceIte, ble_up0, i_cl, i_succ, zix_of, zfl_k, zup_k, zup_q, k4, z01']
        exact ev_r
      have hk4 : k < 4 := by omega
      refine zat_in zP_X10_test zk_X10_test_91 ?_
      simp (disch := omega) only [b_X10_test_91, zif, zdr, zkb, mK_wi, mN_wi, mJ_wi, mI_wi, sI_wi, beq_self_eq_true, Bool.true_or, Bool.or_true, Bool.or_false, Bool.and_self, Bool.and_true, Bool.true_and, ↓reduceIte, ble_up0, i_cl, i_succ, zix_of, zfl_k, zup_k, zup_q, r3, r4, r5, al_wi, mS_wi, kb]
      refine ev_ci a5 ?_
      refine ev_cv c11 ?_
      have g4' := g4
      simp (disch := omega) only [zif, zdr, zkb, mK_wi, mN_wi, mJ_wi, mI_wi, sI_wi, beq_self_eq_true, Bool.true_or, Bool.or_true, Bool.or_false, Bool.and_self, Bool.and_true, Bool.true_and, ↓reduceIte, ble_up0, i_cl, i_succ, zix_of, zfl_k, zup_k, zup_q, g3, g4, g10, g11, k4, sJ_wi, mK_sJ]
      refine ev_tl zP_X10_test zk_X10_test_123 ?_
      have e123 := @b_X10_test_123
      refine zat_in zP_X10_test zk_X10_test_123 ?_
      simp only [e123]
      exact ev_r
    · refine R5.fx (Nat.le_refl _) (fun _ _ => ⟨rfl, rfl⟩) (fun a i ha hk => ?_) (fun a i ha hk => ?_) R5.2.2.2.2.1
      · rw [J7]
        refine if_neg (fun q => ?_)
        rcases hk with hk | hk
        · omega
        · rw [q.1, g10] at hk
          omega
      · have n1 : a ≠ rr := fun q => by
          rcases hk with hk | hk | hk
          · omega
          · rw [q, g3] at hk
            omega
          · rw [q, g3] at hk
            omega
        have n2 : a ≠ mS S3 := fun q => by
          rcases hk with hk | hk | hk
          · omega
          · rw [q, k4] at hk
            omega
          · rw [q, k4] at hk
            omega
        rw [zup_k (by omega), zup_k (by omega), zup_k (by omega), zup_k (by omega)]
    · refine ⟨⟨g1, g2, g3, zup_q _ _ _ _, by omega⟩, ⟨g6, g7, g8, ?_, g10, g11⟩, fun j hj => ?_⟩
      · rw [J7, if_neg (by omega)]
        exact g9
      · by_cases q : j = k
        · subst q
          refine ⟨mS S3, ?_, show mS S3 < mS S5 by omega, by omega, k4, ?_, ?_, ?_⟩
          · rw [J7, if_pos ⟨rfl, rfl⟩]
          · simp (disch := omega) only [zfl_k, zfl_q, zup_k, zup_q]
            rw [dT_3]
          · simp (disch := omega) only [zfl_k, zfl_q, zup_k, zup_q]
            rw [dT_4]
          · simp (disch := omega) only [zfl_k, zfl_q, zup_k, zup_q]
            rw [dT_5]
        · obtain ⟨te, t1, t2, t3, t4, t5, t6, t7⟩ := g12 j (by omega)
          have n1 : te ≠ rr := fun q => by rw [q, g3] at t4; omega
          have n2 : te ≠ mS S3 := fun q2 => by
            -- the older tests lie below
            obtain ⟨te', y1, y2, -⟩ := P3.2.2 j (by omega)
            have y3 : mJ S5 ta j = mJ S3 ta j := (f5.2.2.1 _ _ (show ta < mS S3 + 1 by omega) (by omega)).trans (mJ_al_k (by omega))
            rw [y3, y1] at t1
            have := Option.some.inj t1
            omega
          refine ⟨te, ?_, t2, t3, t4, ?_, ?_, ?_⟩
          · rw [J7, if_neg (by omega)]
            exact t1
          · simp (disch := omega) only [zfl_k, zfl_q, zup_k, zup_q]
            rw [t5]
            rw [dT_o (by omega)]
          · simp (disch := omega) only [zfl_k, zfl_q, zup_k, zup_q]
            rw [t6]
            rw [dT_o (by omega)]
          · simp (disch := omega) only [zfl_k, zfl_q, zup_k, zup_q]
            rw [t7]
            rw [dT_o (by omega)]
    · have hfA := ((fA.tr (f4.wd f4' (Nat.le_refl _) (Nat.le_refl _))).tr (f5.wd (show mS S ≤ mS S3 + 1 by omega) (Nat.le_refl _) (Nat.le_refl _)))
      obtain ⟨⟨h1, h2, h3⟩, h4, h5, h6, h7⟩ := hfA
      refine ⟨⟨h1, show mS S5 ≤ mS S + 7 by omega, show mU S5 ≤ mU S + 39 by omega⟩, fun a ha => h4 a (by omega), fun a i ha hk => ?_, fun a i ha hk hr => ?_, h7⟩
      · rw [J7, if_neg (by omega)]
        exact h5 a i (by omega) hk
      · rw [zup_k (by omega), zup_k (by omega), zup_k (by omega), zup_k (by omega)]
        exact h6 a i (by omega) hk hr
    · rw [zup_k (by omega), zup_k (by omega), zup_k (by omega), zup_k (by omega)]
      have x1 : I5 rr 2 = zwn I3 (mS S3) rr 2 := f5.2.2.2.1 _ _ (show rr < mS S3 + 1 by omega) (by omega) (fun q => by rw [mK_al_k (by omega), r3] at q; omega)
      rw [x1, zwn_k (by omega)]
      exact fA.2.2.2.1 _ _ p2 (by omega) (fun q => by rw [p3] at q; omega)
  by_cases c6 : tK X (tE X e) = 60
  · rw [if_pos c6]
    obtain ⟨S3, I3, a3, R3, f3⟩ := sp_X1_sign_1 (d := d) hB R2 c6
    have fA := ((f1.tr f2).tr (f3.wd f2.1.1 (Nat.le_refl _) (Nat.le_refl _))).wd (c' := 4) (u' := 24) (Nat.le_refl _) (by omega) (by omega)
    obtain ⟨S', I', a', b'⟩ := fin 1 S3 I3 (Or.inr rfl) R3 fA
    refine ⟨S', I', st61 _ ?_, b'⟩
    refine zat_in zP_X10_test zk_X10_test_61 ?_
    simp (disch := omega) only [b_X10_test_61, zif, zdr, zkb, mK_wi, mN_wi, mJ_wi, mI_wi, sI_wi, beq_self_eq_true, Bool.true_or, Bool.or_true, Bool.or_false, Bool.and_self, Bool.and_true, Bool.true_and, ↓reduceIte, ble_up0, i_cl, i_succ, zix_of, zfl_k, zup_k, zup_q, bk2]
    refine ev_cv a2 ?_
    try simp (disch := omega) only [zif, zdr, zkb, mK_wi, mN_wi, mJ_wi, mI_wi, sI_wi, beq_self_eq_true, Bool.true_or, Bool.or_true, Bool.or_false, Bool.and_self, Bool.and_true, Bool.true_and, ↓reduceIte, ble_up0, i_cl, i_succ, zix_of, zfl_k, zup_k, zup_q, bk2']
    refine ev_ci a3 ?_
    refine ev_th _ (fun h => absurd h (by decide)) (fun _ => ?_)
    exact ev_bk a'
  · rw [if_neg c6]
    have c7 : tK X (tE X e) = 62 := by
      rcases c4 with q | q
      · exact absurd q c6
      · exact q
    have a3 := sp_X1_sign_0 (E := E) (d := d + 4) R2 c6
    obtain ⟨S3, I3, a4, R3, f3⟩ := sp_X1_sign_1 (d := d) hB R2 c7
    have fA := ((f1.tr f2).tr (f3.wd f2.1.1 (Nat.le_refl _) (Nat.le_refl _))).wd (c' := 4) (u' := 24) (Nat.le_refl _) (by omega) (by omega)
    obtain ⟨S', I', a', b'⟩ := fin 0 S3 I3 (Or.inl rfl) R3 fA
    refine ⟨S', I', st61 _ ?_, b'⟩
    refine zat_in zP_X10_test zk_X10_test_61 ?_
    simp (disch := omega) only [b_X10_test_61, zif, zdr, zkb, mK_wi, mN_wi, mJ_wi, mI_wi, sI_wi, beq_self_eq_true, Bool.true_or, Bool.or_true, Bool.or_false, Bool.and_self, Bool.and_true, Bool.true_and, ↓reduceIte, ble_up0, i_cl, i_succ, zix_of, zfl_k, zup_k, zup_q, bk2]
    refine ev_cv a2 ?_
    try simp (disch := omega) only [zif, zdr, zkb, mK_wi, mN_wi, mJ_wi, mI_wi, sI_wi, beq_self_eq_true, Bool.true_or, Bool.or_true, Bool.or_false, Bool.and_self, Bool.and_true, Bool.true_and, ↓reduceIte, ble_up0, i_cl, i_succ, zix_of, zfl_k, zup_k, zup_q, bk2']
    refine ev_ci a3 ?_
    refine ev_th _ (fun _ => ?_) (fun h => (h (by first | rfl | trivial)).elim)
    simp (disch := omega) only [zif, zdr, zkb, mK_wi, mN_wi, mJ_wi, mI_wi, sI_wi, beq_self_eq_true, Bool.true_or, Bool.or_true, Bool.or_false, Bool.and_self, Bool.and_true, Bool.true_and, ↓reduceIte, ble_up0, i_cl, i_succ, zix_of, zfl_k, zup_k, zup_q, bk2']
    refine ev_ci a4 ?_
    refine ev_th _ (fun h => absurd h (by decide)) (fun _ => ?_)
    exact ev_bk a'
end
