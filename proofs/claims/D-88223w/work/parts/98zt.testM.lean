/-! ===== a test is read (model) ===== -/
set_option maxRecDepth 100000
/-- tests of the rule q of the model, by rule r of the table D -/
def mTs (I : Nat → Nat → Int32) (w q n r : Nat) (D : zPL) : Prop := I (w + 23) q = Int32.ofNat n ∧ n ≤ 4 ∧ ∀ j, j < n → I (w + 24) (4 * q + j) = pA D 3 (4 * r + j) ∧ I (w + 26) (4 * q + j) = pA D 4 (4 * r + j) ∧ I (w + 25) (4 * q + j) = pA D 5 (4 * r + j)
theorem mTs.fr {I I' : Nat → Nat → Int32} {w q n r : Nat} {D : zPL} (h : mTs I w q n r D) (hf : ∀ a k, w + 23 ≤ a → a ≤ w + 26 → I' a k = I a k) : mTs I' w q n r D := by
  obtain ⟨h1, h2, h3⟩ := h
  refine ⟨(hf _ _ (by omega) (by omega)).trans h1, h2, fun j hj => ?_⟩
  obtain ⟨a, b, c⟩ := h3 j hj
  exact ⟨(hf _ _ (by omega) (by omega)).trans a, (hf _ _ (by omega) (by omega)).trans b, (hf _ _ (by omega) (by omega)).trans c⟩
theorem pKf_1 {v : Nat} (h : v = val 22 ∨ v = val 23 ∨ wAct v ≠ -1) : pKf v = 1 := if_pos h
theorem pKf_2 {v : Nat} (h : ¬ (v = val 22 ∨ v = val 23 ∨ wAct v ≠ -1)) : pKf v = 2 := if_neg h
section
variable {E : zE} {d w q k r e e' p : Nat} {S : zM} {g : Nat → Nat → Int64} {I : Nat → Nat → Int32} {X : zTx} {D : zPL} {f : Int32} {t : Int32 × Int32 × Int32}
theorem sp_X6_test_st (hB : E.1 ≤ w) (hR : mRD E S g I w X e) : (¬ (tK X e = 2 ∧ ¬ (tV X e = val 22 ∨ tV X e = val 23 ∨ wAct (tV X e) ≠ -1)) → zCl E (d + 7) 136 [zr (some w), zi (Int32.ofNat q)] (zwi (zwg S g) I) (Sum.inr (w + 19), zwi (zwg S g) (zup (zup I (w + 19) 6 1) (w + 19) 7 (Int32.ofNat (kA X e))))) ∧ ((tK X e = 2 ∧ ¬ (tV X e = val 22 ∨ tV X e = val 23 ∨ wAct (tV X e) ≠ -1)) → ∀ z, zAt E (d + 7) 136 40 [some (zr (some w)), some (zi (Int32.ofNat q)), none, none] [] (zwi (zwg S g) I) z → zCl E (d + 7) 136 [zr (some w), zi (Int32.ofNat q)] (zwi (zwg S g) I) z) := by
  have w0 := hR.1.1.1
  have k19 := hR.1.2.2
  have e26 := hR.2.2.1.2.2.1
  have e0 := @b_X6_readTest_0
  have cs := sp_X6_stop (E := E) (d := d + 6) (f := 1) hB hR
  have g34 : zAt E (d + 7) 136 34 [some (zr (some w)), some (zi (Int32.ofNat q)), none, none] [] (zwi (zwg S g) I) (Sum.inr (w + 19), zwi (zwg S g) (zup (zup I (w + 19) 6 1) (w + 19) 7 (Int32.ofNat (kA X e)))) := by
    have e34 := @b_X6_readTest_34
    refine zat_in zP_X6_readTest zk_X6_readTest_34 ?_
    simp (disch := omega) only [e34, zif, zdr, zkb, mK_wi, mN_wi, mJ_wi, mI_wi, sI_wi, beq_self_eq_true, Bool.true_or, Bool.or_true, Bool.or_false, Bool.and_self, Bool.and_true, Bool.true_and, ↓reduceIte, ble_up0, i_cl, i_succ, zix_of, zfl_k, zup_k, zup_q, w0, mK_wg]
    refine ev_cr cs ?_
    try simp (disch := omega) only [zif, zdr, zkb, mK_wi, mN_wi, mJ_wi, mI_wi, sI_wi, beq_self_eq_true, Bool.true_or, Bool.or_true, Bool.or_false, Bool.and_self, Bool.and_true, Bool.true_and, ↓reduceIte, ble_up0, i_cl, i_succ, zix_of, zfl_k, zup_k, zup_q, mK_wg, k19]
    exact ev_r
  by_cases c1 : tK X e = 2
  · have d1 := eq_true c1
    have c39 := sp_X6_isWord (E := E) (d := d + 1) hR (i := 39) (by decide)
    have c40 := sp_X6_isWord (E := E) (d := d + 1) hR (i := 40) (by decide)
    have ca := sp_X6_actHere (E := E) (d := d) hR
    rw [iw_139] at c39
    rw [iw_140] at c40
    rw [show pAc X e = wAct (tV X e) from if_pos c1] at ca
    by_cases h22 : tV X e = val 22
    · refine ⟨fun _ => ?_, fun h => absurd (Or.inl h22) h.2⟩
      rw [iw_1 ⟨c1, h22⟩] at c39
      refine zcl_in' zP_X6_readTest ?_; rw [zn_2_4]
      refine zat_in zP_X6_readTest zk_X6_readTest_0 ?_
      simp (disch := omega) only [e0, zif, zdr, zkb, mK_wi, mN_wi, mJ_wi, mI_wi, sI_wi, beq_self_eq_true, Bool.true_or, Bool.or_true, Bool.or_false, Bool.and_self, Bool.and_true, Bool.true_and, ↓reduceIte, ble_up0, i_cl, i_succ, zix_of, zfl_k, zup_k, zup_q, w0, mK_wg, e26, mso_2, d1]
      refine ev_ci c39 ?_
      refine ev_th _ (fun h => absurd h (by decide)) (fun _ => ?_)
      exact ev_bk g34
    · rw [iw_0 (fun z => h22 z.2)] at c39
      by_cases h23 : tV X e = val 23
      · refine ⟨fun _ => ?_, fun h => absurd (Or.inr (Or.inl h23)) h.2⟩
        rw [iw_1 ⟨c1, h23⟩] at c40
        refine zcl_in' zP_X6_readTest ?_; rw [zn_2_4]
        refine zat_in zP_X6_readTest zk_X6_readTest_0 ?_
        simp (disch := omega) only [e0, zif, zdr, zkb, mK_wi, mN_wi, mJ_wi, mI_wi, sI_wi, beq_self_eq_true, Bool.true_or, Bool.or_true, Bool.or_false, Bool.and_self, Bool.and_true, Bool.true_and, ↓reduceIte, ble_up0, i_cl, i_succ, zix_of, zfl_k, zup_k, zup_q, w0, mK_wg, e26, mso_2, d1]
        refine ev_ci c39 ?_
        refine ev_th _ (fun _ => ?_) (fun h => (h (by first | rfl | trivial)).elim)
        simp (disch := omega) only [zif, zdr, zkb, mK_wi, mN_wi, mJ_wi, mI_wi, sI_wi, beq_self_eq_true, Bool.true_or, Bool.or_true, Bool.or_false, Bool.and_self, Bool.and_true, Bool.true_and, ↓reduceIte, ble_up0, i_cl, i_succ, zix_of, zfl_k, zup_k, zup_q, w0, mK_wg]
        refine ev_ci c40 ?_
        refine ev_th _ (fun h => absurd h (by decide)) (fun _ => ?_)
        exact ev_bk g34
      · rw [iw_0 (fun z => h23 z.2)] at c40
        by_cases ha : wAct (tV X e) = -1
        · refine ⟨fun h => absurd ⟨c1, fun z => z.elim h22 (fun z => z.elim h23 (fun z => z ha))⟩ h, fun _ z hz => ?_⟩
          · refine zcl_in' zP_X6_readTest ?_; rw [zn_2_4]
            refine zat_in zP_X6_readTest zk_X6_readTest_0 ?_
            simp (disch := omega) only [e0, zif, zdr, zkb, mK_wi, mN_wi, mJ_wi, mI_wi, sI_wi, beq_self_eq_true, Bool.true_or, Bool.or_true, Bool.or_false, Bool.and_self, Bool.and_true, Bool.true_and, ↓reduceIte, ble_up0, i_cl, i_succ, zix_of, zfl_k, zup_k, zup_q, w0, mK_wg, e26, mso_2, d1]
            refine ev_ci c39 ?_
            refine ev_th _ (fun _ => ?_) (fun h => (h (by first | rfl | trivial)).elim)
            simp (disch := omega) only [zif, zdr, zkb, mK_wi, mN_wi, mJ_wi, mI_wi, sI_wi, beq_self_eq_true, Bool.true_or, Bool.or_true, Bool.or_false, Bool.and_self, Bool.and_true, Bool.true_and, ↓reduceIte, ble_up0, i_cl, i_succ, zix_of, zfl_k, zup_k, zup_q, w0, mK_wg]
            refine ev_ci c40 ?_
            refine ev_th _ (fun _ => ?_) (fun h => (h (by first | rfl | trivial)).elim)
            simp (disch := omega) only [zif, zdr, zkb, mK_wi, mN_wi, mJ_wi, mI_wi, sI_wi, beq_self_eq_true, Bool.true_or, Bool.or_true, Bool.or_false, Bool.and_self, Bool.and_true, Bool.true_and, ↓reduceIte, ble_up0, i_cl, i_succ, zix_of, zfl_k, zup_k, zup_q, w0, mK_wg]
            refine ev_ci ca ?_
            refine ev_th _ (fun _ => ?_) (fun h => absurd ha h)
            exact ev_bk hz
        · refine ⟨fun _ => ?_, fun h => absurd (Or.inr (Or.inr ha)) h.2⟩
          refine zcl_in' zP_X6_readTest ?_; rw [zn_2_4]
          refine zat_in zP_X6_readTest zk_X6_readTest_0 ?_
          simp (disch := omega) only [e0, zif, zdr, zkb, mK_wi, mN_wi, mJ_wi, mI_wi, sI_wi, beq_self_eq_true, Bool.true_or, Bool.or_true, Bool.or_false, Bool.and_self, Bool.and_true, Bool.true_and, ↓reduceIte, ble_up0, i_cl, i_succ, zix_of, zfl_k, zup_k, zup_q, w0, mK_wg, e26, mso_2, d1]
          refine ev_ci c39 ?_
          refine ev_th _ (fun _ => ?_) (fun h => (h (by first | rfl | trivial)).elim)
          simp (disch := omega) only [zif, zdr, zkb, mK_wi, mN_wi, mJ_wi, mI_wi, sI_wi, beq_self_eq_true, Bool.true_or, Bool.or_true, Bool.or_false, Bool.and_self, Bool.and_true, Bool.true_and, ↓reduceIte, ble_up0, i_cl, i_succ, zix_of, zfl_k, zup_k, zup_q, w0, mK_wg]
          refine ev_ci c40 ?_
          refine ev_th _ (fun _ => ?_) (fun h => (h (by first | rfl | trivial)).elim)
          simp (disch := omega) only [zif, zdr, zkb, mK_wi, mN_wi, mJ_wi, mI_wi, sI_wi, beq_self_eq_true, Bool.true_or, Bool.or_true, Bool.or_false, Bool.and_self, Bool.and_true, Bool.true_and, ↓reduceIte, ble_up0, i_cl, i_succ, zix_of, zfl_k, zup_k, zup_q, w0, mK_wg]
          refine ev_ci ca ?_
          refine ev_th _ (fun h => absurd h ha) (fun _ => ?_)
          exact ev_tl zP_X6_readTest zk_X6_readTest_34 g34
  · have d1 := eq_false c1
    refine ⟨fun _ => ?_, fun h => absurd h.1 c1⟩
    refine zcl_in' zP_X6_readTest ?_; rw [zn_2_4]
    refine zat_in zP_X6_readTest zk_X6_readTest_0 ?_
    simp (disch := omega) only [e0, zif, zdr, zkb, mK_wi, mN_wi, mJ_wi, mI_wi, sI_wi, beq_self_eq_true, Bool.true_or, Bool.or_true, Bool.or_false, Bool.and_self, Bool.and_true, Bool.true_and, ↓reduceIte, ble_up0, i_cl, i_succ, zix_of, zfl_k, zup_k, zup_q, w0, mK_wg, e26, mso_2, d1]
    exact ev_bk g34
theorem isg_1 {v : Int32} (h : tK X e = v) : isg X e v = 1 := if_pos h
theorem isg_0 {v : Int32} (h : tK X e ≠ v) : isg X e v = 0 := if_neg h
/-- the sign and the number of a test -/
theorem sp_X6_test_72 (hB : E.1 ≤ w) (hS : mPS S w) (hR : mRD E S g I w X e) (hP : mTs I w q k r D) (hq : q < 108) (hk : k < 4) (c1 : tK X e = 2) : ∃ g2 I2, mRD E S g2 I2 w X (tE X e) ∧ mTs I2 w q k r D ∧ mQf w q I I2 ∧ I2 (w + 24) (4 * q + k) = wNam (tV X e) ∧ (¬ (tK X (tE X e) = 60 ∨ tK X (tE X e) = 62) → zAt E (d + 7) 136 72 [some (zr (some w)), some (zi (Int32.ofNat q)), some (zi (wNam (tV X e))), none] [] (zwi (zwg S g) I) (Sum.inr (w + 19), zwi (zwg S g2) (zup (zup I2 (w + 19) 6 1) (w + 19) 7 (Int32.ofNat (kA X (tE X e)))))) ∧ ((tK X (tE X e) = 60 ∨ tK X (tE X e) = 62) → ∀ z, zAt E (d + 7) 136 118 [some (zr (some w)), some (zi (Int32.ofNat q)), some (zi (wNam (tV X e))), some (zi (Int32.ofNat (4 * q + k)))] [] (zwi (zwg S g2) I2) z → zAt E (d + 7) 136 72 [some (zr (some w)), some (zi (Int32.ofNat q)), some (zi (wNam (tV X e))), none] [] (zwi (zwg S g) I) z) := by
  have w0 := hR.1.1.1
  have k19 := hR.1.2.2
  obtain ⟨-, -, -, ⟨n1, n2, n3⟩, ⟨y1, y2, y3⟩, -⟩ := id hS
  obtain ⟨p1, p2, p3⟩ := id hP
  have e72 := @b_X6_readTest_72
  have e4 : (4 : Int32) * Int32.ofNat q = Int32.ofNat (4 * q) := i_mulN (a := 4)
  have R1 : mRD E S g (zup I (w + 24) (4 * q + k) (wNam (tV X e))) w X e := hR.fx (fun a i h => zup_k (by omega))
  have P1 : mTs (zup I (w + 24) (4 * q + k) (wNam (tV X e))) w q k r D := ⟨(zup_k (by omega)).trans p1, p2, fun j hj => by
    obtain ⟨a, b, c⟩ := p3 j hj
    exact ⟨(zup_k (by omega)).trans a, (zup_k (by omega)).trans b, (zup_k (by omega)).trans c⟩⟩
  obtain ⟨g2, I2, a2, R2, f2⟩ := R1.nx (d := d + 5) hB (by rw [c1]; decide)
  have c60 := sp_X6_is (E := E) (d := d + 6) (v := 60) (by decide) R2
  have c62 := sp_X6_is (E := E) (d := d + 6) (v := 62) (by decide) R2
  have cs := sp_X6_stop (E := E) (d := d + 6) (f := 1) hB R2
  refine ⟨g2, I2, R2, P1.fr (fun a i h1 h2 => f2 a i (by omega)), fun a i h1 h2 h3 h4 => (f2 a i h1).trans (zup_k (by omega)), ?_, fun c => ?_, fun c z hz => ?_⟩
  · rw [f2 _ _ (by omega), zup_q]
  · rw [isg_0 (fun z => c (Or.inl z))] at c60
    rw [isg_0 (fun z => c (Or.inr z))] at c62
    refine zat_in zP_X6_readTest zk_X6_readTest_72 ?_
    simp (disch := omega) only [e72, zif, zdr, zkb, mK_wi, mN_wi, mJ_wi, mI_wi, sI_wi, beq_self_eq_true, Bool.true_or, Bool.or_true, Bool.or_false, Bool.and_self, Bool.and_true, Bool.true_and, ↓reduceIte, ble_up0, i_cl, i_succ, zix_of, zfl_k, zup_k, zup_q, w0, mK_wg, mN_wg, mJ_wg, n1, n2, n3, y1, y2, y3, p1, e4, i_addN]
    refine ev_cv a2 ?_
    try simp (disch := omega) only [zif, zdr, zkb, mK_wi, mN_wi, mJ_wi, mI_wi, sI_wi, beq_self_eq_true, Bool.true_or, Bool.or_true, Bool.or_false, Bool.and_self, Bool.and_true, Bool.true_and, ↓reduceIte, ble_up0, i_cl, i_succ, zix_of, zfl_k, zup_k, zup_q, w0, mK_wg]
    refine ev_ci c60 ?_
    refine ev_th _ (fun _ => ?_) (fun h => (h (by first | rfl | trivial)).elim)
    simp (disch := omega) only [zif, zdr, zkb, mK_wi, mN_wi, mJ_wi, mI_wi, sI_wi, beq_self_eq_true, Bool.true_or, Bool.or_true, Bool.or_false, Bool.and_self, Bool.and_true, Bool.true_and, ↓reduceIte, ble_up0, i_cl, i_succ, zix_of, zfl_k, zup_k, zup_q, w0, mK_wg]
    refine ev_ci c62 ?_
    refine ev_th _ (fun _ => ?_) (fun h => (h (by first | rfl | trivial)).elim)
    simp (disch := omega) only [zif, zdr, zkb, mK_wi, mN_wi, mJ_wi, mI_wi, sI_wi, beq_self_eq_true, Bool.true_or, Bool.or_true, Bool.or_false, Bool.and_self, Bool.and_true, Bool.true_and, ↓reduceIte, ble_up0, i_cl, i_succ, zix_of, zfl_k, zup_k, zup_q, w0, mK_wg]
    refine ev_cr cs ?_
    try simp (disch := omega) only [zif, zdr, zkb, mK_wi, mN_wi, mJ_wi, mI_wi, sI_wi, beq_self_eq_true, Bool.true_or, Bool.or_true, Bool.or_false, Bool.and_self, Bool.and_true, Bool.true_and, ↓reduceIte, ble_up0, i_cl, i_succ, zix_of, zfl_k, zup_k, zup_q, mK_wg, k19]
    exact ev_r
  · by_cases c6 : tK X (tE X e) = 60
    · rw [isg_1 c6] at c60
      refine zat_in zP_X6_readTest zk_X6_readTest_72 ?_
      simp (disch := omega) only [e72, zif, zdr, zkb, mK_wi, mN_wi, mJ_wi, mI_wi, sI_wi, beq_self_eq_true, Bool.true_or, Bool.or_true, Bool.or_false, Bool.and_self, Bool.and_true, Bool.true_and, ↓reduceIte, ble_up0, i_cl, i_succ, zix_of, zfl_k, zup_k, zup_q, w0, mK_wg, mN_wg, mJ_wg, n1, n2, n3, y1, y2, y3, p1, e4, i_addN]
      refine ev_cv a2 ?_
      try simp (disch := omega) only [zif, zdr, zkb, mK_wi, mN_wi, mJ_wi, mI_wi, sI_wi, beq_self_eq_true, Bool.true_or, Bool.or_true, Bool.or_false, Bool.and_self, Bool.and_true, Bool.true_and, ↓reduceIte, ble_up0, i_cl, i_succ, zix_of, zfl_k, zup_k, zup_q, w0, mK_wg]
      refine ev_ci c60 ?_
      refine ev_th _ (fun h => absurd h (by decide)) (fun _ => ?_)
      try simp (disch := omega) only [zif, zdr, zkb, mK_wi, mN_wi, mJ_wi, mI_wi, sI_wi, beq_self_eq_true, Bool.true_or, Bool.or_true, Bool.or_false, Bool.and_self, Bool.and_true, Bool.true_and, ↓reduceIte, ble_up0, i_cl, i_succ, zix_of, zfl_k, zup_k, zup_q]
      exact ev_bk hz
    · have c7 : tK X (tE X e) = 62 := by
        rcases c with c | c
        · exact absurd c c6
        · exact c
      rw [isg_0 c6] at c60
      rw [isg_1 c7] at c62
      refine zat_in zP_X6_readTest zk_X6_readTest_72 ?_
      simp (disch := omega) only [e72, zif, zdr, zkb, mK_wi, mN_wi, mJ_wi, mI_wi, sI_wi, beq_self_eq_true, Bool.true_or, Bool.or_true, Bool.or_false, Bool.and_self, Bool.and_true, Bool.true_and, ↓reduceIte, ble_up0, i_cl, i_succ, zix_of, zfl_k, zup_k, zup_q, w0, mK_wg, mN_wg, mJ_wg, n1, n2, n3, y1, y2, y3, p1, e4, i_addN]
      refine ev_cv a2 ?_
      try simp (disch := omega) only [zif, zdr, zkb, mK_wi, mN_wi, mJ_wi, mI_wi, sI_wi, beq_self_eq_true, Bool.true_or, Bool.or_true, Bool.or_false, Bool.and_self, Bool.and_true, Bool.true_and, ↓reduceIte, ble_up0, i_cl, i_succ, zix_of, zfl_k, zup_k, zup_q, w0, mK_wg]
      refine ev_ci c60 ?_
      refine ev_th _ (fun _ => ?_) (fun h => (h (by first | rfl | trivial)).elim)
      simp (disch := omega) only [zif, zdr, zkb, mK_wi, mN_wi, mJ_wi, mI_wi, sI_wi, beq_self_eq_true, Bool.true_or, Bool.or_true, Bool.or_false, Bool.and_self, Bool.and_true, Bool.true_and, ↓reduceIte, ble_up0, i_cl, i_succ, zix_of, zfl_k, zup_k, zup_q, w0, mK_wg]
      refine ev_ci c62 ?_
      refine ev_th _ (fun h => absurd h (by decide)) (fun _ => ?_)
      try simp (disch := omega) only [zif, zdr, zkb, mK_wi, mN_wi, mJ_wi, mI_wi, sI_wi, beq_self_eq_true, Bool.true_or, Bool.or_true, Bool.or_false, Bool.and_self, Bool.and_true, Bool.true_and, ↓reduceIte, ble_up0, i_cl, i_succ, zix_of, zfl_k, zup_k, zup_q]
      exact ev_bk hz
/-- to 72 -/
theorem sp_X6_test_56 (hB : E.1 ≤ w) (hS : mPS S w) (hR : mRD E S g I w X e) (hP : mTs I w q k r D) (hq : q < 108) (c1 : tK X e = 2) (c2 : wNam (tV X e) ≠ -1) (c3 : k ≠ 4) : ∀ z, zAt E (d + 7) 136 72 [some (zr (some w)), some (zi (Int32.ofNat q)), some (zi (wNam (tV X e))), none] [] (zwi (zwg S g) I) z → zCl E (d + 7) 136 [zr (some w), zi (Int32.ofNat q)] (zwi (zwg S g) I) z := by
  intro z hz
  have w0 := hR.1.1.1
  obtain ⟨-, -, -, ⟨n1, n2, n3⟩, -⟩ := id hS
  obtain ⟨p1, p2, -⟩ := id hP
  have cn := sp_X6_nameHere (E := E) (d := d) hR c1
  have e40 := @b_X6_readTest_40
  have e56 := @b_X6_readTest_56
  have d4 : (Int32.ofNat k = 4) = False := by
    rw [show (4 : Int32) = Int32.ofNat 4 from rfl, i_eq (by omega) (by omega)]
    exact eq_false c3
  refine (sp_X6_test_st (d := d) hB hR).2 ⟨c1, fun h => c2 (kept_n h)⟩ z ?_
  refine zat_in zP_X6_readTest zk_X6_readTest_40 ?_
  simp (disch := omega) only [e40, zif, zdr, zkb, mK_wi, mN_wi, mJ_wi, mI_wi, sI_wi, beq_self_eq_true, Bool.true_or, Bool.or_true, Bool.or_false, Bool.and_self, Bool.and_true, Bool.true_and, ↓reduceIte, ble_up0, i_cl, i_succ, zix_of, zfl_k, zup_k, zup_q, w0, mK_wg]
  refine ev_ci cn ?_
  refine ev_th _ (fun h => absurd h c2) (fun _ => ?_)
  refine ev_bk ?_
  refine zat_in zP_X6_readTest zk_X6_readTest_56 ?_
  simp (disch := omega) only [e56, zif, zdr, zkb, mK_wi, mN_wi, mJ_wi, mI_wi, sI_wi, beq_self_eq_true, Bool.true_or, Bool.or_true, Bool.or_false, Bool.and_self, Bool.and_true, Bool.true_and, ↓reduceIte, ble_up0, i_cl, i_succ, zix_of, zfl_k, zup_k, zup_q, w0, mK_wg, mN_wg, mJ_wg, n1, n2, n3, p1, d4]
  exact ev_bk hz
theorem sp_X6_readTest_e (hB : E.1 ≤ w) (hS : mPS S w) (hR : mRD E S g I w X e) (hP : mTs I w q k r D) (hq : q < 108) (h : pTst X e k = Sum.inl (f, p)) : ∃ g' I', zCl E (d + 7) 136 [zr (some w), zi (Int32.ofNat q)] (zwi (zwg S g) I) (Sum.inr (w + 19), zwi (zwg S g') I') ∧ mTh I' w f p ∧ mQf w q I I' := by
  have w0 := hR.1.1.1
  have k19 := hR.1.2.2
  obtain ⟨-, -, -, ⟨n1, n2, n3⟩, -⟩ := id hS
  obtain ⟨p1, p2, -⟩ := id hP
  have e40 := @b_X6_readTest_40
  have e56 := @b_X6_readTest_56
  by_cases c1 : tK X e = 2
  · by_cases c2 : wNam (tV X e) = -1
    · have hq' : pTst X e k = Sum.inl (pKf (tV X e), kA X e) := by
        unfold pTst
        rw [if_pos c1, if_pos c2]
      rw [hq'] at h
      obtain ⟨rfl, rfl⟩ := Prod.mk.inj (Sum.inl.inj h)
      by_cases c3 : tV X e = val 22 ∨ tV X e = val 23 ∨ wAct (tV X e) ≠ -1
      · rw [pKf_1 c3]
        exact ⟨_, _, (sp_X6_test_st (d := d) hB hR).1 (fun z => z.2 c3), mTh_i, mQf_th⟩
      · rw [pKf_2 c3]
        have cn := sp_X6_nameHere (E := E) (d := d) hR c1
        have cs := sp_X6_stop (E := E) (d := d + 6) (f := 2) hB hR
        refine ⟨g, _, (sp_X6_test_st (d := d) hB hR).2 ⟨c1, c3⟩ _ ?_, mTh_i, mQf_th⟩
        refine zat_in zP_X6_readTest zk_X6_readTest_40 ?_
        simp (disch := omega) only [e40, zif, zdr, zkb, mK_wi, mN_wi, mJ_wi, mI_wi, sI_wi, beq_self_eq_true, Bool.true_or, Bool.or_true, Bool.or_false, Bool.and_self, Bool.and_true, Bool.true_and, ↓reduceIte, ble_up0, i_cl, i_succ, zix_of, zfl_k, zup_k, zup_q, w0, mK_wg]
        refine ev_ci cn ?_
        refine ev_th _ (fun _ => ?_) (fun h => absurd c2 h)
        simp (disch := omega) only [zif, zdr, zkb, mK_wi, mN_wi, mJ_wi, mI_wi, sI_wi, beq_self_eq_true, Bool.true_or, Bool.or_true, Bool.or_false, Bool.and_self, Bool.and_true, Bool.true_and, ↓reduceIte, ble_up0, i_cl, i_succ, zix_of, zfl_k, zup_k, zup_q, w0, mK_wg]
        refine ev_cr cs ?_
        try simp (disch := omega) only [zif, zdr, zkb, mK_wi, mN_wi, mJ_wi, mI_wi, sI_wi, beq_self_eq_true, Bool.true_or, Bool.or_true, Bool.or_false, Bool.and_self, Bool.and_true, Bool.true_and, ↓reduceIte, ble_up0, i_cl, i_succ, zix_of, zfl_k, zup_k, zup_q, mK_wg, k19]
        exact ev_r
    · by_cases c3 : k = 4
      · have hq' : pTst X e k = Sum.inl (3, kA X e) := by
          unfold pTst
          rw [if_pos c1, if_neg c2, if_pos c3]
        rw [hq'] at h
        obtain ⟨rfl, rfl⟩ := Prod.mk.inj (Sum.inl.inj h)
        have cn := sp_X6_nameHere (E := E) (d := d) hR c1
        have cs := sp_X6_stop (E := E) (d := d + 6) (f := 3) hB hR
        have d4 : (Int32.ofNat k = 4) = True := by rw [c3]; exact eq_true rfl
        refine ⟨g, _, (sp_X6_test_st (d := d) hB hR).2 ⟨c1, fun h => c2 (kept_n h)⟩ _ ?_, mTh_i, mQf_th⟩
        refine zat_in zP_X6_readTest zk_X6_readTest_40 ?_
        simp (disch := omega) only [e40, zif, zdr, zkb, mK_wi, mN_wi, mJ_wi, mI_wi, sI_wi, beq_self_eq_true, Bool.true_or, Bool.or_true, Bool.or_false, Bool.and_self, Bool.and_true, Bool.true_and, ↓reduceIte, ble_up0, i_cl, i_succ, zix_of, zfl_k, zup_k, zup_q, w0, mK_wg]
        refine ev_ci cn ?_
        refine ev_th _ (fun h => absurd h c2) (fun _ => ?_)
        refine ev_bk ?_
        refine zat_in zP_X6_readTest zk_X6_readTest_56 ?_
        simp (disch := omega) only [e56, zif, zdr, zkb, mK_wi, mN_wi, mJ_wi, mI_wi, sI_wi, beq_self_eq_true, Bool.true_or, Bool.or_true, Bool.or_false, Bool.and_self, Bool.and_true, Bool.true_and, ↓reduceIte, ble_up0, i_cl, i_succ, zix_of, zfl_k, zup_k, zup_q, w0, mK_wg, mN_wg, mJ_wg, n1, n2, n3, p1, d4]
        refine ev_cr cs ?_
        try simp (disch := omega) only [zif, zdr, zkb, mK_wi, mN_wi, mJ_wi, mI_wi, sI_wi, beq_self_eq_true, Bool.true_or, Bool.or_true, Bool.or_false, Bool.and_self, Bool.and_true, Bool.true_and, ↓reduceIte, ble_up0, i_cl, i_succ, zix_of, zfl_k, zup_k, zup_q, mK_wg, k19]
        exact ev_r
      · obtain ⟨g2, I2, R2, P2, f2, -, x1, x2⟩ := sp_X6_test_72 (d := d) hB hS hR hP hq (show k < 4 by omega) c1
        have st := sp_X6_test_56 (d := d) hB hS hR hP hq c1 c2 c3
        by_cases c4 : tK X (tE X e) = 60 ∨ tK X (tE X e) = 62
        · have hq' : pTst X e k = if tK X (tE X (tE X e)) = 3 then Sum.inr ((wNam (tV X e), if tK X (tE X e) = 60 then 1 else 0, tN X (tE X (tE X e))), tE X (tE X (tE X e))) else Sum.inl (1, kA X (tE X (tE X e))) := by
            unfold pTst
            rw [if_pos c1, if_neg c2, if_neg c3, if_pos c4]
          by_cases c5 : tK X (tE X (tE X e)) = 3
          · rw [hq', if_pos c5] at h
            cases h
          · rw [hq', if_neg c5] at h
            obtain ⟨rfl, rfl⟩ := Prod.mk.inj (Sum.inl.inj h)
            obtain ⟨-, -, -, -, -, ⟨y1, y2, y3⟩⟩ := id hS
            have c60 := sp_X6_is (E := E) (d := d + 6) (v := 60) (by decide) R2
            have hb : isg X (tE X e) 60 = 0 ∨ isg X (tE X e) 60 = 1 := by
              unfold isg
              split
              · exact Or.inr rfl
              · exact Or.inl rfl
            generalize isg X (tE X e) 60 = x4 at *
            have R3 : mRD E S g2 (zup I2 (w + 26) (4 * q + k) (x4 &&& 1)) w X (tE X e) := R2.fx (fun a i h => zup_k (by omega))
            obtain ⟨g4, I4, a4, R4, f4⟩ := R3.nx (d := d + 5) hB (by rcases c4 with z | z <;> (rw [z]; decide))
            obtain ⟨I5, a5, b5, f5⟩ := sp_X6_needNumber_0 (d := d + 5) hB R4 c5
            have e118 := @b_X6_readTest_118
            refine ⟨g4, I5, st _ (x2 c4 _ ?_), b5, (f2.tr (fun a i h1 h2 h3 h4 => ?_)).tr (f5 q)⟩
            · refine zat_in zP_X6_readTest zk_X6_readTest_118 ?_
              simp (disch := omega) only [e118, zif, zdr, zkb, mK_wi, mN_wi, mJ_wi, mI_wi, sI_wi, beq_self_eq_true, Bool.true_or, Bool.or_true, Bool.or_false, Bool.and_self, Bool.and_true, Bool.true_and, ↓reduceIte, ble_up0, i_cl, i_succ, zix_of, zfl_k, zup_k, zup_q, w0, mK_wg]
              refine ev_ci c60 ?_
              try simp (disch := omega) only [zif, zdr, zkb, mK_wi, mN_wi, mJ_wi, mI_wi, sI_wi, beq_self_eq_true, Bool.true_or, Bool.or_true, Bool.or_false, Bool.and_self, Bool.and_true, Bool.true_and, ↓reduceIte, ble_up0, i_cl, i_succ, zix_of, zfl_k, zup_k, zup_q, w0, mK_wg, mN_wg, mJ_wg, y1, y2, y3]
              refine ev_cv a4 ?_
              try simp (disch := omega) only [zif, zdr, zkb, mK_wi, mN_wi, mJ_wi, mI_wi, sI_wi, beq_self_eq_true, Bool.true_or, Bool.or_true, Bool.or_false, Bool.and_self, Bool.and_true, Bool.true_and, ↓reduceIte, ble_up0, i_cl, i_succ, zix_of, zfl_k, zup_k, zup_q, w0, mK_wg]
              refine ev_cix a5 ?_
              exact ev_r
            · rw [f4 a i h1, zup_k (by omega)]
        · have hq' : pTst X e k = Sum.inl (1, kA X (tE X e)) := by
            unfold pTst
            rw [if_pos c1, if_neg c2, if_neg c3, if_neg c4]
          rw [hq'] at h
          obtain ⟨rfl, rfl⟩ := Prod.mk.inj (Sum.inl.inj h)
          exact ⟨g2, _, st _ (x1 c4), mTh_i, f2.tr mQf_th⟩
  · have hq' : pTst X e k = Sum.inl (1, kA X e) := by
      unfold pTst
      rw [if_neg c1]
    rw [hq'] at h
    obtain ⟨rfl, rfl⟩ := Prod.mk.inj (Sum.inl.inj h)
    exact ⟨_, _, (sp_X6_test_st (d := d) hB hR).1 (fun z => c1 z.1), mTh_i, mQf_th⟩
theorem sp_X6_readTest_1 (hB : E.1 ≤ w) (hS : mPS S w) (hR : mRD E S g I w X e) (hP : mTs I w q k r D) (hq : q < 108) (h : pTst X e k = Sum.inr (t, e')) : ∃ g' I', zCl E (d + 7) 136 [zr (some w), zi (Int32.ofNat q)] (zwi (zwg S g) I) (Sum.inl none, zwi (zwg S g') I') ∧ mRD E S g' I' w X e' ∧ mTs I' w q (k + 1) r (dT D r k t) ∧ mQf w q I I' := by
  obtain ⟨c1, c2, c3, c4, c5, rfl, rfl⟩ := pTst_i h
  have w0 := hR.1.1.1
  have hk : k < 4 := by
    have := hP.2.1
    omega
  obtain ⟨-, -, -, ⟨n1, n2, n3⟩, -, ⟨z1, z2, z3⟩, ⟨y1, y2, y3⟩⟩ := id hS
  obtain ⟨g2, I2, R2, P2, f2, en, -, x2⟩ := sp_X6_test_72 (d := d) hB hS hR hP hq hk c1
  have st := sp_X6_test_56 (d := d) hB hS hR hP hq c1 c2 c3
  have c60 := sp_X6_is (E := E) (d := d + 6) (v := 60) (by decide) R2
  have hx : isg X (tE X e) 60 = (if tK X (tE X e) = 60 then 1 else 0) := rfl
  have hb : isg X (tE X e) 60 &&& 1 = isg X (tE X e) 60 := by
    unfold isg
    split <;> decide
  rw [← hx]
  generalize isg X (tE X e) 60 = x4 at *
  have R3 : mRD E S g2 (zup I2 (w + 26) (4 * q + k) x4) w X (tE X e) := R2.fx (fun a i h => zup_k (by omega))
  obtain ⟨g4, I4, a4, R4, f4⟩ := R3.nx (d := d + 5) hB (by rcases c4 with z | z <;> (rw [z]; decide))
  obtain ⟨g5, I5, a5, R5, f5⟩ := sp_X6_needNumber_1 (d := d + 4) hB R4 c5
  have e118 := @b_X6_readTest_118
  have e154 := @b_X6_readTest_154
  obtain ⟨p1, p2, p3⟩ := P2
  have fI : ∀ a i, w + 23 ≤ a → a ≤ w + 26 → I5 a i = zup I2 (w + 26) (4 * q + k) x4 a i := fun a i h1 h2 => (f5 a i (by omega)).trans (f4 a i (by omega))
  have p1' : I5 (w + 23) q = Int32.ofNat k := (fI _ _ (by omega) (by omega)).trans ((zup_k (by omega)).trans p1)
  refine ⟨g5, zup (zup I5 (w + 25) (4 * q + k) (tN X (tE X (tE X e)))) (w + 23) q (Int32.ofNat (k + 1)), st _ (x2 c4 _ ?_), R5.fx (fun a i h => by rw [zup_k (by omega), zup_k (by omega)]), ⟨zup_q _ _ _ _, by omega, fun j hj => ?_⟩, f2.tr (fun a i h1 h2 h3 h4 => ?_)⟩
  · refine zat_in zP_X6_readTest zk_X6_readTest_118 ?_
    simp (disch := omega) only [e118, zif, zdr, zkb, mK_wi, mN_wi, mJ_wi, mI_wi, sI_wi, beq_self_eq_true, Bool.true_or, Bool.or_true, Bool.or_false, Bool.and_self, Bool.and_true, Bool.true_and, ↓reduceIte, ble_up0, i_cl, i_succ, zix_of, zfl_k, zup_k, zup_q, w0, mK_wg]
    refine ev_ci c60 ?_
    try simp (disch := omega) only [zif, zdr, zkb, mK_wi, mN_wi, mJ_wi, mI_wi, sI_wi, beq_self_eq_true, Bool.true_or, Bool.or_true, Bool.or_false, Bool.and_self, Bool.and_true, Bool.true_and, ↓reduceIte, ble_up0, i_cl, i_succ, zix_of, zfl_k, zup_k, zup_q, w0, mK_wg, mN_wg, mJ_wg, y1, y2, y3, hb]
    refine ev_cv a4 ?_
    try simp (disch := omega) only [zif, zdr, zkb, mK_wi, mN_wi, mJ_wi, mI_wi, sI_wi, beq_self_eq_true, Bool.true_or, Bool.or_true, Bool.or_false, Bool.and_self, Bool.and_true, Bool.true_and, ↓reduceIte, ble_up0, i_cl, i_succ, zix_of, zfl_k, zup_k, zup_q, w0, mK_wg]
    refine ev_ci a5 ?_
    try simp (disch := omega) only [zif, zdr, zkb, mK_wi, mN_wi, mJ_wi, mI_wi, sI_wi, beq_self_eq_true, Bool.true_or, Bool.or_true, Bool.or_false, Bool.and_self, Bool.and_true, Bool.true_and, ↓reduceIte, ble_up0, i_cl, i_succ, zix_of, zfl_k, zup_k, zup_q, w0, mK_wg, mN_wg, mJ_wg, z1, z2, z3, n1, n2, n3, p1']
    refine ev_tl zP_X6_readTest zk_X6_readTest_154 ?_
    refine zat_in zP_X6_readTest zk_X6_readTest_154 ?_
    simp only [e154]
    exact ev_r
  · by_cases z : j = k
    · subst z
      refine ⟨?_, ?_, ?_⟩
      · rw [zup_k (by omega), zup_k (by omega), fI _ _ (by omega) (by omega), zup_k (by omega), en]
        rw [dT_3]
      · rw [zup_k (by omega), zup_k (by omega), fI _ _ (by omega) (by omega), zup_q]
        rw [dT_4]
      · rw [zup_k (by omega), zup_q]
        rw [dT_5]
    · obtain ⟨a, b, c⟩ := p3 j (by omega)
      refine ⟨?_, ?_, ?_⟩
      · rw [zup_k (by omega), zup_k (by omega), fI _ _ (by omega) (by omega), zup_k (by omega), a]
        rw [dT_o (by omega)]
      · rw [zup_k (by omega), zup_k (by omega), fI _ _ (by omega) (by omega), zup_k (by omega), b]
        rw [dT_o (by omega)]
      · rw [zup_k (by omega), zup_k (by omega), fI _ _ (by omega) (by omega), zup_k (by omega), c]
        rw [dT_o (by omega)]
  · rw [zup_k (by omega), zup_k (by omega), f5 a i h1, f4 a i h1, zup_k (by omega)]
end
