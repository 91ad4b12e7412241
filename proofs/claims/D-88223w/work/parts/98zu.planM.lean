/-! ===== a plan is read (model) ===== -/
set_option maxRecDepth 100000
/-- a rule of the model by rule j of the table D -/
def mRv (I : Nat → Nat → Int32) (w q j : Nat) (D : zPL) : Prop := I (w + 22) q = pA D 1 j ∧ mTs I w q (pnt D j) j D
def mPp (I : Nat → Nat → Int32) (w p r : Nat) (D : zPL) : Prop := I (w + 21) p = Int32.ofNat r ∧ r ≤ 12 ∧ ∀ j, j < r → mRv I w (12 * p + j) j D
/-- what reading plan p leaves as it was -/
def mPf (w p : Nat) (I I' : Nat → Nat → Int32) : Prop := ∀ a k, ¬ (a = w ∧ 25 ≤ k ∧ k ≤ 29) → a ≠ w + 19 → ¬ (a = w + 21 ∧ k = p) → ¬ ((a = w + 22 ∨ a = w + 23) ∧ 12 * p ≤ k ∧ k < 12 * p + 12) → ¬ (w + 24 ≤ a ∧ a ≤ w + 26 ∧ 48 * p ≤ k ∧ k < 48 * p + 48) → I' a k = I a k
theorem mPf.rf {w p : Nat} {I : Nat → Nat → Int32} : mPf w p I I := fun _ _ _ _ _ _ _ => rfl
theorem mPf.tr {w p : Nat} {I I1 I2 : Nat → Nat → Int32} (h : mPf w p I I1) (h' : mPf w p I1 I2) : mPf w p I I2 := fun a k h1 h2 h3 h4 h5 => (h' a k h1 h2 h3 h4 h5).trans (h a k h1 h2 h3 h4 h5)
theorem mQf.p {w p r : Nat} {I I' : Nat → Nat → Int32} (h : mQf w (12 * p + r) I I') (hr : r < 12) : mPf w p I I' := fun a k h1 h2 h3 h4 h5 => h a k h1 h2 (by omega) (by omega)
theorem mFr.p {w p : Nat} {I I' : Nat → Nat → Int32} (h : mFr w I I') : mPf w p I I' := fun a k h1 _ _ _ _ => h a k h1
theorem mRv.fr {I I' : Nat → Nat → Int32} {w q q' j : Nat} {D : zPL} (h : mRv I w q j D) (hf : mQf w q' I I') (hq : q ≠ q') : mRv I' w q j D := by
  obtain ⟨h1, h2, h3, h4⟩ := h
  refine ⟨(hf _ _ (by omega) (by omega) (by omega) (by omega)).trans h1, (hf _ _ (by omega) (by omega) (by omega) (by omega)).trans h2, h3, fun i hi => ?_⟩
  obtain ⟨a, b, c⟩ := h4 i hi
  exact ⟨(hf _ _ (by omega) (by omega) (by omega) (by omega)).trans a, (hf _ _ (by omega) (by omega) (by omega) (by omega)).trans b, (hf _ _ (by omega) (by omega) (by omega) (by omega)).trans c⟩
theorem mRv.frI {I I' : Nat → Nat → Int32} {w q j : Nat} {D : zPL} (h : mRv I w q j D) (hf : ∀ a k, w + 22 ≤ a → a ≤ w + 26 → I' a k = I a k) : mRv I' w q j D := ⟨(hf _ _ (by omega) (by omega)).trans h.1, h.2.fr (fun a k h1 h2 => hf a k (by omega) h2)⟩
theorem mRv.ag {I : Nat → Nat → Int32} {w q j r : Nat} {D D' : zPL} (h : mRv I w q j D) (ha : dAg r D D') (hj : j ≠ r) : mRv I w q j D' := by
  obtain ⟨a1, a2, a3⟩ := ha j hj
  obtain ⟨h1, h2, h3, h4⟩ := h
  refine ⟨by rw [a2]; exact h1, ?_, ?_, fun i hi => ?_⟩
  · rw [a1]
    exact h2
  · rw [a1]
    exact h3
  · rw [a1] at hi
    rw [a3 i 3 (by omega) (by omega), a3 i 4 (by omega) (by omega), a3 i 5 (by omega) (by omega)]
    exact h4 i hi
theorem iw_k {X : zTx} {e i : Nat} (h : iw X e i ≠ 0) : tK X e = 2 ∧ tV X e = val i := by
  unfold iw at h
  by_cases c : tK X e = 2 ∧ tV X e = val i
  · exact c
  · rw [if_neg c] at h
    exact absurd rfl h
section
variable {E : zE} {d w q r e p : Nat} {S : zM} {g : Nat → Nat → Int64} {I : Nat → Nat → Int32} {X : zTx} {D : zPL}
/-- the tests of a rule -/
theorem lp_X6_tests {P a3 : Int32} (hB : E.1 ≤ w) (hS : mPS S w) (hq : q < 108) : ∀ c k, k + c = 4 → ∀ D e g I (v : Int32), mRD E S g I w X e → mTs I w q k r D → pnt D r = k → (v ≠ 0 → tK X e = 2) → (∀ f p', (if v = 0 then Sum.inr (D, e) else pTs X r c D (tE X e) k : zFl ⊕ (zPL × Nat)) = Sum.inl (f, p') → ∃ g' I', zAt E (d + 8) 131 84 [some (zr (some w)), some (zi P), some (zi 1), some (zi a3), some (zi (Int32.ofNat q)), some (zi v)] [] (zwi (zwg S g) I) (Sum.inr (w + 19), zwi (zwg S g') I') ∧ mTh I' w f p' ∧ mQf w q I I') ∧ (∀ D' e', (if v = 0 then Sum.inr (D, e) else pTs X r c D (tE X e) k : zFl ⊕ (zPL × Nat)) = Sum.inr (D', e') → ∃ g' I', (∀ z, zAt E (d + 8) 131 110 [some (zr (some w)), some (zi P), some (zi 1), some (zi a3), some (zi (Int32.ofNat q)), some (zi 0)] [] (zwi (zwg S g') I') z → zAt E (d + 8) 131 84 [some (zr (some w)), some (zi P), some (zi 1), some (zi a3), some (zi (Int32.ofNat q)), some (zi v)] [] (zwi (zwg S g) I) z) ∧ mRD E S g' I' w X e' ∧ mTs I' w q (pnt D' r) r D' ∧ mQf w q I I' ∧ dAg r D D') := by
  have e84 := @b_X6_readPlan_84
  intro c
  induction c with
  | zero =>
    intro k hk D e g I v hR hP hn hv
    by_cases c0 : v = 0
    · subst c0
      refine ⟨fun f p' h => (by rw [if_pos rfl] at h; cases h), fun D' e' h => ?_⟩
      rw [if_pos rfl] at h
      obtain ⟨rfl, rfl⟩ := Prod.mk.inj (Sum.inr.inj h)
      refine ⟨g, I, fun z hz => ?_, hR, hn ▸ hP, mQf.rf, dAg.rf⟩
      refine zat_in zP_X6_readPlan zk_X6_readPlan_84 ?_
      simp only [e84]
      exact ev_th _ (fun _ => ev_bk hz) (fun h => (h (by first | rfl | trivial)).elim)
    · rw [if_neg c0]
      have w0 := hR.1.1.1
      obtain ⟨g1, I1, a1, R1, f1⟩ := hR.nx (d := d + 6) hB (by rw [hv c0]; decide)
      have P1 : mTs I1 w q k r D := hP.fr (fun a i h1 h2 => f1 a i (by omega))
      obtain rfl : k = 4 := by omega
      cases z : pTst X (tE X e) 4 with
      | inr s => exact absurd z pTst_4
      | inl s =>
        rw [pTs_e z]
        refine ⟨fun f p' h => ?_, fun D' e' h => by cases h⟩
        rw [Sum.inl.inj h] at z
        obtain ⟨g2, I2, a2, b2, f2⟩ := sp_X6_readTest_e (d := d) hB hS R1 P1 hq z
        refine ⟨g2, I2, ?_, b2, (f1.q).tr f2⟩
        refine zat_in zP_X6_readPlan zk_X6_readPlan_84 ?_
        simp only [e84]
        refine ev_th _ (fun h => absurd h c0) (fun _ => ?_)
        try simp (disch := omega) only [zif, zdr, zkb, mK_wi, mN_wi, mJ_wi, mI_wi, sI_wi, beq_self_eq_true, Bool.true_or, Bool.or_true, Bool.or_false, Bool.and_self, Bool.and_true, Bool.true_and, ↓reduceIte, ble_up0, i_cl, i_succ, zix_of, zfl_k, zup_k, zup_q, w0, mK_wg]
        refine ev_cv a1 ?_
        try simp (disch := omega) only [zif, zdr, zkb, mK_wi, mN_wi, mJ_wi, mI_wi, sI_wi, beq_self_eq_true, Bool.true_or, Bool.or_true, Bool.or_false, Bool.and_self, Bool.and_true, Bool.true_and, ↓reduceIte, ble_up0, i_cl, i_succ, zix_of, zfl_k, zup_k, zup_q, w0, mK_wg]
        refine ev_cvx a2 ?_
        exact ev_r
  | succ c ih =>
    intro k hk D e g I v hR hP hn hv
    by_cases c0 : v = 0
    · subst c0
      refine ⟨fun f p' h => (by rw [if_pos rfl] at h; cases h), fun D' e' h => ?_⟩
      rw [if_pos rfl] at h
      obtain ⟨rfl, rfl⟩ := Prod.mk.inj (Sum.inr.inj h)
      refine ⟨g, I, fun z hz => ?_, hR, hn ▸ hP, mQf.rf, dAg.rf⟩
      refine zat_in zP_X6_readPlan zk_X6_readPlan_84 ?_
      simp only [e84]
      exact ev_th _ (fun _ => ev_bk hz) (fun h => (h (by first | rfl | trivial)).elim)
    · rw [if_neg c0]
      have w0 := hR.1.1.1
      obtain ⟨g1, I1, a1, R1, f1⟩ := hR.nx (d := d + 6) hB (by rw [hv c0]; decide)
      have P1 : mTs I1 w q k r D := hP.fr (fun a i h1 h2 => f1 a i (by omega))
      cases z : pTst X (tE X e) k with
      | inl s =>
        rw [pTs_e z]
        refine ⟨fun f p' h => ?_, fun D' e' h => by cases h⟩
        rw [Sum.inl.inj h] at z
        obtain ⟨g2, I2, a2, b2, f2⟩ := sp_X6_readTest_e (d := d) hB hS R1 P1 hq z
        refine ⟨g2, I2, ?_, b2, (f1.q).tr f2⟩
        refine zat_in zP_X6_readPlan zk_X6_readPlan_84 ?_
        simp only [e84]
        refine ev_th _ (fun h => absurd h c0) (fun _ => ?_)
        try simp (disch := omega) only [zif, zdr, zkb, mK_wi, mN_wi, mJ_wi, mI_wi, sI_wi, beq_self_eq_true, Bool.true_or, Bool.or_true, Bool.or_false, Bool.and_self, Bool.and_true, Bool.true_and, ↓reduceIte, ble_up0, i_cl, i_succ, zix_of, zfl_k, zup_k, zup_q, w0, mK_wg]
        refine ev_cv a1 ?_
        try simp (disch := omega) only [zif, zdr, zkb, mK_wi, mN_wi, mJ_wi, mI_wi, sI_wi, beq_self_eq_true, Bool.true_or, Bool.or_true, Bool.or_false, Bool.and_self, Bool.and_true, Bool.true_and, ↓reduceIte, ble_up0, i_cl, i_succ, zix_of, zfl_k, zup_k, zup_q, w0, mK_wg]
        refine ev_cvx a2 ?_
        exact ev_r
      | inr s =>
        obtain ⟨t, e2⟩ := s
        rw [pTs_s z]
        obtain ⟨g2, I2, a2, R2, P2, f2⟩ := sp_X6_readTest_1 (d := d) hB hS R1 P1 hq z
        have cw := sp_X6_isWord (E := E) (d := d + 2) R2 (i := 40) (by decide)
        rw [iw_140] at cw
        have hn2 : pnt (dT D r k t) r = k + 1 := if_pos rfl
        obtain ⟨x1, x2⟩ := ih (k + 1) (by omega) _ _ _ _ (iw X e2 23) R2 P2 hn2 (fun h => (iw_k h).1)
        have st : ∀ z, zAt E (d + 8) 131 84 [some (zr (some w)), some (zi P), some (zi 1), some (zi a3), some (zi (Int32.ofNat q)), some (zi (iw X e2 23))] [] (zwi (zwg S g2) I2) z → zAt E (d + 8) 131 84 [some (zr (some w)), some (zi P), some (zi 1), some (zi a3), some (zi (Int32.ofNat q)), some (zi v)] [] (zwi (zwg S g) I) z := by
          intro z hz
          refine zat_in zP_X6_readPlan zk_X6_readPlan_84 ?_
          simp only [e84]
          refine ev_th _ (fun h => absurd h c0) (fun _ => ?_)
          try simp (disch := omega) only [zif, zdr, zkb, mK_wi, mN_wi, mJ_wi, mI_wi, sI_wi, beq_self_eq_true, Bool.true_or, Bool.or_true, Bool.or_false, Bool.and_self, Bool.and_true, Bool.true_and, ↓reduceIte, ble_up0, i_cl, i_succ, zix_of, zfl_k, zup_k, zup_q, w0, mK_wg]
          refine ev_cv a1 ?_
          try simp (disch := omega) only [zif, zdr, zkb, mK_wi, mN_wi, mJ_wi, mI_wi, sI_wi, beq_self_eq_true, Bool.true_or, Bool.or_true, Bool.or_false, Bool.and_self, Bool.and_true, Bool.true_and, ↓reduceIte, ble_up0, i_cl, i_succ, zix_of, zfl_k, zup_k, zup_q, w0, mK_wg]
          refine ev_cv a2 ?_
          try simp (disch := omega) only [zif, zdr, zkb, mK_wi, mN_wi, mJ_wi, mI_wi, sI_wi, beq_self_eq_true, Bool.true_or, Bool.or_true, Bool.or_false, Bool.and_self, Bool.and_true, Bool.true_and, ↓reduceIte, ble_up0, i_cl, i_succ, zix_of, zfl_k, zup_k, zup_q, w0, mK_wg]
          refine ev_ci cw ?_
          exact ev_bk hz
        refine ⟨fun f p' h => ?_, fun D' e' h => ?_⟩
        · obtain ⟨g3, I3, a3', b3, f3⟩ := x1 f p' h
          exact ⟨g3, I3, st _ a3', b3, ((f1.q).tr f2).tr f3⟩
        · obtain ⟨g3, I3, a3', R3, P3, f3, ag⟩ := x2 D' e' h
          exact ⟨g3, I3, fun z hz => st _ (a3' z hz), R3, P3, ((f1.q).tr f2).tr f3, (dAg_T (by omega)).tr ag⟩
theorem lp_X6_readPlan (hB : E.1 ≤ w) (hS : mPS S w) (hp : p < 9) : ∀ c r, r + c = 12 → ∀ D e g I (u3 u4 u5 : Option zV), mRD E S g I w X e → mPp I w p r D → (∀ f p', pPl X c D r e = Sum.inl (f, p') → ∃ g' I', zAt E (d + 8) 131 14 [some (zr (some w)), some (zi (Int32.ofNat p)), some (zi 1), u3, u4, u5] [] (zwi (zwg S g) I) (Sum.inr (w + 19), zwi (zwg S g') I') ∧ mTh I' w f p' ∧ mPf w p I I') ∧ (∀ D' n, pPl X c D r e = Sum.inr (D', n) → ∃ g' I', zAt E (d + 8) 131 14 [some (zr (some w)), some (zi (Int32.ofNat p)), some (zi 1), u3, u4, u5] [] (zwi (zwg S g) I) (Sum.inl none, zwi (zwg S g') I') ∧ mPp I' w p n D' ∧ mPf w p I I') := by
  have e14 := @b_X6_readPlan_14
  have e43 := @b_X6_readPlan_43
  have e60 := @b_X6_readPlan_60
  have e110 := @b_X6_readPlan_110
  have e138 := @b_X6_readPlan_138
  have e167 := @b_X6_readPlan_167
  have e170 := @b_X6_readPlan_170
  have e184 := @b_X6_readPlan_184
  obtain ⟨-, ⟨r1, r2, r3⟩, ⟨s1, s2, s3⟩, ⟨n1, n2, n3⟩, -⟩ := id hS
  -- the first checks
  have hd : ∀ e g I (u3 u4 u5 : Option zV), mRD E S g I w X e → (iw X e 20 = 0 → pAc X e = -1 → zAt E (d + 8) 131 14 [some (zr (some w)), some (zi (Int32.ofNat p)), some (zi 1), u3, u4, u5] [] (zwi (zwg S g) I) (Sum.inr (w + 19), zwi (zwg S g) (zup (zup I (w + 19) 6 1) (w + 19) 7 (Int32.ofNat (kA X e))))) ∧ ((iw X e 20 ≠ 0 ∨ pAc X e ≠ -1) → ∀ z, zAt E (d + 8) 131 43 [some (zr (some w)), some (zi (Int32.ofNat p)), some (zi 1), some (zi (iw X e 20)), u4, u5] [] (zwi (zwg S g) I) z → zAt E (d + 8) 131 14 [some (zr (some w)), some (zi (Int32.ofNat p)), some (zi 1), u3, u4, u5] [] (zwi (zwg S g) I) z) := by
    intro e g I u3 u4 u5 hR
    have w0 := hR.1.1.1
    have k19 := hR.1.2.2
    have cw := sp_X6_isWord (E := E) (d := d + 2) hR (i := 39) (by decide)
    rw [iw_139, ← iw_when] at cw
    have ca := sp_X6_actHere (E := E) (d := d + 1) hR
    have cs := sp_X6_stop (E := E) (d := d + 7) (f := 1) hB hR
    constructor
    · intro c1 c2
      rw [c1] at cw
      refine zat_in zP_X6_readPlan zk_X6_readPlan_14 ?_
      simp (disch := omega) only [e14, zif, zdr, zkb, mK_wi, mN_wi, mJ_wi, mI_wi, sI_wi, beq_self_eq_true, Bool.true_or, Bool.or_true, Bool.or_false, Bool.and_self, Bool.and_true, Bool.true_and, ↓reduceIte, ble_up0, i_cl, i_succ, zix_of, zfl_k, zup_k, zup_q, i10, w0, mK_wg]
      refine ev_ci cw ?_
      refine ev_th _ (fun _ => ?_) (fun h => (h (by first | rfl | trivial)).elim)
      simp (disch := omega) only [zif, zdr, zkb, mK_wi, mN_wi, mJ_wi, mI_wi, sI_wi, beq_self_eq_true, Bool.true_or, Bool.or_true, Bool.or_false, Bool.and_self, Bool.and_true, Bool.true_and, ↓reduceIte, ble_up0, i_cl, i_succ, zix_of, zfl_k, zup_k, zup_q, w0, mK_wg]
      refine ev_ci ca ?_
      refine ev_th _ (fun _ => ?_) (fun h => absurd c2 h)
      simp (disch := omega) only [zif, zdr, zkb, mK_wi, mN_wi, mJ_wi, mI_wi, sI_wi, beq_self_eq_true, Bool.true_or, Bool.or_true, Bool.or_false, Bool.and_self, Bool.and_true, Bool.true_and, ↓reduceIte, ble_up0, i_cl, i_succ, zix_of, zfl_k, zup_k, zup_q, w0, mK_wg]
      refine ev_cr cs ?_
      try simp (disch := omega) only [zif, zdr, zkb, mK_wi, mN_wi, mJ_wi, mI_wi, sI_wi, beq_self_eq_true, Bool.true_or, Bool.or_true, Bool.or_false, Bool.and_self, Bool.and_true, Bool.true_and, ↓reduceIte, ble_up0, i_cl, i_succ, zix_of, zfl_k, zup_k, zup_q, mK_wg, k19]
      exact ev_r
    · intro c1 z hz
      refine zat_in zP_X6_readPlan zk_X6_readPlan_14 ?_
      simp (disch := omega) only [e14, zif, zdr, zkb, mK_wi, mN_wi, mJ_wi, mI_wi, sI_wi, beq_self_eq_true, Bool.true_or, Bool.or_true, Bool.or_false, Bool.and_self, Bool.and_true, Bool.true_and, ↓reduceIte, ble_up0, i_cl, i_succ, zix_of, zfl_k, zup_k, zup_q, i10, w0, mK_wg]
      refine ev_ci cw ?_
      refine ev_th _ (fun c0 => ?_) (fun _ => ev_bk hz)
      rw [c0] at hz
      have c2 : pAc X e ≠ -1 := by
        rcases c1 with c1 | c1
        · exact absurd c0 c1
        · exact c1
      simp (disch := omega) only [zif, zdr, zkb, mK_wi, mN_wi, mJ_wi, mI_wi, sI_wi, beq_self_eq_true, Bool.true_or, Bool.or_true, Bool.or_false, Bool.and_self, Bool.and_true, Bool.true_and, ↓reduceIte, ble_up0, i_cl, i_succ, zix_of, zfl_k, zup_k, zup_q, w0, mK_wg]
      refine ev_ci ca ?_
      refine ev_th _ (fun h => absurd h c2) (fun _ => ?_)
      rw [c0]
      exact ev_bk hz
  intro c
  induction c with
  | zero =>
    intro r hr D e g I u3 u4 u5 hR hP
    obtain rfl : r = 12 := by omega
    have w0 := hR.1.1.1
    have k19 := hR.1.2.2
    refine ⟨fun f p' h => ?_, fun D' n h => by cases h⟩
    obtain ⟨hf, rfl⟩ := Prod.mk.inj (Sum.inl.inj h)
    have h43 : ∀ x : Int32, zAt E (d + 8) 131 43 [some (zr (some w)), some (zi (Int32.ofNat p)), some (zi 1), some (zi x), u4, u5] [] (zwi (zwg S g) I) (Sum.inr (w + 19), zwi (zwg S g) (zup (zup I (w + 19) 6 3) (w + 19) 7 (Int32.ofNat (kA X e)))) := by
      intro x
      have cs := sp_X6_stop (E := E) (d := d + 7) (f := 3) hB hR
      have d12 : (Int32.ofNat 12 = 12) = True := eq_true rfl
      have ep := hP.1
      refine zat_in zP_X6_readPlan zk_X6_readPlan_43 ?_
      simp (disch := omega) only [e43, zif, zdr, zkb, mK_wi, mN_wi, mJ_wi, mI_wi, sI_wi, beq_self_eq_true, Bool.true_or, Bool.or_true, Bool.or_false, Bool.and_self, Bool.and_true, Bool.true_and, ↓reduceIte, ble_up0, i_cl, i_succ, zix_of, zfl_k, zup_k, zup_q, w0, mK_wg, mN_wg, mJ_wg, r1, r2, r3, ep, d12]
      refine ev_cr cs ?_
      try simp (disch := omega) only [zif, zdr, zkb, mK_wi, mN_wi, mJ_wi, mI_wi, sI_wi, beq_self_eq_true, Bool.true_or, Bool.or_true, Bool.or_false, Bool.and_self, Bool.and_true, Bool.true_and, ↓reduceIte, ble_up0, i_cl, i_succ, zix_of, zfl_k, zup_k, zup_q, mK_wg, k19]
      exact ev_r
    by_cases c1 : iw X e 20 = 0
    · rw [if_pos c1] at hf
      by_cases c2 : pAc X e = -1
      · rw [if_pos c2] at hf
        subst hf
        exact ⟨g, _, (hd e g I u3 u4 u5 hR).1 c1 c2, mTh_i, fun a i h1 h2 _ _ _ => by rw [zup_k (by omega), zup_k (by omega)]⟩
      · rw [if_neg c2] at hf
        subst hf
        exact ⟨g, _, (hd e g I u3 u4 u5 hR).2 (Or.inr c2) _ (h43 _), mTh_i, fun a i h1 h2 _ _ _ => by rw [zup_k (by omega), zup_k (by omega)]⟩
    · rw [if_neg c1] at hf
      subst hf
      exact ⟨g, _, (hd e g I u3 u4 u5 hR).2 (Or.inl c1) _ (h43 _), mTh_i, fun a i h1 h2 _ _ _ => by rw [zup_k (by omega), zup_k (by omega)]⟩
  | succ c ih =>
    intro r hr D e g I u3 u4 u5 hR hP
    have w0 := hR.1.1.1
    have k19 := hR.1.2.2
    by_cases c0 : iw X e 20 = 0 ∧ pAc X e = -1
    · have hq : pPl X (c + 1) D r e = Sum.inl (1, kA X e) := by
        unfold pPl pRu pHd
        rw [← iw_when, if_pos c0.1]
        show (match (if pAc X e = -1 then Sum.inl (1, kA X e) else Sum.inr (dA (d0 D r) r (pAc X e), tE X e) : zFl ⊕ (zPL × Nat)) with
          | Sum.inl f => Sum.inl f
          | Sum.inr (D', e') => if tK X e' = 59 then pPl X c D' (r + 1) (tE X e') else if tK X e' = 0 then Sum.inr (D', r + 1) else Sum.inl (1, kA X e')) = _
        rw [if_pos c0.2]
      rw [hq]
      refine ⟨fun f p' h => ?_, fun D' n h => by cases h⟩
      obtain ⟨rfl, rfl⟩ := Prod.mk.inj (Sum.inl.inj h)
      exact ⟨g, _, (hd e g I u3 u4 u5 hR).1 c0.1 c0.2, mTh_i, fun a i h1 h2 _ _ _ => by rw [zup_k (by omega), zup_k (by omega)]⟩
    · have c0' : iw X e 20 ≠ 0 ∨ pAc X e ≠ -1 := by
        by_cases c1 : iw X e 20 = 0
        · exact Or.inr (fun h => c0 ⟨c1, h⟩)
        · exact Or.inl c1
      have ep := hP.1
      have d12 : (Int32.ofNat r = 12) = False := by
        rw [show (12 : Int32) = Int32.ofNat 12 from rfl, i_eq (by omega) (by omega)]
        exact eq_false (by omega)
      have hr12 : r < 12 := by omega
      have eq12 : (12 : Int32) * Int32.ofNat p = Int32.ofNat (12 * p) := i_mulN (a := 12)
      -- to 84
      have R1 : mRD E S g (zup I (w + 23) (12 * p + r) 0) w X e := hR.fx (fun a i h => zup_k (by omega))
      have P1 : mTs (zup I (w + 23) (12 * p + r) 0) w (12 * p + r) 0 r (d0 D r) := ⟨zup_q _ _ _ _, by omega, fun j hj => absurd hj (by omega)⟩
      have f1 : mQf w (12 * p + r) I (zup I (w + 23) (12 * p + r) 0) := fun a i _ _ h3 _ => zup_k (by omega)
      have st84 : ∀ z, zAt E (d + 8) 131 84 [some (zr (some w)), some (zi (Int32.ofNat p)), some (zi 1), some (zi (iw X e 20)), some (zi (Int32.ofNat (12 * p + r))), some (zi (iw X e 20))] [] (zwi (zwg S g) (zup I (w + 23) (12 * p + r) 0)) z → zAt E (d + 8) 131 14 [some (zr (some w)), some (zi (Int32.ofNat p)), some (zi 1), u3, u4, u5] [] (zwi (zwg S g) I) z := by
        intro z hz
        refine (hd e g I u3 u4 u5 hR).2 c0' z ?_
        refine zat_in zP_X6_readPlan zk_X6_readPlan_43 ?_
        simp (disch := omega) only [e43, zif, zdr, zkb, mK_wi, mN_wi, mJ_wi, mI_wi, sI_wi, beq_self_eq_true, Bool.true_or, Bool.or_true, Bool.or_false, Bool.and_self, Bool.and_true, Bool.true_and, ↓reduceIte, ble_up0, i_cl, i_succ, zix_of, zfl_k, zup_k, zup_q, w0, mK_wg, mN_wg, mJ_wg, r1, r2, r3, ep, d12]
        refine ev_bk ?_
        refine zat_in zP_X6_readPlan zk_X6_readPlan_60 ?_
        simp (disch := omega) only [e60, zif, zdr, zkb, mK_wi, mN_wi, mJ_wi, mI_wi, sI_wi, beq_self_eq_true, Bool.true_or, Bool.or_true, Bool.or_false, Bool.and_self, Bool.and_true, Bool.true_and, ↓reduceIte, ble_up0, i_cl, i_succ, zix_of, zfl_k, zup_k, zup_q, w0, mK_wg, mN_wg, mJ_wg, r1, r2, r3, n1, n2, n3, ep, eq12, i_addN]
        exact ev_tl zP_X6_readPlan zk_X6_readPlan_84 hz
      obtain ⟨x1, x2⟩ := lp_X6_tests (d := d) (P := Int32.ofNat p) (a3 := iw X e 20) hB hS (show 12 * p + r < 108 by omega) 4 0 rfl (d0 D r) e g _ (iw X e 20) R1 P1 (if_pos rfl) (fun h => (iw_k h).1)
      have hh : (if iw X e 20 = 0 then Sum.inr (d0 D r, e) else pTs X r 4 (d0 D r) (tE X e) 0 : zFl ⊕ (zPL × Nat)) = pHd X D r e := by
        unfold pHd
        rw [iw_when]
      rw [hh] at x1 x2
      cases q1 : pHd X D r e with
      | inl s =>
        have hq : pPl X (c + 1) D r e = Sum.inl s := by
          unfold pPl pRu
          rw [q1]
        rw [hq]
        refine ⟨fun f p' h => ?_, fun D' n h => by cases h⟩
        obtain ⟨g2, I2, a2, b2, f2⟩ := x1 f p' (q1.trans h)
        exact ⟨g2, I2, st84 _ a2, b2, (f1.tr f2).p hr12⟩
      | inr s =>
        obtain ⟨D2, e2⟩ := s
        obtain ⟨g2, I2, a2, R2, P2, f2, ag2⟩ := x2 D2 e2 q1
        have ca := sp_X6_actHere (E := E) (d := d + 1) R2
        -- the act is set
        have R3 : mRD E S g2 (zup I2 (w + 22) (12 * p + r) (pAc X e2)) w X e2 := R2.fx (fun a i h => zup_k (by omega))
        have f3 : mQf w (12 * p + r) I2 (zup I2 (w + 22) (12 * p + r) (pAc X e2)) := fun a i _ _ h3 _ => zup_k (by omega)
        have fA := (f1.tr f2).tr f3
        have hru : pRu X D r e = if pAc X e2 = -1 then Sum.inl (1, kA X e2) else Sum.inr (dA D2 r (pAc X e2), tE X e2) := by
          unfold pRu
          rw [q1]
        by_cases c2 : pAc X e2 = -1
        · have hq : pPl X (c + 1) D r e = Sum.inl (1, kA X e2) := by
            unfold pPl
            rw [hru, if_pos c2]
          rw [hq]
          refine ⟨fun f p' h => ?_, fun D' n h => by cases h⟩
          obtain ⟨rfl, rfl⟩ := Prod.mk.inj (Sum.inl.inj h)
          have cs := sp_X6_stop (E := E) (d := d + 7) (f := 1) hB R3
          refine ⟨g2, _, st84 _ (a2 _ ?_), mTh_i, (fA.tr mQf_th).p hr12⟩
          refine zat_in zP_X6_readPlan zk_X6_readPlan_110 ?_
          simp (disch := omega) only [e110, zif, zdr, zkb, mK_wi, mN_wi, mJ_wi, mI_wi, sI_wi, beq_self_eq_true, Bool.true_or, Bool.or_true, Bool.or_false, Bool.and_self, Bool.and_true, Bool.true_and, ↓reduceIte, ble_up0, i_cl, i_succ, zix_of, zfl_k, zup_k, zup_q, w0, mK_wg, mN_wg, mJ_wg, s1, s2, s3]
          refine ev_ci ca ?_
          try simp (disch := omega) only [zif, zdr, zkb, mK_wi, mN_wi, mJ_wi, mI_wi, sI_wi, beq_self_eq_true, Bool.true_or, Bool.or_true, Bool.or_false, Bool.and_self, Bool.and_true, Bool.true_and, ↓reduceIte, ble_up0, i_cl, i_succ, zix_of, zfl_k, zup_k, zup_q, w0, mK_wg, mN_wg, mJ_wg, s1, s2, s3]
          refine ev_th _ (fun _ => ?_) (fun h => absurd c2 h)
          refine ev_cr cs ?_
          try simp (disch := omega) only [zif, zdr, zkb, mK_wi, mN_wi, mJ_wi, mI_wi, sI_wi, beq_self_eq_true, Bool.true_or, Bool.or_true, Bool.or_false, Bool.and_self, Bool.and_true, Bool.true_and, ↓reduceIte, ble_up0, i_cl, i_succ, zix_of, zfl_k, zup_k, zup_q, mK_wg, k19]
          exact ev_r
        · obtain ⟨g4, I4, a4, R4, f4⟩ := R3.nx (d := d + 6) hB (by
            intro z
            refine c2 ?_
            unfold pAc
            rw [z, if_neg (by decide)])
          have V4 : mRv I4 w (12 * p + r) r (dA D2 r (pAc X e2)) := by
            obtain ⟨y1, y2, y3⟩ := P2
            have fI : ∀ a i, w + 22 ≤ a → a ≤ w + 26 → I4 a i = zup I2 (w + 22) (12 * p + r) (pAc X e2) a i := fun a i h1 h2 => f4 a i (by omega)
            refine ⟨?_, ?_, y2, fun j hj => ?_⟩
            · rw [fI _ _ (by omega) (by omega), zup_q]
              rw [dA_q]
            · rw [fI _ _ (by omega) (by omega), zup_k (by omega)]
              exact y1
            · obtain ⟨a, b, c⟩ := y3 j hj
              refine ⟨?_, ?_, ?_⟩
              · rw [fI _ _ (by omega) (by omega), zup_k (by omega), a]
                rw [dA_o (by omega)]
              · rw [fI _ _ (by omega) (by omega), zup_k (by omega), b]
                rw [dA_o (by omega)]
              · rw [fI _ _ (by omega) (by omega), zup_k (by omega), c]
                rw [dA_o (by omega)]
          have fB := fA.tr f4.q
          have ag := (dAg_0.tr ag2).tr (dAg_A (r := r) (a := pAc X e2))
          have ep4 : I4 (w + 21) p = Int32.ofNat r := (fB _ _ (by omega) (by omega) (by omega) (by omega)).trans ep
          have P5 : mPp (zup I4 (w + 21) p (Int32.ofNat (r + 1))) w p (r + 1) (dA D2 r (pAc X e2)) := by
            refine ⟨zup_q _ _ _ _, by omega, fun j hj => ?_⟩
            by_cases z : j = r
            · subst z
              exact V4.frI (fun a i h1 h2 => zup_k (by omega))
            · exact (((hP.2.2 j (by omega)).fr fB (by omega)).ag ag z).frI (fun a i h1 h2 => zup_k (by omega))
          have R5 : mRD E S g4 (zup I4 (w + 21) p (Int32.ofNat (r + 1))) w X (tE X e2) := R4.fx (fun a i h => zup_k (by omega))
          have fC : mPf w p I (zup I4 (w + 21) p (Int32.ofNat (r + 1))) := (fB.p hr12).tr (fun a i _ _ h3 _ _ => zup_k (by omega))
          have cx := sp_X6_is (E := E) (d := d + 7) (v := 59) (by decide) R5
          have st138 : ∀ z, zEv (fun n => (fun (x9 : Int32) (M6 : zM) => if x9 = 0 then zX E zPm n (d + 8) 131 167 [some (zr (some w)), some (zi (Int32.ofNat p)), some (zi x9), some (zi (iw X e 20)), some (zi (Int32.ofNat (12 * p + r))), some (zi 0)] [] M6 else zif (mK M6 w == 7) (zcv (zcfX E zPm n (d + 8) 127 [zr (some w)] M6) (fun q11 M12 => some (Sum.inr q11, M12)) (fun M10 => zex E (zcfX E zPm n (d + 8)) (fun t ls st M => zX E zPm n (d + 8) 131 t ls st M) [] zc_X6_readPlan_167 [some (zr (some w)), some (zi (Int32.ofNat p)), some (zi x9), some (zi (iw X e 20)), some (zi (Int32.ofNat (12 * p + r))), some (zi 0)] [] M10))) (isg X (tE X e2) 59) (zwi (zwg S g4) (zup I4 (w + 21) p (Int32.ofNat (r + 1))))) z → zAt E (d + 8) 131 14 [some (zr (some w)), some (zi (Int32.ofNat p)), some (zi 1), u3, u4, u5] [] (zwi (zwg S g) I) z := by
            intro z hz
            refine st84 _ (a2 _ ?_)
            refine zat_in zP_X6_readPlan zk_X6_readPlan_110 ?_
            simp (disch := omega) only [e110, zif, zdr, zkb, mK_wi, mN_wi, mJ_wi, mI_wi, sI_wi, beq_self_eq_true, Bool.true_or, Bool.or_true, Bool.or_false, Bool.and_self, Bool.and_true, Bool.true_and, ↓reduceIte, ble_up0, i_cl, i_succ, zix_of, zfl_k, zup_k, zup_q, w0, mK_wg, mN_wg, mJ_wg, s1, s2, s3]
            refine ev_ci ca ?_
            try simp (disch := omega) only [zif, zdr, zkb, mK_wi, mN_wi, mJ_wi, mI_wi, sI_wi, beq_self_eq_true, Bool.true_or, Bool.or_true, Bool.or_false, Bool.and_self, Bool.and_true, Bool.true_and, ↓reduceIte, ble_up0, i_cl, i_succ, zix_of, zfl_k, zup_k, zup_q, w0, mK_wg, mN_wg, mJ_wg, s1, s2, s3]
            refine ev_th _ (fun h => absurd h c2) (fun _ => ?_)
            refine ev_bk ?_
            refine zat_in zP_X6_readPlan zk_X6_readPlan_138 ?_
            simp (disch := omega) only [e138, zif, zdr, zkb, mK_wi, mN_wi, mJ_wi, mI_wi, sI_wi, beq_self_eq_true, Bool.true_or, Bool.or_true, Bool.or_false, Bool.and_self, Bool.and_true, Bool.true_and, ↓reduceIte, ble_up0, i_cl, i_succ, zix_of, zfl_k, zup_k, zup_q, w0, mK_wg]
            refine ev_cv a4 ?_
            try simp (disch := omega) only [zif, zdr, zkb, mK_wi, mN_wi, mJ_wi, mI_wi, sI_wi, beq_self_eq_true, Bool.true_or, Bool.or_true, Bool.or_false, Bool.and_self, Bool.and_true, Bool.true_and, ↓reduceIte, ble_up0, i_cl, i_succ, zix_of, zfl_k, zup_k, zup_q, w0, mK_wg, mN_wg, mJ_wg, r1, r2, r3, ep4]
            exact ev_ci cx hz
          by_cases c3 : tK X (tE X e2) = 59
          · have hq : pPl X (c + 1) D r e = pPl X c (dA D2 r (pAc X e2)) (r + 1) (tE X (tE X e2)) := by
              conv => lhs; unfold pPl
              rw [hru, if_neg c2]
              show (if tK X (tE X e2) = 59 then _ else _) = _
              rw [if_pos c3]
            rw [hq]
            obtain ⟨g6, I6, a6, R6, f6⟩ := R5.nx (d := d + 6) hB (by rw [c3]; decide)
            have P6 : mPp I6 w p (r + 1) (dA D2 r (pAc X e2)) := by
              obtain ⟨y1, y2, y3⟩ := P5
              exact ⟨(f6 _ _ (by omega)).trans y1, y2, fun j hj => (y3 j hj).frI (fun a i h1 h2 => f6 a i (by omega))⟩
            obtain ⟨y1, y2⟩ := ih (r + 1) (by omega) _ _ g6 I6 (some (zi (iw X e 20))) (some (zi (Int32.ofNat (12 * p + r)))) (some (zi 0)) R6 P6
            have st2 : ∀ z, zAt E (d + 8) 131 14 [some (zr (some w)), some (zi (Int32.ofNat p)), some (zi 1), some (zi (iw X e 20)), some (zi (Int32.ofNat (12 * p + r))), some (zi 0)] [] (zwi (zwg S g6) I6) z → zAt E (d + 8) 131 14 [some (zr (some w)), some (zi (Int32.ofNat p)), some (zi 1), u3, u4, u5] [] (zwi (zwg S g) I) z := by
              intro z hz
              refine st138 z ?_
              rw [isg_1 c3]
              refine ev_th _ (fun h => absurd h (by decide)) (fun _ => ?_)
              try simp (disch := omega) only [zif, zdr, zkb, mK_wi, mN_wi, mJ_wi, mI_wi, sI_wi, beq_self_eq_true, Bool.true_or, Bool.or_true, Bool.or_false, Bool.and_self, Bool.and_true, Bool.true_and, ↓reduceIte, ble_up0, i_cl, i_succ, zix_of, zfl_k, zup_k, zup_q, w0, mK_wg]
              refine ev_cv a6 ?_
              refine ev_tl zP_X6_readPlan zk_X6_readPlan_167 ?_
              refine zat_in zP_X6_readPlan zk_X6_readPlan_167 ?_
              simp only [e167]
              exact ev_bk hz
            refine ⟨fun f p' h => ?_, fun D' n h => ?_⟩
            · obtain ⟨g7, I7, a7, b7, f7⟩ := y1 f p' h
              exact ⟨g7, I7, st2 _ a7, b7, (fC.tr f6.p).tr f7⟩
            · obtain ⟨g7, I7, a7, b7, f7⟩ := y2 D' n h
              exact ⟨g7, I7, st2 _ a7, b7, (fC.tr f6.p).tr f7⟩
          · have e26 := R4.2.2.1.2.2.1
            have st170 : ∀ z, zAt E (d + 8) 131 170 [some (zr (some w)), some (zi (Int32.ofNat p)), some (zi 0), some (zi (iw X e 20)), some (zi (Int32.ofNat (12 * p + r))), some (zi 0)] [] (zwi (zwg S g4) (zup I4 (w + 21) p (Int32.ofNat (r + 1)))) z → zAt E (d + 8) 131 14 [some (zr (some w)), some (zi (Int32.ofNat p)), some (zi 1), u3, u4, u5] [] (zwi (zwg S g) I) z := by
              intro z hz
              refine st138 z ?_
              rw [isg_0 c3]
              refine ev_th _ (fun _ => ?_) (fun h => (h (by first | rfl | trivial)).elim)
              refine ev_bk ?_
              refine zat_in zP_X6_readPlan zk_X6_readPlan_167 ?_
              simp only [e167]
              refine ev_bk ?_
              refine zat_in zP_X6_readPlan zk_X6_readPlan_14 ?_
              simp only [e14]
              exact ev_th _ (fun _ => ev_bk hz) (fun h => (h (by first | rfl | trivial)).elim)
            by_cases c4 : tK X (tE X e2) = 0
            · have hq : pPl X (c + 1) D r e = Sum.inr (dA D2 r (pAc X e2), r + 1) := by
                unfold pPl
                rw [hru, if_neg c2]
                show (if tK X (tE X e2) = 59 then _ else if tK X (tE X e2) = 0 then _ else _) = _
                rw [if_neg c3, if_pos c4]
              rw [hq]
              refine ⟨fun f p' h => (by cases h), fun D' n h => ?_⟩
              obtain ⟨rfl, rfl⟩ := Prod.mk.inj (Sum.inr.inj h)
              refine ⟨g4, _, st170 _ ?_, P5, fC⟩
              have d4 := eq_true c4
              refine zat_in zP_X6_readPlan zk_X6_readPlan_170 ?_
              simp (disch := omega) only [e170, zif, zdr, zkb, mK_wi, mN_wi, mJ_wi, mI_wi, sI_wi, beq_self_eq_true, Bool.true_or, Bool.or_true, Bool.or_false, Bool.and_self, Bool.and_true, Bool.true_and, ↓reduceIte, ble_up0, i_cl, i_succ, zix_of, zfl_k, zup_k, zup_q, w0, mK_wg, e26, mso_1, d4]
              refine ev_bk ?_
              refine zat_in zP_X6_readPlan zk_X6_readPlan_184 ?_
              simp only [e184]
              exact ev_r
            · have hq : pPl X (c + 1) D r e = Sum.inl (1, kA X (tE X e2)) := by
                unfold pPl
                rw [hru, if_neg c2]
                show (if tK X (tE X e2) = 59 then _ else if tK X (tE X e2) = 0 then _ else _) = _
                rw [if_neg c3, if_neg c4]
              rw [hq]
              refine ⟨fun f p' h => ?_, fun D' n h => by cases h⟩
              obtain ⟨rfl, rfl⟩ := Prod.mk.inj (Sum.inl.inj h)
              have cs := sp_X6_stop (E := E) (d := d + 7) (f := 1) hB R5
              refine ⟨g4, _, st170 _ ?_, mTh_i, fC.tr (fun a i _ h2 _ _ _ => by rw [zup_k (by omega), zup_k (by omega)])⟩
              have d4 := eq_false c4
              refine zat_in zP_X6_readPlan zk_X6_readPlan_170 ?_
              simp (disch := omega) only [e170, zif, zdr, zkb, mK_wi, mN_wi, mJ_wi, mI_wi, sI_wi, beq_self_eq_true, Bool.true_or, Bool.or_true, Bool.or_false, Bool.and_self, Bool.and_true, Bool.true_and, ↓reduceIte, ble_up0, i_cl, i_succ, zix_of, zfl_k, zup_k, zup_q, w0, mK_wg, e26, mso_1, d4]
              refine ev_cr cs ?_
              try simp (disch := omega) only [zif, zdr, zkb, mK_wi, mN_wi, mJ_wi, mI_wi, sI_wi, beq_self_eq_true, Bool.true_or, Bool.or_true, Bool.or_false, Bool.and_self, Bool.and_true, Bool.true_and, ↓reduceIte, ble_up0, i_cl, i_succ, zix_of, zfl_k, zup_k, zup_q, mK_wg, k19]
              exact ev_r
theorem sp_X6_readPlan (hB : E.1 ≤ w) (hS : mPS S w) (hp : p < 9) (hR : mRD E S g I w X e) (e31 : I w 31 = Int32.ofNat p) : (∀ f p', pPl X 12 D 0 e = Sum.inl (f, p') → ∃ g' I', zCl E (d + 8) 131 [zr (some w)] (zwi (zwg S g) I) (Sum.inr (w + 19), zwi (zwg S g') I') ∧ mTh I' w f p' ∧ mPf w p I I') ∧ (∀ D' n, pPl X 12 D 0 e = Sum.inr (D', n) → ∃ g' I', zCl E (d + 8) 131 [zr (some w)] (zwi (zwg S g) I) (Sum.inl none, zwi (zwg S g') I') ∧ mPp I' w p n D' ∧ mPf w p I I') := by
  have w0 := hR.1.1.1
  obtain ⟨-, ⟨r1, r2, r3⟩, -⟩ := id hS
  have e0 := @b_X6_readPlan_0
  have R1 : mRD E S g (zup I (w + 21) p 0) w X e := hR.fx (fun a i h => zup_k (by omega))
  have P1 : mPp (zup I (w + 21) p 0) w p 0 D := ⟨zup_q _ _ _ _, by omega, fun j hj => absurd hj (by omega)⟩
  have f1 : mPf w p I (zup I (w + 21) p 0) := fun a i _ _ h3 _ _ => zup_k (by omega)
  obtain ⟨x1, x2⟩ := lp_X6_readPlan (d := d) hB hS hp 12 0 rfl D e g _ none none none R1 P1
  have st : ∀ z, zAt E (d + 8) 131 14 [some (zr (some w)), some (zi (Int32.ofNat p)), some (zi 1), none, none, none] [] (zwi (zwg S g) (zup I (w + 21) p 0)) z → zCl E (d + 8) 131 [zr (some w)] (zwi (zwg S g) I) z := by
    intro z hz
    refine zcl_in' zP_X6_readPlan ?_; rw [zn_1_6]
    refine zat_in zP_X6_readPlan zk_X6_readPlan_0 ?_
    simp (disch := omega) only [e0, zif, zdr, zkb, mK_wi, mN_wi, mJ_wi, mI_wi, sI_wi, beq_self_eq_true, Bool.true_or, Bool.or_true, Bool.or_false, Bool.and_self, Bool.and_true, Bool.true_and, ↓reduceIte, ble_up0, i_cl, i_succ, zix_of, zfl_k, zup_k, zup_q, w0, mK_wg, mN_wg, mJ_wg, r1, r2, r3, e31]
    exact ev_tl zP_X6_readPlan zk_X6_readPlan_14 hz
  refine ⟨fun f p' h => ?_, fun D' n h => ?_⟩
  · obtain ⟨g2, I2, a2, b2, f2⟩ := x1 f p' h
    exact ⟨g2, I2, st _ a2, b2, f1.tr f2⟩
  · obtain ⟨g2, I2, a2, b2, f2⟩ := x2 D' n h
    exact ⟨g2, I2, st _ a2, b2, f1.tr f2⟩
end
