/-! ===== a rule is read (class) ===== -/
set_option maxRecDepth 100000
/-- tables that differ at rule r alone -/
def dAg (r : Nat) (D D' : zPL) : Prop := ∀ j, j ≠ r → pnt D' j = pnt D j ∧ pA D' 1 j = pA D 1 j ∧ ∀ i q, i < 4 → 2 < q → pA D' q (4 * j + i) = pA D q (4 * j + i)
theorem dAg.rf {r : Nat} {D : zPL} : dAg r D D := fun _ _ => ⟨rfl, rfl, fun _ _ _ _ => rfl⟩
theorem dAg.tr {r : Nat} {D D1 D2 : zPL} (h : dAg r D D1) (h' : dAg r D1 D2) : dAg r D D2 := fun j hj => ⟨(h' j hj).1.trans (h j hj).1, (h' j hj).2.1.trans (h j hj).2.1, fun i q h1 h2 => ((h' j hj).2.2 i q h1 h2).trans ((h j hj).2.2 i q h1 h2)⟩
theorem dAg_T {r k : Nat} {D : zPL} {t : Int32 × Int32 × Int32} (hk : k < 4) : dAg r D (dT D r k t) := fun j hj => by
  refine ⟨if_neg hj, ?_, fun i q h1 h2 => ?_⟩
  · show zup (zup (zup (pA D) 3 (4 * r + k) t.1) 4 (4 * r + k) t.2.1) 5 (4 * r + k) t.2.2 1 j = _
    rw [zup_k (by omega), zup_k (by omega), zup_k (by omega)]
  · exact dT_o (by omega)
theorem dAg_0 {r : Nat} {D : zPL} : dAg r D (d0 D r) := fun _ hj => ⟨if_neg hj, rfl, fun _ _ _ _ => rfl⟩
theorem dAg_A {r : Nat} {D : zPL} {a : Int32} : dAg r D (dA D r a) := fun j hj => by
  refine ⟨rfl, ?_, fun i q h1 h2 => ?_⟩
  · show zup (pA D) 1 r a 1 j = _
    rw [zup_k (by omega)]
  · show zup (pA D) 1 r a q _ = _
    rw [zup_k (by omega)]
/-- behind a test -/
def pRe (X : zTx) (r c : Nat) (D : zPL) (e k : Nat) : zFl ⊕ (zPL × Nat) := if iw X e 23 = 0 then Sum.inr (D, e) else pTs X r c D (tE X e) k
theorem pTs_e {X : zTx} {r c : Nat} {D : zPL} {e k : Nat} {f : zFl} (h : pTst X e k = Sum.inl f) : pTs X r c D e k = Sum.inl f := by
  cases c <;> (unfold pTs; rw [h])
theorem pTs_s {X : zTx} {r c : Nat} {D : zPL} {e e' k : Nat} {t : Int32 × Int32 × Int32} (h : pTst X e k = Sum.inr (t, e')) : pTs X r (c + 1) D e k = pRe X r c (dT D r k t) e' (k + 1) := by
  unfold pTs
  rw [h]
  rfl
theorem pRe_ag {X : zTx} {r : Nat} : ∀ c k, k + c = 4 → ∀ D e D' e', pRe X r c D e k = Sum.inr (D', e') → pnt D r = k → dAg r D D' ∧ pnt D' r ≤ 4 := by
  intro c
  induction c with
  | zero =>
    intro k hk D e D' e' h hn
    unfold pRe at h
    by_cases c1 : iw X e 23 = 0
    · rw [if_pos c1] at h
      obtain ⟨rfl, -⟩ := Prod.mk.inj (Sum.inr.inj h)
      exact ⟨dAg.rf, by omega⟩
    · rw [if_neg c1] at h
      obtain rfl : k = 4 := by omega
      cases q : pTst X (tE X e) 4 with
      | inl f =>
        rw [pTs_e q] at h
        cases h
      | inr s => exact absurd q pTst_4
  | succ c ih =>
    intro k hk D e D' e' h hn
    unfold pRe at h
    by_cases c1 : iw X e 23 = 0
    · rw [if_pos c1] at h
      obtain ⟨rfl, -⟩ := Prod.mk.inj (Sum.inr.inj h)
      exact ⟨dAg.rf, by omega⟩
    · rw [if_neg c1] at h
      cases q : pTst X (tE X e) k with
      | inl f =>
        rw [pTs_e q] at h
        cases h
      | inr s =>
        obtain ⟨t, e2⟩ := s
        rw [pTs_s q] at h
        obtain ⟨h1, h2⟩ := ih (k + 1) (by omega) _ _ _ _ h (show pnt (dT D r k t) r = k + 1 from if_pos rfl)
        exact ⟨(dAg_T (by omega)).tr h1, h2⟩
/-- a rule that was read -/
def xRq (S : zM) (I : Nat → Nat → Int32) (lo rr r : Nat) (D : zPL) : Prop := ∃ ta, xRp S I lo rr ta r (pnt D r) D ∧ I rr 2 = pA D 1 r
theorem xRq.fr {B m c u lo rr r : Nat} {D : zPL} {S S' : zM} {I I' : Nat → Nat → Int32} (h : xRq S I lo rr r D) (hf : rFr B m c u S S' I I') (hm : mS S ≤ m) (hlo : B + 466 ≤ lo) : xRq S' I' lo rr r D := by
  obtain ⟨ta, h1, h2⟩ := h
  have := h1.1
  exact ⟨ta, h1.fr hf hm hlo, (hf.2.2.2.1 _ _ (by omega) (by omega) (fun q => by omega)).trans h2⟩
theorem xRq.ag {lo rr r r' : Nat} {D D' : zPL} {S : zM} {I : Nat → Nat → Int32} (h : xRq S I lo rr r D) (ha : dAg r' D D') (hr : r ≠ r') : xRq S I lo rr r D' := by
  obtain ⟨ta, ⟨h1, h2, h3⟩, h4⟩ := h
  obtain ⟨a1, a2, a3⟩ := ha r hr
  refine ⟨ta, ?_, ?_⟩
  · rw [a1]
    refine ⟨h1, h2, fun j hj => ?_⟩
    obtain ⟨te, t1, t2, t3, t4, t5, t6, t7⟩ := h3 j hj
    have : j < 4 := by omega
    refine ⟨te, t1, t2, t3, t4, ?_, ?_, ?_⟩
    · rw [a3 j 3 (by omega) (by omega)]
      exact t5
    · rw [a3 j 4 (by omega) (by omega)]
      exact t6
    · rw [a3 j 5 (by omega) (by omega)]
      exact t7
  · rw [a2]
    exact h4
theorem xRp.D {lo rr ta r : Nat} {D D' : zPL} {S : zM} {I : Nat → Nat → Int32} (h : xRp S I lo rr ta r 0 D) : xRp S I lo rr ta r 0 D' := ⟨h.1, h.2.1, fun j hj => absurd hj (by omega)⟩
section
variable {E : zE} {d B e e' m lo rr ta r k p : Nat} {S : zM} {I : Nat → Nat → Int32} {X : zTx} {D D' : zPL} {f v : Int32} {t : Int32 × Int32 × Int32}
theorem lp_X10_read (hB : E.1 ≤ B) (hlo : B + 466 ≤ lo) : ∀ c k, k + c = 4 → ∀ D e S I, xRD E S I B X e → xRp S I lo rr ta r k D → pnt D r = k → m ≤ mS S ∧ m ≤ rr ∧ m ≤ ta → (∀ f p, pRe X r c D e k = Sum.inl (f, p) → ∃ S' I', zAt E (d + 7) 193 14 [some (zr (some rr)), some (zr (some (B + 2)))] [] (zwi S I) (Sum.inr (B + 3), zwi S' I') ∧ xTh I' B f p ∧ rFr B m (9 * (c + 1)) (51 * (c + 1)) S S' I I') ∧ (∀ D' e', pRe X r c D e k = Sum.inr (D', e') → ∃ S' I', (∀ r, zAt E (d + 7) 193 31 [some (zr (some rr)), some (zr (some (B + 2)))] [] (zwi S' I') r → zAt E (d + 7) 193 14 [some (zr (some rr)), some (zr (some (B + 2)))] [] (zwi S I) r) ∧ xRD E S' I' B X e' ∧ xRp S' I' lo rr ta r (pnt D' r) D' ∧ rFr B m (9 * (c + 1)) (51 * (c + 1)) S S' I I') := by
  have e14 := @b_X10_read_14
  intro c
  induction c with
  | zero =>
    intro k hk D e S I hR hP hn hm
    have bk2 := hR.1.2.1
    have krr := hP.1.2.2.1
    unfold pRe
    by_cases c1 : iw X e 23 = 0
    · rw [if_pos c1]
      refine ⟨fun f p h => (by cases h), fun D' e' h => ?_⟩
      obtain ⟨rfl, rfl⟩ := Prod.mk.inj (Sum.inr.inj h)
      have ct := sp_X1_takes_0 (E := E) (d := d + 3) hR (i := 23) (by decide) (fun q => by rw [iw_1 q] at c1; exact absurd c1 (by decide))
      refine ⟨S, I, fun r hr => ?_, hR, hn ▸ hP, rFr.rf hR.2.2.2.2.1⟩
      refine zat_in zP_X10_read zk_X10_read_14 ?_
      simp (disch := omega) only [e14, zif, zdr, zkb, mK_wi, mN_wi, mJ_wi, mI_wi, sI_wi, beq_self_eq_true, Bool.true_or, Bool.or_true, Bool.or_false, Bool.and_self, Bool.and_true, Bool.true_and, ↓reduceIte, ble_up0, i_cl, i_succ, zix_of, zfl_k, zup_k, zup_q, bk2]
      refine ev_ci ct ?_
      refine ev_th _ (fun _ => ?_) (fun h => (h (by first | rfl | trivial)).elim)
      exact ev_bk hr
    · rw [if_neg c1]
      have hw : isw X e 23 := by
        refine Classical.byContradiction (fun q => c1 (iw_0 q))
      obtain ⟨S1, I1, a1, R1, f1⟩ := sp_X1_takes_1 (E := E) (d := d + 1) hB hR (i := 23) (by decide) hw
      have P1 := hP.fr f1 (Nat.le_refl _) hlo
      have krr1 := P1.1.2.2.1
      have := f1.1.1
      obtain rfl : k = 4 := by omega
      cases q : pTst X (tE X e) 4 with
      | inr s => exact absurd q pTst_4
      | inl s =>
        rw [pTs_e q]
        refine ⟨fun f p h => ?_, fun D' e' h => by cases h⟩
        rw [Sum.inl.inj h] at q
        obtain ⟨S2, I2, a2, b2, f2⟩ := sp_X10_test_e (d := d) hB R1 P1 hlo q
        refine ⟨S2, I2, ?_, b2, ((f1.wd hm.1 (Nat.le_refl _) (Nat.le_refl _)).tr (f2.wd (show m ≤ mS S1 by omega) (Nat.le_refl _) (Nat.le_refl _))).wd (Nat.le_refl _) (by omega) (by omega)⟩
        refine zat_in zP_X10_read zk_X10_read_14 ?_
        simp (disch := omega) only [e14, zif, zdr, zkb, mK_wi, mN_wi, mJ_wi, mI_wi, sI_wi, beq_self_eq_true, Bool.true_or, Bool.or_true, Bool.or_false, Bool.and_self, Bool.and_true, Bool.true_and, ↓reduceIte, ble_up0, i_cl, i_succ, zix_of, zfl_k, zup_k, zup_q, bk2]
        refine ev_ci a1 ?_
        refine ev_th _ (fun h => absurd h (by decide)) (fun _ => ?_)
        simp (disch := omega) only [zif, zdr, zkb, mK_wi, mN_wi, mJ_wi, mI_wi, sI_wi, beq_self_eq_true, Bool.true_or, Bool.or_true, Bool.or_false, Bool.and_self, Bool.and_true, Bool.true_and, ↓reduceIte, ble_up0, i_cl, i_succ, zix_of, zfl_k, zup_k, zup_q, krr1]
        refine ev_cvx a2 ?_
        exact ev_r
  | succ c ih =>
    intro k hk D e S I hR hP hn hm
    have bk2 := hR.1.2.1
    have krr := hP.1.2.2.1
    unfold pRe
    by_cases c1 : iw X e 23 = 0
    · rw [if_pos c1]
      refine ⟨fun f p h => (by cases h), fun D' e' h => ?_⟩
      obtain ⟨rfl, rfl⟩ := Prod.mk.inj (Sum.inr.inj h)
      have ct := sp_X1_takes_0 (E := E) (d := d + 3) hR (i := 23) (by decide) (fun q => by rw [iw_1 q] at c1; exact absurd c1 (by decide))
      refine ⟨S, I, fun r hr => ?_, hR, hn ▸ hP, rFr.rf hR.2.2.2.2.1⟩
      refine zat_in zP_X10_read zk_X10_read_14 ?_
      simp (disch := omega) only [e14, zif, zdr, zkb, mK_wi, mN_wi, mJ_wi, mI_wi, sI_wi, beq_self_eq_true, Bool.true_or, Bool.or_true, Bool.or_false, Bool.and_self, Bool.and_true, Bool.true_and, ↓reduceIte, ble_up0, i_cl, i_succ, zix_of, zfl_k, zup_k, zup_q, bk2]
      refine ev_ci ct ?_
      refine ev_th _ (fun _ => ?_) (fun h => (h (by first | rfl | trivial)).elim)
      exact ev_bk hr
    · rw [if_neg c1]
      have hw : isw X e 23 := by
        refine Classical.byContradiction (fun q => c1 (iw_0 q))
      obtain ⟨S1, I1, a1, R1, f1⟩ := sp_X1_takes_1 (E := E) (d := d + 1) hB hR (i := 23) (by decide) hw
      have P1 := hP.fr f1 (Nat.le_refl _) hlo
      have krr1 := P1.1.2.2.1
      have := f1.1.1
      cases q : pTst X (tE X e) k with
      | inl s =>
        rw [pTs_e q]
        refine ⟨fun f p h => ?_, fun D' e' h => by cases h⟩
        rw [Sum.inl.inj h] at q
        obtain ⟨S2, I2, a2, b2, f2⟩ := sp_X10_test_e (d := d) hB R1 P1 hlo q
        refine ⟨S2, I2, ?_, b2, ((f1.wd hm.1 (Nat.le_refl _) (Nat.le_refl _)).tr (f2.wd (show m ≤ mS S1 by omega) (Nat.le_refl _) (Nat.le_refl _))).wd (Nat.le_refl _) (by omega) (by omega)⟩
        refine zat_in zP_X10_read zk_X10_read_14 ?_
        simp (disch := omega) only [e14, zif, zdr, zkb, mK_wi, mN_wi, mJ_wi, mI_wi, sI_wi, beq_self_eq_true, Bool.true_or, Bool.or_true, Bool.or_false, Bool.and_self, Bool.and_true, Bool.true_and, ↓reduceIte, ble_up0, i_cl, i_succ, zix_of, zfl_k, zup_k, zup_q, bk2]
        refine ev_ci a1 ?_
        refine ev_th _ (fun h => absurd h (by decide)) (fun _ => ?_)
        simp (disch := omega) only [zif, zdr, zkb, mK_wi, mN_wi, mJ_wi, mI_wi, sI_wi, beq_self_eq_true, Bool.true_or, Bool.or_true, Bool.or_false, Bool.and_self, Bool.and_true, Bool.true_and, ↓reduceIte, ble_up0, i_cl, i_succ, zix_of, zfl_k, zup_k, zup_q, krr1]
        refine ev_cvx a2 ?_
        exact ev_r
      | inr s =>
        obtain ⟨t, e2⟩ := s
        rw [pTs_s q]
        obtain ⟨S2, I2, a2, R2, P2, f2, -⟩ := sp_X10_test_1 (d := d) (m := m) hB R1 P1 hlo ⟨by omega, hm.2.1, hm.2.2⟩ q
        have hn2 : pnt (dT D r k t) r = k + 1 := if_pos rfl
        have := f2.1.1
        obtain ⟨x1, x2⟩ := ih (k + 1) (by omega) _ _ _ _ R2 P2 hn2 ⟨by omega, hm.2.1, hm.2.2⟩
        have st : ∀ r, zAt E (d + 7) 193 14 [some (zr (some rr)), some (zr (some (B + 2)))] [] (zwi S2 I2) r → zAt E (d + 7) 193 14 [some (zr (some rr)), some (zr (some (B + 2)))] [] (zwi S I) r := by
          intro r hr
          refine zat_in zP_X10_read zk_X10_read_14 ?_
          simp (disch := omega) only [e14, zif, zdr, zkb, mK_wi, mN_wi, mJ_wi, mI_wi, sI_wi, beq_self_eq_true, Bool.true_or, Bool.or_true, Bool.or_false, Bool.and_self, Bool.and_true, Bool.true_and, ↓reduceIte, ble_up0, i_cl, i_succ, zix_of, zfl_k, zup_k, zup_q, bk2]
          refine ev_ci a1 ?_
          refine ev_th _ (fun h => absurd h (by decide)) (fun _ => ?_)
          simp (disch := omega) only [zif, zdr, zkb, mK_wi, mN_wi, mJ_wi, mI_wi, sI_wi, beq_self_eq_true, Bool.true_or, Bool.or_true, Bool.or_false, Bool.and_self, Bool.and_true, Bool.true_and, ↓reduceIte, ble_up0, i_cl, i_succ, zix_of, zfl_k, zup_k, zup_q, krr1]
          refine ev_cv a2 ?_
          exact ev_bk hr
        refine ⟨fun f p h => ?_, fun D' e' h => ?_⟩
        · obtain ⟨S3, I3, a3, b3, f3⟩ := x1 f p h
          exact ⟨S3, I3, st _ a3, b3, (((f1.wd hm.1 (Nat.le_refl _) (Nat.le_refl _)).tr f2).tr f3).wd (Nat.le_refl _) (by omega) (by omega)⟩
        · obtain ⟨S3, I3, a3, R3, P3, f3⟩ := x2 D' e' h
          exact ⟨S3, I3, fun r hr => st _ (a3 r hr), R3, P3, (((f1.wd hm.1 (Nat.le_refl _) (Nat.le_refl _)).tr f2).tr f3).wd (Nat.le_refl _) (by omega) (by omega)⟩
/-- the tests of a rule -/
theorem sp_X10_head (hB : E.1 ≤ B) (hlo : B + 466 ≤ lo) (hR : xRD E S I B X e) (hP : xRp S I lo rr ta r 0 D) (hm : m ≤ mS S ∧ m ≤ rr ∧ m ≤ ta) : (∀ f p, pHd X D r e = Sum.inl (f, p) → ∃ S' I', zCl E (d + 7) 193 [zr (some rr), zr (some (B + 2))] (zwi S I) (Sum.inr (B + 3), zwi S' I') ∧ xTh I' B f p ∧ rFr B m 45 255 S S' I I') ∧ (∀ D' e', pHd X D r e = Sum.inr (D', e') → ∃ S' I', (∀ r, zAt E (d + 7) 193 31 [some (zr (some rr)), some (zr (some (B + 2)))] [] (zwi S' I') r → zCl E (d + 7) 193 [zr (some rr), zr (some (B + 2))] (zwi S I) r) ∧ xRD E S' I' B X e' ∧ xRp S' I' lo rr ta r (pnt D' r) D' ∧ rFr B m 45 255 S S' I I' ∧ dAg r D D') := by
  have e0 := @b_X10_read_0
  have bk2 := hR.1.2.1
  unfold pHd
  by_cases c1 : iw X e 22 = 0
  · rw [if_pos c1]
    refine ⟨fun f p h => (by cases h), fun D' e' h => ?_⟩
    obtain ⟨rfl, rfl⟩ := Prod.mk.inj (Sum.inr.inj h)
    have ct := sp_X1_takes_0 (E := E) (d := d + 3) hR (i := 22) (by decide) (fun q => by rw [iw_1 q] at c1; exact absurd c1 (by decide))
    have en : pnt (d0 D r) r = 0 := if_pos rfl
    refine ⟨S, I, fun r hr => ?_, hR, by rw [en]; exact hP.D, rFr.rf hR.2.2.2.2.1, dAg_0⟩
    refine zcl_in' zP_X10_read ?_; rw [zn_2_2]
    refine zat_in zP_X10_read zk_X10_read_0 ?_
    simp (disch := omega) only [e0, zif, zdr, zkb, mK_wi, mN_wi, mJ_wi, mI_wi, sI_wi, beq_self_eq_true, Bool.true_or, Bool.or_true, Bool.or_false, Bool.and_self, Bool.and_true, Bool.true_and, ↓reduceIte, ble_up0, i_cl, i_succ, zix_of, zfl_k, zup_k, zup_q, bk2]
    refine ev_ci ct ?_
    refine ev_th _ (fun _ => ?_) (fun h => (h (by first | rfl | trivial)).elim)
    exact ev_bk hr
  · rw [if_neg c1]
    have hw : isw X e 22 := by
      refine Classical.byContradiction (fun q => c1 (iw_0 q))
    obtain ⟨S1, I1, a1, R1, f1⟩ := sp_X1_takes_1 (E := E) (d := d + 1) hB hR (i := 22) (by decide) hw
    have P1 := (hP.fr f1 (Nat.le_refl _) hlo).D (D' := d0 D r)
    have krr1 := P1.1.2.2.1
    have := f1.1.1
    cases q : pTst X (tE X e) 0 with
    | inl s =>
      rw [pTs_e q]
      refine ⟨fun f p h => ?_, fun D' e' h => by cases h⟩
      rw [Sum.inl.inj h] at q
      obtain ⟨S2, I2, a2, b2, f2⟩ := sp_X10_test_e (d := d) hB R1 P1 hlo q
      refine ⟨S2, I2, ?_, b2, ((f1.wd hm.1 (Nat.le_refl _) (Nat.le_refl _)).tr (f2.wd (show m ≤ mS S1 by omega) (Nat.le_refl _) (Nat.le_refl _))).wd (Nat.le_refl _) (by omega) (by omega)⟩
      refine zcl_in' zP_X10_read ?_; rw [zn_2_2]
      refine zat_in zP_X10_read zk_X10_read_0 ?_
      simp (disch := omega) only [e0, zif, zdr, zkb, mK_wi, mN_wi, mJ_wi, mI_wi, sI_wi, beq_self_eq_true, Bool.true_or, Bool.or_true, Bool.or_false, Bool.and_self, Bool.and_true, Bool.true_and, ↓reduceIte, ble_up0, i_cl, i_succ, zix_of, zfl_k, zup_k, zup_q, bk2]
      refine ev_ci a1 ?_
      refine ev_th _ (fun h => absurd h (by decide)) (fun _ => ?_)
      simp (disch := omega) only [zif, zdr, zkb, mK_wi, mN_wi, mJ_wi, mI_wi, sI_wi, beq_self_eq_true, Bool.true_or, Bool.or_true, Bool.or_false, Bool.and_self, Bool.and_true, Bool.true_and, ↓reduceIte, ble_up0, i_cl, i_succ, zix_of, zfl_k, zup_k, zup_q, krr1]
      refine ev_cvx a2 ?_
      exact ev_r
    | inr s =>
      obtain ⟨t, e2⟩ := s
      rw [pTs_s q]
      obtain ⟨S2, I2, a2, R2, P2, f2, -⟩ := sp_X10_test_1 (d := d) (m := m) hB R1 P1 hlo ⟨by omega, hm.2.1, hm.2.2⟩ q
      have hn2 : pnt (dT (d0 D r) r 0 t) r = 0 + 1 := if_pos rfl
      have := f2.1.1
      obtain ⟨x1, x2⟩ := lp_X10_read (d := d) (m := m) hB hlo 3 1 rfl _ _ _ _ R2 P2 hn2 ⟨by omega, hm.2.1, hm.2.2⟩
      have st : ∀ r, zAt E (d + 7) 193 14 [some (zr (some rr)), some (zr (some (B + 2)))] [] (zwi S2 I2) r → zCl E (d + 7) 193 [zr (some rr), zr (some (B + 2))] (zwi S I) r := by
        intro r hr
        refine zcl_in' zP_X10_read ?_; rw [zn_2_2]
        refine zat_in zP_X10_read zk_X10_read_0 ?_
        simp (disch := omega) only [e0, zif, zdr, zkb, mK_wi, mN_wi, mJ_wi, mI_wi, sI_wi, beq_self_eq_true, Bool.true_or, Bool.or_true, Bool.or_false, Bool.and_self, Bool.and_true, Bool.true_and, ↓reduceIte, ble_up0, i_cl, i_succ, zix_of, zfl_k, zup_k, zup_q, bk2]
        refine ev_ci a1 ?_
        refine ev_th _ (fun h => absurd h (by decide)) (fun _ => ?_)
        simp (disch := omega) only [zif, zdr, zkb, mK_wi, mN_wi, mJ_wi, mI_wi, sI_wi, beq_self_eq_true, Bool.true_or, Bool.or_true, Bool.or_false, Bool.and_self, Bool.and_true, Bool.true_and, ↓reduceIte, ble_up0, i_cl, i_succ, zix_of, zfl_k, zup_k, zup_q, krr1]
        refine ev_cv a2 ?_
        exact ev_tl zP_X10_read zk_X10_read_14 hr
      refine ⟨fun f p h => ?_, fun D' e' h => ?_⟩
      · obtain ⟨S3, I3, a3, b3, f3⟩ := x1 f p h
        exact ⟨S3, I3, st _ a3, b3, (((f1.wd hm.1 (Nat.le_refl _) (Nat.le_refl _)).tr f2).tr f3).wd (Nat.le_refl _) (by omega) (by omega)⟩
      · obtain ⟨S3, I3, a3, R3, P3, f3⟩ := x2 D' e' h
        exact ⟨S3, I3, fun r hr => st _ (a3 r hr), R3, P3, (((f1.wd hm.1 (Nat.le_refl _) (Nat.le_refl _)).tr f2).tr f3).wd (Nat.le_refl _) (by omega) (by omega), (dAg_0.tr (dAg_T (by omega))).tr (pRe_ag 3 1 rfl _ _ _ _ h hn2).1⟩
theorem sp_X10_read (hB : E.1 ≤ B) (hlo : B + 466 ≤ lo) (hR : xRD E S I B X e) (hP : xRp S I lo rr ta r 0 D) (hm : m ≤ mS S ∧ m ≤ rr ∧ m ≤ ta) : (∀ f p, pRu X D r e = Sum.inl (f, p) → ∃ S' I', zCl E (d + 7) 193 [zr (some rr), zr (some (B + 2))] (zwi S I) (Sum.inr (B + 3), zwi S' I') ∧ xTh I' B f p ∧ rFr B m 47 267 S S' I I') ∧ (∀ D' e', pRu X D r e = Sum.inr (D', e') → ∃ S' I', zCl E (d + 7) 193 [zr (some rr), zr (some (B + 2))] (zwi S I) (Sum.inl none, zwi S' I') ∧ xRD E S' I' B X e' ∧ xRq S' I' lo rr r D' ∧ rFr B m 47 267 S S' I I' ∧ dAg r D D') := by
  obtain ⟨x1, x2⟩ := sp_X10_head (d := d) (m := m) hB hlo hR hP hm
  unfold pRu
  cases q : pHd X D r e with
  | inl s =>
    refine ⟨fun f p h => ?_, fun D' e' h => by cases h⟩
    obtain ⟨S1, I1, a1, b1, f1⟩ := x1 f p (q.trans h)
    exact ⟨S1, I1, a1, b1, f1.wd (Nat.le_refl _) (by omega) (by omega)⟩
  | inr s =>
    obtain ⟨D1, e1⟩ := s
    obtain ⟨S1, I1, a1, R1, P1, f1, g1⟩ := x2 D1 e1 q
    have krr := P1.1.2.2.1
    have bk2 := R1.1.2.1
    have brk0 := R1.1.2.2.1.2
    have e5 := R1.2.2.1.2.2.1
    have hm1 := f1.1.1
    have e31 := @b_X10_read_31
    have e50 := @b_X10_read_50
    -- the act
    have act : ∃ I2, (∀ r, zAt E (d + 7) 193 51 [some (zr (some rr)), some (zr (some (B + 2)))] [zi (pAc X e1), zr (some rr)] (zwi S1 I2) r → zAt E (d + 7) 193 31 [some (zr (some rr)), some (zr (some (B + 2)))] [] (zwi S1 I1) r) ∧ xRD E S1 I2 B X e1 ∧ rFr B (mS S1) 0 0 S1 S1 I1 I2 := by
      unfold pAc
      by_cases c1 : tK X e1 = 2
      · have d1 := eq_true c1
        obtain ⟨s, I2, w1, ks, a2, R2, f2⟩ := sp_X0_actOf (d := d + 2) hB R1 c1
        rw [if_pos c1]
        refine ⟨I2, fun r hr => ?_, R2, f2⟩
        refine zat_in zP_X10_read zk_X10_read_31 ?_
        simp (disch := omega) only [e31, zif, zdr, zkb, mK_wi, mN_wi, mJ_wi, mI_wi, sI_wi, beq_self_eq_true, Bool.true_or, Bool.or_true, Bool.or_false, Bool.and_self, Bool.and_true, Bool.true_and, ↓reduceIte, ble_up0, i_cl, i_succ, zix_of, zfl_k, zup_k, zup_q, bk2, e5, d1, w1]
        refine ev_ci a2 ?_
        exact ev_bk hr
      · have d1 := eq_false c1
        rw [if_neg c1]
        refine ⟨I1, fun r hr => ?_, R1, rFr.rf R1.2.2.2.2.1⟩
        refine zat_in zP_X10_read zk_X10_read_31 ?_
        simp (disch := omega) only [e31, zif, zdr, zkb, mK_wi, mN_wi, mJ_wi, mI_wi, sI_wi, beq_self_eq_true, Bool.true_or, Bool.or_true, Bool.or_false, Bool.and_self, Bool.and_true, Bool.true_and, ↓reduceIte, ble_up0, i_cl, i_succ, zix_of, zfl_k, zup_k, zup_q, bk2, e5, d1]
        refine ev_bk ?_
        refine zat_in zP_X10_read zk_X10_read_50 ?_
        simp only [e50]
        exact ev_tl zP_X10_read zk_X10_read_51 hr
    obtain ⟨I2, a2, R2, f2⟩ := act
    have P2 := P1.fr f2 (Nat.le_refl _) hlo
    -- it is set
    have hrr := P2.1
    have hta := P2.2.1
    have R3 : xRD E S1 (zup I2 rr 2 (pAc X e1)) B X e1 := R2.fx (Nat.le_refl _) (fun _ _ => ⟨rfl, rfl⟩) (fun _ _ _ _ => rfl) (fun a i ha hk => zup_k (fun z => by
      rcases hk with hk | hk | hk
      · omega
      · rw [z.1, krr] at hk
        omega
      · rw [z.1, krr] at hk
        omega)) R2.2.2.2.2.1
    have P3 : xRp S1 (zup I2 rr 2 (pAc X e1)) lo rr ta r (pnt D1 r) (dA D1 r (pAc X e1)) := by
      obtain ⟨⟨g1, g2, g3, g4, g5⟩, g6, g7⟩ := P2
      refine ⟨⟨g1, g2, g3, (zup_k (by omega)).trans g4, g5⟩, g6, fun j hj => ?_⟩
      obtain ⟨te, t1, t2, t3, t4, t5, t6, t7⟩ := g7 j hj
      have n1 : te ≠ rr := fun z => by rw [z, g3] at t4; omega
      refine ⟨te, t1, t2, t3, t4, ?_, ?_, ?_⟩
      · rw [zup_k (by omega), t5]
        rw [dA_o (by omega)]
      · rw [zup_k (by omega), t6]
        rw [dA_o (by omega)]
      · rw [zup_k (by omega), t7]
        rw [dA_o (by omega)]
    have f3 : rFr B m 0 0 S1 S1 I2 (zup I2 rr 2 (pAc X e1)) := ⟨⟨Nat.le_refl _, by omega, by omega⟩, fun _ _ => ⟨rfl, rfl⟩, fun _ _ _ _ => rfl, fun a i ha _ _ => zup_k (by omega), R2.2.2.2.2.1⟩
    have fA := (f1.tr (f2.wd (show m ≤ mS S1 by omega) (Nat.le_refl _) (Nat.le_refl _))).tr f3
    have e51 := @b_X10_read_51
    show (∀ f p, (if pAc X e1 = -1 then Sum.inl (1, kA X e1) else Sum.inr (dA D1 r (pAc X e1), tE X e1) : zFl ⊕ (zPL × Nat)) = Sum.inl (f, p) → _) ∧ (∀ D' e', (if pAc X e1 = -1 then Sum.inl (1, kA X e1) else Sum.inr (dA D1 r (pAc X e1), tE X e1) : zFl ⊕ (zPL × Nat)) = Sum.inr (D', e') → _)
    by_cases c2 : pAc X e1 = -1
    · rw [if_pos c2]
      refine ⟨fun f p h => ?_, fun D' e' h => by cases h⟩
      obtain ⟨rfl, rfl⟩ := Prod.mk.inj (Sum.inl.inj h)
      obtain ⟨I4, a4, b4, f4⟩ := sp_X1_fail (E := E) (d := d + 4) (f := 1) hB R3
      refine ⟨S1, I4, a1 _ (a2 _ ?_), b4, (fA.tr (f4.wd (show m ≤ mS S1 by omega) (Nat.le_refl _) (Nat.le_refl _))).wd (Nat.le_refl _) (by omega) (by omega)⟩
      have d2 := eq_true c2
      refine zat_in zP_X10_read zk_X10_read_51 ?_
      simp (disch := omega) only [e51, zif, zdr, zkb, mK_wi, mN_wi, mJ_wi, mI_wi, sI_wi, beq_self_eq_true, Bool.true_or, Bool.or_true, Bool.or_false, Bool.and_self, Bool.and_true, Bool.true_and, ↓reduceIte, ble_up0, i_cl, i_succ, zix_of, zfl_k, zup_k, zup_q, krr, bk2]
      refine ev_th _ (fun _ => ?_) (fun h => absurd c2 h)
      refine ev_cr a4 ?_
      try simp (disch := omega) only [zif, zdr, zkb, mK_wi, mN_wi, mJ_wi, mI_wi, sI_wi, beq_self_eq_true, Bool.true_or, Bool.or_true, Bool.or_false, Bool.and_self, Bool.and_true, Bool.true_and, ↓reduceIte, ble_up0, i_cl, i_succ, zix_of, zfl_k, zup_k, zup_q, brk0]
      exact ev_r
    · rw [if_neg c2]
      refine ⟨fun f p h => (by cases h), fun D' e' h => ?_⟩
      obtain ⟨rfl, rfl⟩ := Prod.mk.inj (Sum.inr.inj h)
      obtain ⟨S4, I4, a4, R4, f4⟩ := R3.nx (d := d + 2) hB
      have e68 := @b_X10_read_68
      have P4 := P3.fr f4 (Nat.le_refl _) hlo
      refine ⟨S4, I4, a1 _ (a2 _ ?_), R4, ⟨ta, P4, ?_⟩, (fA.tr (f4.wd (show m ≤ mS S1 by omega) (Nat.le_refl _) (Nat.le_refl _))).wd (Nat.le_refl _) (by omega) (by omega), g1.tr dAg_A⟩
      · refine zat_in zP_X10_read zk_X10_read_51 ?_
        simp (disch := omega) only [e51, zif, zdr, zkb, mK_wi, mN_wi, mJ_wi, mI_wi, sI_wi, beq_self_eq_true, Bool.true_or, Bool.or_true, Bool.or_false, Bool.and_self, Bool.and_true, Bool.true_and, ↓reduceIte, ble_up0, i_cl, i_succ, zix_of, zfl_k, zup_k, zup_q, krr, bk2]
        refine ev_th _ (fun h => absurd h c2) (fun _ => ?_)
        refine ev_bk ?_
        refine zat_in zP_X10_read zk_X10_read_68 ?_
        simp (disch := omega) only [e68, zif, zdr, zkb, mK_wi, mN_wi, mJ_wi, mI_wi, sI_wi, beq_self_eq_true, Bool.true_or, Bool.or_true, Bool.or_false, Bool.and_self, Bool.and_true, Bool.true_and, ↓reduceIte, ble_up0, i_cl, i_succ, zix_of, zfl_k, zup_k, zup_q, bk2]
        refine ev_cv a4 ?_
        exact ev_r
      · have x1 : I4 rr 2 = zup I2 rr 2 (pAc X e1) rr 2 := f4.2.2.2.1 _ _ (by omega) (by omega) (fun q => by rw [krr] at q; omega)
        rw [x1, zup_q]
        rw [dA_q]
end
