/-! ===== what both readers make of a text: plans and laws ===== -/
set_option maxRecDepth 100000
/-- a fault, its place -/
abbrev zFl : Type := Int32 × Nat
def pKf (v : Nat) : Int32 := if v = val 22 ∨ v = val 23 ∨ wAct v ≠ -1 then 1 else 2
def pAc (X : zTx) (e : Nat) : Int32 := if tK X e = 2 then wAct (tV X e) else -1
/-- a test from e on, k tests of its rule are read -/
def pTst (X : zTx) (e k : Nat) : zFl ⊕ ((Int32 × Int32 × Int32) × Nat) :=
  if tK X e = 2 then
    if wNam (tV X e) = -1 then Sum.inl (pKf (tV X e), kA X e)
    else if k = 4 then Sum.inl (3, kA X e)
    else if tK X (tE X e) = 60 ∨ tK X (tE X e) = 62 then
      if tK X (tE X (tE X e)) = 3 then Sum.inr ((wNam (tV X e), if tK X (tE X e) = 60 then 1 else 0, tN X (tE X (tE X e))), tE X (tE X (tE X e)))
      else Sum.inl (1, kA X (tE X (tE X e)))
    else Sum.inl (1, kA X (tE X e))
  else Sum.inl (1, kA X e)
/-- tables of one plan: rule r, test 4 r + k -/
def dT (D : zPL) (r k : Nat) (t : Int32 × Int32 × Int32) : zPL := (pnr D, fun q => if q = r then k + 1 else pnt D q, zup (zup (zup (pA D) 3 (4 * r + k) t.1) 4 (4 * r + k) t.2.1) 5 (4 * r + k) t.2.2)
def d0 (D : zPL) (r : Nat) : zPL := (pnr D, fun q => if q = r then 0 else pnt D q, pA D)
def dA (D : zPL) (r : Nat) (a : Int32) : zPL := (pnr D, pnt D, zup (pA D) 1 r a)
def pTs (X : zTx) (r : Nat) : Nat → zPL → Nat → Nat → zFl ⊕ (zPL × Nat)
  | 0, _, e, k => match pTst X e k with
    | Sum.inl f => Sum.inl f
    | Sum.inr _ => Sum.inl (0, 0)
  | c + 1, D, e, k => match pTst X e k with
    | Sum.inl f => Sum.inl f
    | Sum.inr (t, e') => if iw X e' 23 = 0 then Sum.inr (dT D r k t, e') else pTs X r c (dT D r k t) (tE X e') (k + 1)
def pHd (X : zTx) (D : zPL) (r e : Nat) : zFl ⊕ (zPL × Nat) := if iw X e 22 = 0 then Sum.inr (d0 D r, e) else pTs X r 4 (d0 D r) (tE X e) 0
def pRu (X : zTx) (D : zPL) (r e : Nat) : zFl ⊕ (zPL × Nat) := match pHd X D r e with
  | Sum.inl f => Sum.inl f
  | Sum.inr (D', e') => if pAc X e' = -1 then Sum.inl (1, kA X e') else Sum.inr (dA D' r (pAc X e'), tE X e')
def pPl (X : zTx) : Nat → zPL → Nat → Nat → zFl ⊕ (zPL × Nat)
  | 0, _, _, e => Sum.inl (if iw X e 20 = 0 then (if pAc X e = -1 then 1 else 3) else 3, kA X e)
  | c + 1, D, r, e => match pRu X D r e with
    | Sum.inl f => Sum.inl f
    | Sum.inr (D', e') => if tK X e' = 59 then pPl X c D' (r + 1) (tE X e') else if tK X e' = 0 then Sum.inr (D', r + 1) else Sum.inl (1, kA X e')
/-- a law from e on -/
def pLw (X : zTx) (e : Nat) : zFl ⊕ ((Int32 × Int32 × Int32 × Int32) × Nat) :=
  if iw X e 5 = 0 then
    if iw X e 10 = 0 then
      if iw X e 18 = 0 then Sum.inl (1, kA X e)
      else if tK X (tE X e) = 3 then
        if iw X (tE X (tE X e)) 19 = 0 then Sum.inl (1, kA X (tE X (tE X e)))
        else if tK X (tE X (tE X (tE X e))) = 3 then Sum.inr ((3, tN X (tE X e), tN X (tE X (tE X (tE X e))), 0), tE X (tE X (tE X (tE X e))))
        else Sum.inl (1, kA X (tE X (tE X (tE X e))))
      else Sum.inl (1, kA X (tE X e))
    else if tK X (tE X e) = 3 then Sum.inr ((2, tN X (tE X e), 0, 0), tE X (tE X e))
    else Sum.inl (1, kA X (tE X e))
  else if tK X (tE X e) = 3 then
    if iw X (tE X (tE X e)) 15 = 0 then
      if iw X (tE X (tE X e)) 16 = 0 then Sum.inl (1, kA X (tE X (tE X e)))
      else if tK X (tE X (tE X (tE X e))) = 3 then
        if iw X (tE X (tE X (tE X (tE X e)))) 17 = 0 then Sum.inl (1, kA X (tE X (tE X (tE X (tE X e)))))
        else if tK X (tE X (tE X (tE X (tE X (tE X e))))) = 3 then Sum.inr ((1, tN X (tE X e), tN X (tE X (tE X (tE X e))), tN X (tE X (tE X (tE X (tE X (tE X e)))))), tE X (tE X (tE X (tE X (tE X (tE X e))))))
        else Sum.inl (1, kA X (tE X (tE X (tE X (tE X (tE X e))))))
      else Sum.inl (1, kA X (tE X (tE X (tE X e))))
    else if tK X (tE X (tE X (tE X e))) = 3 then Sum.inr ((0, tN X (tE X e), tN X (tE X (tE X (tE X e))), 0), tE X (tE X (tE X (tE X e))))
    else Sum.inl (1, kA X (tE X (tE X (tE X e))))
  else Sum.inl (1, kA X (tE X e))
def wL (W : zT) (n : Nat) (t : Int32 × Int32 × Int32 × Int32) : zT := zup (zup (zup (zup W n 0 t.1) n 1 t.2.1) n 2 t.2.2.1) n 3 t.2.2.2
def pLs (X : zTx) : Nat → zT → Nat → Nat → zFl ⊕ (zT × Nat)
  | 0, _, _, e => Sum.inl (if iw X e 5 = 0 then (if iw X e 10 = 0 then (if iw X e 18 = 0 then 1 else 3) else 3) else 3, kA X e)
  | c + 1, W, n, e => match pLw X e with
    | Sum.inl f => Sum.inl f
    | Sum.inr (t, e') => if tK X e' = 59 then pLs X c (wL W n t) (n + 1) (tE X e') else if tK X e' = 0 then Sum.inr (wL W n t, n + 1) else Sum.inl (1, kA X e')
/-! words that are kept are no names -/
theorem v_20 : val 20 = val 22 := by decide +kernel
theorem wAct_i {v : Nat} (h : wAct v ≠ -1) : v = val 0 ∨ v = val 1 ∨ v = val 2 ∨ v = val 3 := by
  unfold wAct at h
  by_cases c0 : v = val 0
  · exact Or.inl c0
  · by_cases c1 : v = val 1
    · exact Or.inr (Or.inl c1)
    · by_cases c2 : v = val 2
      · exact Or.inr (Or.inr (Or.inl c2))
      · by_cases c3 : v = val 3
        · exact Or.inr (Or.inr (Or.inr c3))
        · rw [if_neg c0, if_neg c1, if_neg c2, if_neg c3] at h
          exact absurd rfl h
theorem kept_n {v : Nat} (h : v = val 22 ∨ v = val 23 ∨ wAct v ≠ -1) : wNam v = -1 := by
  rcases h with h | h | h
  · rw [h]
    decide +kernel
  · rw [h]
    decide +kernel
  · rcases wAct_i h with h | h | h | h <;> (rw [h]; decide +kernel)
theorem pTst_4 {X : zTx} {e : Nat} {r : (Int32 × Int32 × Int32) × Nat} : pTst X e 4 ≠ Sum.inr r := by
  unfold pTst
  intro h
  split at h
  · split at h
    · cases h
    · rw [if_pos rfl] at h
      cases h
  · cases h
section
variable {E : zE} {d B e : Nat} {S S' : zM} {I I' : Nat → Nat → Int32} {X : zTx}
/-- other cells may change while the class reads -/
theorem xRD.fx (hR : xRD E S I B X e) (h0 : mS S ≤ mS S') (h1 : ∀ a, a < mS S → mK S' a = mK S a ∧ mN S' a = mN S a) (h2 : ∀ a k, a < mS S → (a < B + 466 ∨ mK S a = 17) → mJ S' a k = mJ S a k) (h3 : ∀ a k, a < mS S → (a < B + 466 ∨ mK S a = 17 ∨ mK S a = 102) → I' a k = I a k) (h4 : ∀ a, mS S' ≤ a → mK S' a = 0) : xRD E S' I' B X e := by
  obtain ⟨⟨⟨q1, q2⟩, q3, ⟨q4, q5⟩, q6, q7, q8, q9⟩, r2, ⟨⟨⟨r3, r4⟩, r5⟩, r6, r7, r8, r9, r10⟩, r11, r12, r13⟩ := hR
  have K : ∀ a, a < mS S → mK S' a = mK S a := fun a ha => (h1 a ha).1
  have N : ∀ a, a < mS S → mN S' a = mN S a := fun a ha => (h1 a ha).2
  refine ⟨⟨⟨(K _ (by omega)).trans q1, (N _ (by omega)).trans q2⟩, (K _ (by omega)).trans q3, ⟨(h2 _ _ (by omega) (Or.inl (by omega))).trans q4, (K _ (by omega)).trans q5⟩, (h2 _ _ (by omega) (Or.inl (by omega))).trans q6, (h2 _ _ (by omega) (Or.inl (by omega))).trans q7, (K _ (by omega)).trans q8, (N _ (by omega)).trans q9⟩, fun i hi => ?_, ⟨⟨⟨(h3 _ _ (by omega) (Or.inl (by omega))).trans r3, fun j hj => (h3 _ _ (by omega) (Or.inl (by omega))).trans (r4 j hj)⟩, r5⟩, (h3 _ _ (by omega) (Or.inl (by omega))).trans r6, (h3 _ _ (by omega) (Or.inl (by omega))).trans r7, (h3 _ _ (by omega) (Or.inl (by omega))).trans r8, fun q => (h3 _ _ (by omega) (Or.inl (by omega))).trans (r9 q), fun q => ?_⟩, by omega, h4, r13⟩
  · obtain ⟨tb, t1, t2, t3, t4, t5, t6, t7, t8⟩ := r2 i hi
    exact ⟨tb, t1, t2, (K _ (by omega)).trans t3, (h2 _ _ (by omega) (Or.inl (by omega))).trans t4, (h3 _ _ (by omega) (Or.inl (by omega))).trans t5, (K _ (by omega)).trans t6, (N _ (by omega)).trans t7, fun j hj => (h3 _ _ (by omega) (Or.inl (by omega))).trans (t8 j hj)⟩
  · obtain ⟨s, sb, w1, w2, w3, w4, ⟨w5, w6, w7, w8, w9, w10⟩, w11, w12⟩ := r10 q
    have es : ∀ k, I' s k = I s k := fun k => h3 _ _ (by omega) (Or.inr (Or.inl w5))
    refine ⟨s, sb, (h2 _ _ (by omega) (Or.inl (by omega))).trans w1, w2, w3, by omega, ⟨(K _ (by omega)).trans w5, (h2 _ _ (by omega) (Or.inr w5)).trans w6, (es _).trans w7, (K _ (by omega)).trans w8, (N _ (by omega)).trans w9, fun j hj => (h3 _ _ w4 (Or.inr (Or.inr w8))).trans (w10 j hj)⟩, ?_, ?_⟩
    · rw [es]
      exact w11
    · rw [es]
      exact w12
/-- a new cell -/
theorem xRD.al {κ n w : Nat} (hR : xRD E S I B X e) : xRD E (zal S κ n w) (zwn I (mS S)) B X e :=
  hR.fx (Nat.le_succ _) (fun a ha => ⟨mK_al_k (by omega), mN_al_k (by omega)⟩) (fun a k ha _ => mJ_al_k (by omega)) (fun a k ha _ => zwn_k (by omega)) (fun a ha => by
    have ha : mS S + 1 ≤ a := ha
    rw [mK_al_k (by omega)]
    exact hR.2.2.2.2.1 a (by omega))
theorem rFr.al {κ n w : Nat} (hz : ∀ a, mS S ≤ a → mK S a = 0) : rFr B (mS S) 1 w S (zal S κ n w) I (zwn I (mS S)) :=
  ⟨⟨Nat.le_succ _, Nat.le_refl _, Nat.le_refl _⟩, fun a ha => ⟨mK_al_k (by omega), mN_al_k (by omega)⟩, fun a k ha _ => mJ_al_k (by omega), fun a k ha _ _ => zwn_k (by omega), fun a ha => by
    have ha : mS S + 1 ≤ a := ha
    rw [mK_al_k (by omega)]
    exact hz a (by omega)⟩
/-- whether a word is kept -/
theorem sp_X10_isKept {s : Nat} (hB : E.1 ≤ B) (hR : xRD E S I B X e) (hk : tK X e = 2) (hs : mJ S (B + 2) 8 = some s) (ks : mK S s = 17) : ∃ I' v, zCl E (d + 5) 195 [zr (some s)] (zwi S I) (Sum.inl (some (zi v)), zwi S I') ∧ ((v = 0 ∧ pKf (tV X e) = 2) ∨ (v = 1 ∧ pKf (tV X e) = 1)) ∧ xRD E S I' B X e ∧ rFr B (mS S) 0 0 S S I I' := by
  have e26 := @b_X10_isKept_26
  have e30 := @b_X10_isKept_30
  have g31 : ∀ (v : Int32) (M : zM), v = 0 ∨ v = 1 → zAt E (d + 5) 195 31 [some (zr (some s))] [zi v] M (Sum.inl (some (zi v)), M) := by
    intro v M hv
    refine zat_in zP_X10_isKept zk_X10_isKept_31 ?_; simp (disch := omega) only [b_X10_isKept_31, zif, zdr, zkb, mK_wi, mN_wi, mJ_wi, mI_wi, sI_wi, beq_self_eq_true, Bool.true_or, Bool.or_true, Bool.or_false, Bool.and_self, Bool.and_true, Bool.true_and, ↓reduceIte, z01 hv]
    exact ev_r
  have g26 : ∀ (M : zM), zAt E (d + 5) 195 26 [some (zr (some s))] [] M (Sum.inl (some (zi 1)), M) := by
    intro M
    refine zat_in zP_X10_isKept zk_X10_isKept_26 ?_
    simp only [e26]
    exact ev_bk (g31 1 M (Or.inr rfl))
  have g30 : ∀ (M : zM), zAt E (d + 5) 195 30 [some (zr (some s))] [] M (Sum.inl (some (zi 0)), M) := by
    intro M
    refine zat_in zP_X10_isKept zk_X10_isKept_30 ?_
    simp only [e30]
    exact ev_tl zP_X10_isKept zk_X10_isKept_31 (g31 0 M (Or.inl rfl))
  have c22 := hR.eq (d := d + 3) (i := 22) hk (by decide) hs
  have c23 := hR.eq (d := d + 3) (i := 23) hk (by decide) hs
  have e0 := @b_X10_isKept_0
  by_cases h1 : tV X e = val 22
  · rw [if_pos h1] at c22
    refine ⟨I, 1, ?_, Or.inr ⟨rfl, if_pos (Or.inl h1)⟩, hR, rFr.rf hR.2.2.2.2.1⟩
    refine zcl_in' zP_X10_isKept ?_; rw [zn_1_1]
    refine zat_in zP_X10_isKept zk_X10_isKept_0 ?_
    simp (disch := omega) only [e0, zif, zdr, zkb, mK_wi, mN_wi, mJ_wi, mI_wi, sI_wi, beq_self_eq_true, Bool.true_or, Bool.or_true, Bool.or_false, Bool.and_self, Bool.and_true, Bool.true_and, ↓reduceIte, ble_up0, i_cl, i_succ, zix_of, zfl_k, zup_k, zup_q, ks]
    refine ev_ci c22 ?_
    refine ev_th _ (fun h => absurd h (by decide)) (fun _ => ?_)
    exact ev_bk (g26 _)
  · rw [if_neg h1] at c22
    by_cases h2 : tV X e = val 23
    · rw [if_pos h2] at c23
      refine ⟨I, 1, ?_, Or.inr ⟨rfl, if_pos (Or.inr (Or.inl h2))⟩, hR, rFr.rf hR.2.2.2.2.1⟩
      refine zcl_in' zP_X10_isKept ?_; rw [zn_1_1]
      refine zat_in zP_X10_isKept zk_X10_isKept_0 ?_
      simp (disch := omega) only [e0, zif, zdr, zkb, mK_wi, mN_wi, mJ_wi, mI_wi, sI_wi, beq_self_eq_true, Bool.true_or, Bool.or_true, Bool.or_false, Bool.and_self, Bool.and_true, Bool.true_and, ↓reduceIte, ble_up0, i_cl, i_succ, zix_of, zfl_k, zup_k, zup_q, ks]
      refine ev_ci c22 ?_
      refine ev_th _ (fun _ => ?_) (fun h => (h (by first | rfl | trivial)).elim)
      simp (disch := omega) only [zif, zdr, zkb, mK_wi, mN_wi, mJ_wi, mI_wi, sI_wi, beq_self_eq_true, Bool.true_or, Bool.or_true, Bool.or_false, Bool.and_self, Bool.and_true, Bool.true_and, ↓reduceIte, ble_up0, i_cl, i_succ, zix_of, zfl_k, zup_k, zup_q, ks]
      refine ev_ci c23 ?_
      refine ev_th _ (fun h => absurd h (by decide)) (fun _ => ?_)
      exact ev_bk (g26 _)
    · rw [if_neg h2] at c23
      obtain ⟨s', I1, w1, ks', a1, b1, f1⟩ := sp_X0_actOf (d := d) hB hR hk
      obtain rfl : s = s' := Option.some.inj (hs.symm.trans w1)
      by_cases h3 : wAct (tV X e) = -1
      · refine ⟨I1, 0, ?_, Or.inl ⟨rfl, if_neg ?_⟩, b1, f1⟩
        · refine zcl_in' zP_X10_isKept ?_; rw [zn_1_1]
          refine zat_in zP_X10_isKept zk_X10_isKept_0 ?_
          simp (disch := omega) only [e0, zif, zdr, zkb, mK_wi, mN_wi, mJ_wi, mI_wi, sI_wi, beq_self_eq_true, Bool.true_or, Bool.or_true, Bool.or_false, Bool.and_self, Bool.and_true, Bool.true_and, ↓reduceIte, ble_up0, i_cl, i_succ, zix_of, zfl_k, zup_k, zup_q, ks]
          refine ev_ci c22 ?_
          refine ev_th _ (fun _ => ?_) (fun h => (h (by first | rfl | trivial)).elim)
          simp (disch := omega) only [zif, zdr, zkb, mK_wi, mN_wi, mJ_wi, mI_wi, sI_wi, beq_self_eq_true, Bool.true_or, Bool.or_true, Bool.or_false, Bool.and_self, Bool.and_true, Bool.true_and, ↓reduceIte, ble_up0, i_cl, i_succ, zix_of, zfl_k, zup_k, zup_q, ks]
          refine ev_ci c23 ?_
          refine ev_th _ (fun _ => ?_) (fun h => (h (by first | rfl | trivial)).elim)
          refine ev_ci a1 ?_
          refine ev_th _ (fun _ => ?_) (fun h => absurd h3 h)
          exact ev_bk (g30 _)
        · intro q
          rcases q with q | q | q
          · exact h1 q
          · exact h2 q
          · exact q h3
      · refine ⟨I1, 1, ?_, Or.inr ⟨rfl, if_pos (Or.inr (Or.inr h3))⟩, b1, f1⟩
        refine zcl_in' zP_X10_isKept ?_; rw [zn_1_1]
        refine zat_in zP_X10_isKept zk_X10_isKept_0 ?_
        simp (disch := omega) only [e0, zif, zdr, zkb, mK_wi, mN_wi, mJ_wi, mI_wi, sI_wi, beq_self_eq_true, Bool.true_or, Bool.or_true, Bool.or_false, Bool.and_self, Bool.and_true, Bool.true_and, ↓reduceIte, ble_up0, i_cl, i_succ, zix_of, zfl_k, zup_k, zup_q, ks]
        refine ev_ci c22 ?_
        refine ev_th _ (fun _ => ?_) (fun h => (h (by first | rfl | trivial)).elim)
        simp (disch := omega) only [zif, zdr, zkb, mK_wi, mN_wi, mJ_wi, mI_wi, sI_wi, beq_self_eq_true, Bool.true_or, Bool.or_true, Bool.or_false, Bool.and_self, Bool.and_true, Bool.true_and, ↓reduceIte, ble_up0, i_cl, i_succ, zix_of, zfl_k, zup_k, zup_q, ks]
        refine ev_ci c23 ?_
        refine ev_th _ (fun _ => ?_) (fun h => (h (by first | rfl | trivial)).elim)
        refine ev_ci a1 ?_
        refine ev_th _ (fun h => absurd h h3) (fun _ => ?_)
        exact ev_tl zP_X10_isKept zk_X10_isKept_26 (g26 _)
end
