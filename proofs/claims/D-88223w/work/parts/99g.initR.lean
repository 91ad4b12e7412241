/-! ===== a reader, the class are made ===== -/
set_option maxRecDepth 100000
section
variable {E : zE} {d t w B : Nat} {S : zM} {I : Nat → Nat → Int32}
theorem sp_X2_init {q : Nat} (hB : E.1 ≤ q) (kq : mK S q = 3) : ∃ S', zCl E (d + 3) 84 [zr (some q)] (zwi S I) (Sum.inl none, zwi S' (zup I q 8 (-1))) ∧ (mK S' = mK S ∧ mN S' = mN S ∧ mS S' = mS S ∧ mU S' = mU S) ∧ ∀ a i, a ≠ q → mJ S' a i = mJ S a i := by
  obtain ⟨S', a', b', c'⟩ := sp_J0_init (E := E) (d := d) (S := S) (I := I) 0 hB (Or.inl kq)
  refine ⟨S', ?_, b', c'⟩
  have k' : mK S' q = 3 := by rw [b'.1]; exact kq
  have e := @b_X2_init_0
  refine zcl_in' zP_X2_init ?_; rw [zn_1_1]
  refine zat_in zP_X2_init zk_X2_init_0 ?_
  simp only [e]
  refine ev_cv a' ?_
  try simp (disch := omega) only [zif, zdr, zkb, mK_wi, mN_wi, mJ_wi, mI_wi, sI_wi, beq_self_eq_true, Bool.true_or, Bool.or_true, Bool.or_false, Bool.and_self, Bool.and_true, Bool.true_and, ↓reduceIte, ble_up0, i_cl, i_succ, zix_of, zfl_k, zup_k, zup_q, k']
  exact ev_r
/-- the reader's parts -/
theorem sp_X1_init {ta : Nat} (hB : E.1 ≤ t) (kt : mK S t = 2) (ht : t < mS S) (hz : ∀ a, mS S ≤ a → mK S a = 0) : ∃ S' I', zCl E (d + 4) 71 [zr (some t), zr (some ta)] (zwi S I) (Sum.inl none, zwi S' I') ∧ (mJ S' t 0 = some (mS S) ∧ mK S' (mS S) = 3 ∧ mJ S' t 1 = some ta ∧ mJ S' t 2 = some (mS S + 1) ∧ mK S' (mS S + 1) = 103 ∧ mN S' (mS S + 1) = 8) ∧ cX t 2 17 S S' I I' := by
  have z8 : zsz 8 = true := by decide
  have k8 : Int32.toNatClampNeg 8 = 8 := by decide
  have hz1 : ∀ a, mS (zal S 3 0 9) ≤ a → mK (zal S 3 0 9) a = 0 := fun a ha => by
    have ha : mS S + 1 ≤ a := ha
    rw [mK_al_k (by omega)]
    exact hz a (by omega)
  obtain ⟨S1, a1, ⟨b1, b2, b3, b4⟩, c1⟩ := sp_X2_init (E := E) (d := d) (q := mS S) (S := zal S 3 0 9) (I := zwn I (mS S)) (by omega) (mK_al_q rfl)
  have m1 : mS S1 = mS S + 1 := b3
  have u1 : mU S1 = mU S + 9 := b4
  have K1 : ∀ a, a < mS S → mK S1 a = mK S a ∧ mN S1 a = mN S a := fun a ha => ⟨by rw [b1]; exact mK_al_k (by omega), by rw [b2]; exact mN_al_k (by omega)⟩
  have J1 : ∀ a i, a < mS S → mJ S1 a i = mJ S a i := fun a i ha => (c1 a i (by omega)).trans (mJ_al_k (by omega))
  have k1 : mK S1 t = 2 := (K1 t ht).1.trans kt
  have q1 : mK S1 (mS S) = 3 := by rw [b1]; exact mK_al_q rfl
  refine ⟨sJ (nA (sJ S1 t 0 (some (mS S))) 103 8 t 2) t 1 (some ta), zwn (zup (zwn I (mS S)) (mS S) 8 (-1)) (mS S1), ?_, ⟨?_, ?_, ?_, ?_, ?_, ?_⟩, ⟨?_, ?_⟩, fun a ha => ⟨?_, ?_⟩, fun a i ha hn => ?_, fun a i ha => ?_, fun a ha => ?_⟩
  · have kA : mK (sJ S1 t 0 (some (mS S))) t = 2 := k1
    have kC : mK (zal (sJ S1 t 0 (some (mS S))) 103 8 8) t = 2 := (mK_al_k (by show t ≠ mS S1; omega)).trans k1
    have kD : mK (sJ (zal (sJ S1 t 0 (some (mS S))) 103 8 8) t 2 (some (mS S1))) t = 2 := kC
    have e0 := @b_X1_init_0
    have e23 := @b_X1_init_23
    refine zcl_in' zP_X1_init ?_; rw [zn_2_2]
    refine zat_in zP_X1_init zk_X1_init_0 ?_
    simp (disch := omega) only [e0, zif, zdr, zkb, mK_wi, mN_wi, mJ_wi, mI_wi, sI_wi, beq_self_eq_true, Bool.true_or, Bool.or_true, Bool.or_false, Bool.and_self, Bool.and_true, Bool.true_and, ↓reduceIte, ble_up0, i_cl, i_succ, zix_of, zfl_k, zup_k, zup_q, al_wi, mS_wi]
    refine ev_cv a1 ?_
    try simp (disch := omega) only [zif, zdr, zkb, mK_wi, mN_wi, mJ_wi, mI_wi, sI_wi, beq_self_eq_true, Bool.true_or, Bool.or_true, Bool.or_false, Bool.and_self, Bool.and_true, Bool.true_and, ↓reduceIte, ble_up0, i_cl, i_succ, zix_of, zfl_k, zup_k, zup_q, k1, z8, k8, sJ_wi, al_wi, kC]
    refine ev_tl zP_X1_init zk_X1_init_23 ?_
    refine zat_in zP_X1_init zk_X1_init_23 ?_
    simp (disch := omega) only [e23, zif, zdr, zkb, mK_wi, mN_wi, mJ_wi, mI_wi, sI_wi, beq_self_eq_true, Bool.true_or, Bool.or_true, Bool.or_false, Bool.and_self, Bool.and_true, Bool.true_and, ↓reduceIte, ble_up0, i_cl, i_succ, zix_of, zfl_k, zup_k, zup_q, sJ_wi, kD, mS_wi]
    exact ev_r
  · exact (if_neg (by omega)).trans ((if_neg (by omega)).trans ((if_neg (by show t ≠ mS S1; omega)).trans (if_pos ⟨rfl, rfl⟩)))
  · exact (if_neg (by show mS S ≠ mS S1; omega)).trans q1
  · exact if_pos ⟨rfl, rfl⟩
  · exact (if_neg (by omega)).trans ((if_pos ⟨rfl, rfl⟩).trans (congrArg some m1))
  · exact if_pos (show mS S + 1 = mS S1 by omega)
  · exact if_pos (show mS S + 1 = mS S1 by omega)
  · show mS S1 + 1 = mS S + 2
    omega
  · show mU S1 + 8 ≤ mU S + 17
    omega
  · exact (if_neg (by show a ≠ mS S1; omega)).trans (K1 a ha).1
  · exact (if_neg (by show a ≠ mS S1; omega)).trans (K1 a ha).2
  · exact (if_neg (by omega)).trans ((if_neg (by omega)).trans ((if_neg (by show a ≠ mS S1; omega)).trans ((if_neg (by omega)).trans (J1 a i ha))))
  · rw [zwn_k (by omega), zup_k (by omega), zwn_k (by omega)]
  · have ha : mS S1 + 1 ≤ a := ha
    have h2 : mK S1 a = 0 := by rw [b1]; exact hz1 a (by show mS S + 1 ≤ a; omega)
    exact (if_neg (by show a ≠ mS S1; omega)).trans h2
end
