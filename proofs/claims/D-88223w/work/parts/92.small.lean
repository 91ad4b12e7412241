/-! ===== small methods of both sides; run whole ===== -/
set_option maxRecDepth 100000
def tin (a lo hi : Int32) : Int32 := if a < lo then 0 else if hi < a then 0 else 1
theorem tin_b {a lo hi : Int32} : tin a lo hi = 0 ∨ tin a lo hi = 1 := by
  unfold tin
  split
  · exact Or.inl rfl
  · split
    · exact Or.inl rfl
    · exact Or.inr rfl
theorem tin_1 {a lo hi : Int32} (h : ¬ tin a lo hi = 0) : lo ≤ a ∧ a ≤ hi := by
  unfold tin at h
  by_cases h1 : a < lo
  · rw [if_pos h1] at h
    exact absurd rfl h
  · rw [if_neg h1] at h
    by_cases h2 : hi < a
    · rw [if_pos h2] at h
      exact absurd rfl h
    · rw [i_nle, Decidable.not_not] at h1 h2
      exact ⟨h1, h2⟩
theorem tin_0 {a lo hi : Int32} (h1 : lo ≤ a) (h2 : a ≤ hi) : tin a lo hi = 1 := by
  unfold tin
  rw [if_neg (by rw [i_nle, Decidable.not_not]; exact h1), if_neg (by rw [i_nle, Decidable.not_not]; exact h2)]
section
variable {E : zE} {d B w : Nat} {S : zM} {I : Nat → Nat → Int32}
theorem sp_X0_in (a lo hi : Int32) : zCl E d 32 [zi a, zi lo, zi hi] (zwi S I) (Sum.inl (some (zi (tin a lo hi))), zwi S I) := by
  unfold tin
  refine zcl_in' zP_X0_in ?_; rw [zn_3_3]
  refine zat_in zP_X0_in zk_X0_in_0 ?_
  simp only [b_X0_in_0]
  refine ev_th _ (fun h => ?_) (fun h => ?_)
  · rw [if_pos h]
    refine ev_bk ?_
    refine zat_in zP_X0_in zk_X0_in_14 ?_; simp (disch := omega) only [b_X0_in_14, zc_X0_in_15, b_X0_in_15, zif, zdr, zkb, mK_wi, mN_wi, mJ_wi, mI_wi, sI_wi, beq_self_eq_true, Bool.true_or, Bool.or_true, Bool.or_false, Bool.and_self, Bool.and_true, Bool.true_and, ↓reduceIte, z01]
    exact ev_r
  · rw [if_neg h]
    refine ev_th _ (fun h => ?_) (fun h => ?_)
    · rw [if_pos h]
      refine ev_bk ?_
      refine zat_in zP_X0_in zk_X0_in_14 ?_; simp (disch := omega) only [b_X0_in_14, zc_X0_in_15, b_X0_in_15, zif, zdr, zkb, mK_wi, mN_wi, mJ_wi, mI_wi, sI_wi, beq_self_eq_true, Bool.true_or, Bool.or_true, Bool.or_false, Bool.and_self, Bool.and_true, Bool.true_and, ↓reduceIte, z01]
      exact ev_r
    · rw [if_neg h]
      refine ev_bk ?_
      refine zat_in zP_X0_in zk_X0_in_15 ?_; simp (disch := omega) only [b_X0_in_15, zif, zdr, zkb, mK_wi, mN_wi, mJ_wi, mI_wi, sI_wi, beq_self_eq_true, Bool.true_or, Bool.or_true, Bool.or_false, Bool.and_self, Bool.and_true, Bool.true_and, ↓reduceIte, z01]
      exact ev_r
theorem sp_X6_in (a lo hi : Int32) : zCl E d 121 [zi a, zi lo, zi hi] (zwi S I) (Sum.inl (some (zi (tin a lo hi))), zwi S I) := by
  unfold tin
  refine zcl_in' zP_X6_in ?_; rw [zn_3_3]
  refine zat_in zP_X6_in zk_X6_in_0 ?_
  simp only [b_X6_in_0]
  refine ev_th _ (fun h => ?_) (fun h => ?_)
  · rw [if_pos h]
    refine ev_bk ?_
    refine zat_in zP_X6_in zk_X6_in_14 ?_; simp (disch := omega) only [b_X6_in_14, zc_X6_in_15, b_X6_in_15, zif, zdr, zkb, mK_wi, mN_wi, mJ_wi, mI_wi, sI_wi, beq_self_eq_true, Bool.true_or, Bool.or_true, Bool.or_false, Bool.and_self, Bool.and_true, Bool.true_and, ↓reduceIte, z01]
    exact ev_r
  · rw [if_neg h]
    refine ev_th _ (fun h => ?_) (fun h => ?_)
    · rw [if_pos h]
      refine ev_bk ?_
      refine zat_in zP_X6_in zk_X6_in_14 ?_; simp (disch := omega) only [b_X6_in_14, zc_X6_in_15, b_X6_in_15, zif, zdr, zkb, mK_wi, mN_wi, mJ_wi, mI_wi, sI_wi, beq_self_eq_true, Bool.true_or, Bool.or_true, Bool.or_false, Bool.and_self, Bool.and_true, Bool.true_and, ↓reduceIte, z01]
      exact ev_r
    · rw [if_neg h]
      refine ev_bk ?_
      refine zat_in zP_X6_in zk_X6_in_15 ?_; simp (disch := omega) only [b_X6_in_15, zif, zdr, zkb, mK_wi, mN_wi, mJ_wi, mI_wi, sI_wi, beq_self_eq_true, Bool.true_or, Bool.or_true, Bool.or_false, Bool.and_self, Bool.and_true, Bool.true_and, ↓reduceIte, z01]
      exact ev_r
theorem sp_X0_begins (hB : E.1 ≤ B) (b0 : mK S B = 1) : zCl E d 30 [zr (some B)] (zwi S I) (Sum.inl none, zwi S (zup (zup I B 13 0) B 15 (-1))) := by
  refine zcl_in' zP_X0_begins ?_; rw [zn_1_1]
  (first | refine zat_in zP_X0_begins zk_X0_begins_0 ?_) <;> simp (disch := omega) only [b_X0_begins_0, zif, zdr, zkb, mK_wi, mN_wi, mJ_wi, mI_wi, sI_wi, beq_self_eq_true, Bool.true_or, Bool.or_true, Bool.or_false, Bool.and_self, Bool.and_true, Bool.true_and, ↓reduceIte, ble_up0, i_cl, i_succ, zix_of, zfl_k, zup_k, zup_q, b0]; repeat (first | exact ev_r | (refine ev_bk ?_; ((first | refine zat_in zP_X0_begins zk_X0_begins_0 ?_) <;> simp (disch := omega) only [b_X0_begins_0, zif, zdr, zkb, mK_wi, mN_wi, mJ_wi, mI_wi, sI_wi, beq_self_eq_true, Bool.true_or, Bool.or_true, Bool.or_false, Bool.and_self, Bool.and_true, Bool.true_and, ↓reduceIte, ble_up0, i_cl, i_succ, zix_of, zfl_k, zup_k, zup_q, b0])))
theorem sp_X2_by {a : Nat} {x : Int32} (hB : E.1 ≤ a) (b0 : mK S a = 3) : zCl E d 85 [zr (some a), zi x] (zwi S I) (Sum.inl (some (zr (some a))), zwi S (zup (zup (zup I a 6 x) a 7 0) a 8 (-1))) := by
  refine zcl_in' zP_X2_by ?_; rw [zn_2_2]
  (first | refine zat_in zP_X2_by zk_X2_by_0 ?_) <;> simp (disch := omega) only [b_X2_by_0, zif, zdr, zkb, mK_wi, mN_wi, mJ_wi, mI_wi, sI_wi, beq_self_eq_true, Bool.true_or, Bool.or_true, Bool.or_false, Bool.and_self, Bool.and_true, Bool.true_and, ↓reduceIte, ble_up0, i_cl, i_succ, zix_of, zfl_k, zup_k, zup_q, b0]; repeat (first | exact ev_r | (refine ev_bk ?_; ((first | refine zat_in zP_X2_by zk_X2_by_0 ?_) <;> simp (disch := omega) only [b_X2_by_0, zif, zdr, zkb, mK_wi, mN_wi, mJ_wi, mI_wi, sI_wi, beq_self_eq_true, Bool.true_or, Bool.or_true, Bool.or_false, Bool.and_self, Bool.and_true, Bool.true_and, ↓reduceIte, ble_up0, i_cl, i_succ, zix_of, zfl_k, zup_k, zup_q, b0])))
theorem sp_X2_at {a : Nat} {x y : Int32} (hB : E.1 ≤ a) (b0 : mK S a = 3) : zCl E (d + 1) 86 [zr (some a), zi x, zi y] (zwi S I) (Sum.inl (some (zr (some a))), zwi S (zup (zup (zup (zup (zup I a 6 4) a 7 0) a 8 (-1)) a 7 x) a 8 y)) := by
  refine zcl_in' zP_X2_at ?_; rw [zn_3_3]
  (first | refine zat_in zP_X2_at zk_X2_at_0 ?_) <;> simp (disch := omega) only [b_X2_at_0, zif, zdr, zkb, mK_wi, mN_wi, mJ_wi, mI_wi, sI_wi, beq_self_eq_true, Bool.true_or, Bool.or_true, Bool.or_false, Bool.and_self, Bool.and_true, Bool.true_and, ↓reduceIte, ble_up0, i_cl, i_succ, zix_of, zfl_k, zup_k, zup_q, b0]; repeat (first | exact ev_r | (refine ev_bk ?_; ((first | refine zat_in zP_X2_at zk_X2_at_0 ?_) <;> simp (disch := omega) only [b_X2_at_0, zif, zdr, zkb, mK_wi, mN_wi, mJ_wi, mI_wi, sI_wi, beq_self_eq_true, Bool.true_or, Bool.or_true, Bool.or_false, Bool.and_self, Bool.and_true, Bool.true_and, ↓reduceIte, ble_up0, i_cl, i_succ, zix_of, zfl_k, zup_k, zup_q, b0])) | (refine ev_cv (sp_X2_by hB b0) ?_; try simp (disch := omega) only [b_X2_at_0, zif, zdr, zkb, mK_wi, mN_wi, mJ_wi, mI_wi, sI_wi, beq_self_eq_true, Bool.true_or, Bool.or_true, Bool.or_false, Bool.and_self, Bool.and_true, Bool.true_and, ↓reduceIte, ble_up0, i_cl, i_succ, zix_of, zfl_k, zup_k, zup_q, b0]) | (refine ev_ci (sp_X2_by hB b0) ?_; try simp (disch := omega) only [b_X2_at_0, zif, zdr, zkb, mK_wi, mN_wi, mJ_wi, mI_wi, sI_wi, beq_self_eq_true, Bool.true_or, Bool.or_true, Bool.or_false, Bool.and_self, Bool.and_true, Bool.true_and, ↓reduceIte, ble_up0, i_cl, i_succ, zix_of, zfl_k, zup_k, zup_q, b0]) | (refine ev_cr (sp_X2_by hB b0) ?_; try simp (disch := omega) only [b_X2_at_0, zif, zdr, zkb, mK_wi, mN_wi, mJ_wi, mI_wi, sI_wi, beq_self_eq_true, Bool.true_or, Bool.or_true, Bool.or_false, Bool.and_self, Bool.and_true, Bool.true_and, ↓reduceIte, ble_up0, i_cl, i_succ, zix_of, zfl_k, zup_k, zup_q, b0]) | (refine ev_cg (sp_X2_by hB b0) ?_; try simp (disch := omega) only [b_X2_at_0, zif, zdr, zkb, mK_wi, mN_wi, mJ_wi, mI_wi, sI_wi, beq_self_eq_true, Bool.true_or, Bool.or_true, Bool.or_false, Bool.and_self, Bool.and_true, Bool.true_and, ↓reduceIte, ble_up0, i_cl, i_succ, zix_of, zfl_k, zup_k, zup_q, b0]))
theorem sp_X0_must1 {x y : Int32} (b0 : mK S B = 1) (h : (x = 0) = False) : zCl E d 31 [zr (some B), zi x, zi y] (zwi S I) (Sum.inl none, zwi S I) := by
  refine zcl_in' zP_X0_must ?_; rw [zn_3_3]
  (first | refine zat_in zP_X0_must zk_X0_must_0 ?_ | refine zat_in zP_X0_must zk_X0_must_13 ?_) <;> simp (disch := omega) only [b_X0_must_0, b_X0_must_13, zc_X0_must_13, zif, zdr, zkb, mK_wi, mN_wi, mJ_wi, mI_wi, sI_wi, beq_self_eq_true, Bool.true_or, Bool.or_true, Bool.or_false, Bool.and_self, Bool.and_true, Bool.true_and, ↓reduceIte, ble_up0, i_cl, i_succ, zix_of, zfl_k, zup_k, zup_q, b0, h]; repeat (first | exact ev_r | (refine ev_bk ?_; ((first | refine zat_in zP_X0_must zk_X0_must_0 ?_ | refine zat_in zP_X0_must zk_X0_must_13 ?_) <;> simp (disch := omega) only [b_X0_must_0, b_X0_must_13, zc_X0_must_13, zif, zdr, zkb, mK_wi, mN_wi, mJ_wi, mI_wi, sI_wi, beq_self_eq_true, Bool.true_or, Bool.or_true, Bool.or_false, Bool.and_self, Bool.and_true, Bool.true_and, ↓reduceIte, ble_up0, i_cl, i_succ, zix_of, zfl_k, zup_k, zup_q, b0, h])))
theorem sp_X0_must0 {x y : Int32} (hB : E.1 ≤ B) (b0 : mK S B = 1) (b12 : mJ S B 12 = some (B + 317)) (b3 : mK S (B + 317) = 3) (h : (x = 0) = True) : zCl E (d + 1) 31 [zr (some B), zi x, zi y] (zwi S I) (Sum.inr (B + 317), zwi S (zup (zup (zup I (B + 317) 6 y) (B + 317) 7 0) (B + 317) 8 (-1))) := by
  refine zcl_in' zP_X0_must ?_; rw [zn_3_3]
  (first | refine zat_in zP_X0_must zk_X0_must_0 ?_ | refine zat_in zP_X0_must zk_X0_must_13 ?_) <;> simp (disch := omega) only [b_X0_must_0, b_X0_must_13, zc_X0_must_13, zif, zdr, zkb, mK_wi, mN_wi, mJ_wi, mI_wi, sI_wi, beq_self_eq_true, Bool.true_or, Bool.or_true, Bool.or_false, Bool.and_self, Bool.and_true, Bool.true_and, ↓reduceIte, ble_up0, i_cl, i_succ, zix_of, zfl_k, zup_k, zup_q, b0, b12, b3, h]; repeat (first | exact ev_r | (refine ev_bk ?_; ((first | refine zat_in zP_X0_must zk_X0_must_0 ?_ | refine zat_in zP_X0_must zk_X0_must_13 ?_) <;> simp (disch := omega) only [b_X0_must_0, b_X0_must_13, zc_X0_must_13, zif, zdr, zkb, mK_wi, mN_wi, mJ_wi, mI_wi, sI_wi, beq_self_eq_true, Bool.true_or, Bool.or_true, Bool.or_false, Bool.and_self, Bool.and_true, Bool.true_and, ↓reduceIte, ble_up0, i_cl, i_succ, zix_of, zfl_k, zup_k, zup_q, b0, b12, b3, h])) | (refine ev_cv (sp_X2_by (by omega) b3) ?_; try simp (disch := omega) only [b_X0_must_0, b_X0_must_13, zc_X0_must_13, zif, zdr, zkb, mK_wi, mN_wi, mJ_wi, mI_wi, sI_wi, beq_self_eq_true, Bool.true_or, Bool.or_true, Bool.or_false, Bool.and_self, Bool.and_true, Bool.true_and, ↓reduceIte, ble_up0, i_cl, i_succ, zix_of, zfl_k, zup_k, zup_q, b0, b12, b3, h]) | (refine ev_ci (sp_X2_by (by omega) b3) ?_; try simp (disch := omega) only [b_X0_must_0, b_X0_must_13, zc_X0_must_13, zif, zdr, zkb, mK_wi, mN_wi, mJ_wi, mI_wi, sI_wi, beq_self_eq_true, Bool.true_or, Bool.or_true, Bool.or_false, Bool.and_self, Bool.and_true, Bool.true_and, ↓reduceIte, ble_up0, i_cl, i_succ, zix_of, zfl_k, zup_k, zup_q, b0, b12, b3, h]) | (refine ev_cr (sp_X2_by (by omega) b3) ?_; try simp (disch := omega) only [b_X0_must_0, b_X0_must_13, zc_X0_must_13, zif, zdr, zkb, mK_wi, mN_wi, mJ_wi, mI_wi, sI_wi, beq_self_eq_true, Bool.true_or, Bool.or_true, Bool.or_false, Bool.and_self, Bool.and_true, Bool.true_and, ↓reduceIte, ble_up0, i_cl, i_succ, zix_of, zfl_k, zup_k, zup_q, b0, b12, b3, h]) | (refine ev_cg (sp_X2_by (by omega) b3) ?_; try simp (disch := omega) only [b_X0_must_0, b_X0_must_13, zc_X0_must_13, zif, zdr, zkb, mK_wi, mN_wi, mJ_wi, mI_wi, sI_wi, beq_self_eq_true, Bool.true_or, Bool.or_true, Bool.or_false, Bool.and_self, Bool.and_true, Bool.true_and, ↓reduceIte, ble_up0, i_cl, i_succ, zix_of, zfl_k, zup_k, zup_q, b0, b12, b3, h]))
theorem sp_X0_refuses {a : Nat} (hB : E.1 ≤ B) (b0 : mK S B = 1) (ha : mK S a = 3) (hn : a ≠ B) : zCl E d 33 [zr (some B), zr (some a)] (zwi S I) (Sum.inl (some (zi (-1))), zwi S (zup (zup I B 13 (I a 6)) B 15 (I a 8))) := by
  refine zcl_in' zP_X0_refuses ?_; rw [zn_2_2]
  (first | refine zat_in zP_X0_refuses zk_X0_refuses_0 ?_) <;> simp (disch := omega) only [b_X0_refuses_0, zif, zdr, zkb, mK_wi, mN_wi, mJ_wi, mI_wi, sI_wi, beq_self_eq_true, Bool.true_or, Bool.or_true, Bool.or_false, Bool.and_self, Bool.and_true, Bool.true_and, ↓reduceIte, ble_up0, i_cl, i_succ, zix_of, zfl_k, zup_k, zup_q, b0, ha]; repeat (first | exact ev_r | (refine ev_bk ?_; ((first | refine zat_in zP_X0_refuses zk_X0_refuses_0 ?_) <;> simp (disch := omega) only [b_X0_refuses_0, zif, zdr, zkb, mK_wi, mN_wi, mJ_wi, mI_wi, sI_wi, beq_self_eq_true, Bool.true_or, Bool.or_true, Bool.or_false, Bool.and_self, Bool.and_true, Bool.true_and, ↓reduceIte, ble_up0, i_cl, i_succ, zix_of, zfl_k, zup_k, zup_q, b0, ha])))
end
