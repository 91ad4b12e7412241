/-! ===== bytes of the tape, letters, digits ===== -/
set_option maxRecDepth 100000
/-- the byte at k of a text of n bytes -/
def see (b : Nat → Int32) (n k : Nat) : Int32 := if n ≤ k then -1 else b k &&& 255
def sml (c : Int32) : Int32 := if c < 97 then 0 else if 122 < c then 0 else 1
def dgt (c : Int32) : Int32 := if c < 48 then 0 else if 57 < c then 0 else 1
section
variable {E : zE} {d B w n k : Nat} {S : zM} {I : Nat → Nat → Int32} {b : Nat → Int32} {c : Int32}
theorem sp_X1_see (bk2 : mK S (B + 2) = 2) (br1 : mJ S (B + 2) 1 = some (B + 1)) (bka0 : mK S (B + 1) = 102) (bna0 : mN S (B + 1) = 400) (e3 : I (B + 2) 3 = Int32.ofNat n) (hn : n ≤ 400) (hk : k < 100000) (hb : ∀ j, j < 400 → I (B + 1) j = b j) : zCl E d 74 [zr (some (B + 2)), zi (Int32.ofNat k)] (zwi S I) (Sum.inl (some (zi (see b n k))), zwi S I) := by
  unfold see
  by_cases h : n ≤ k
  · rw [if_pos h]
    have l : (Int32.ofNat n ≤ Int32.ofNat k) = True := by rw [i_le (by omega) (by omega)]; exact eq_true h
    refine zcl_in' zP_X1_see ?_; rw [zn_2_2]
    (first | refine zat_in zP_X1_see zk_X1_see_0 ?_ | refine zat_in zP_X1_see zk_X1_see_21 ?_ | refine zat_in zP_X1_see zk_X1_see_22 ?_) <;> simp (disch := omega) only [b_X1_see_0, b_X1_see_21, b_X1_see_22, zc_X1_see_21, zc_X1_see_22, zif, zdr, zkb, mK_wi, mN_wi, mJ_wi, mI_wi, sI_wi, beq_self_eq_true, Bool.true_or, Bool.or_true, Bool.or_false, Bool.and_self, Bool.and_true, Bool.true_and, ↓reduceIte, ble_up0, i_cl, i_succ, zix_of, zfl_k, zup_k, zup_q, bk2, br1, bka0, bna0, e3, l]; repeat (first | exact ev_r | (refine ev_bk ?_; ((first | refine zat_in zP_X1_see zk_X1_see_0 ?_ | refine zat_in zP_X1_see zk_X1_see_21 ?_ | refine zat_in zP_X1_see zk_X1_see_22 ?_) <;> simp (disch := omega) only [b_X1_see_0, b_X1_see_21, b_X1_see_22, zc_X1_see_21, zc_X1_see_22, zif, zdr, zkb, mK_wi, mN_wi, mJ_wi, mI_wi, sI_wi, beq_self_eq_true, Bool.true_or, Bool.or_true, Bool.or_false, Bool.and_self, Bool.and_true, Bool.true_and, ↓reduceIte, ble_up0, i_cl, i_succ, zix_of, zfl_k, zup_k, zup_q, bk2, br1, bka0, bna0, e3, l])))
  · rw [if_neg h]
    have l : (Int32.ofNat n ≤ Int32.ofNat k) = False := by rw [i_le (by omega) (by omega)]; exact eq_false h
    refine zcl_in' zP_X1_see ?_; rw [zn_2_2]
    (first | refine zat_in zP_X1_see zk_X1_see_0 ?_ | refine zat_in zP_X1_see zk_X1_see_21 ?_ | refine zat_in zP_X1_see zk_X1_see_22 ?_) <;> simp (disch := omega) only [b_X1_see_0, b_X1_see_21, b_X1_see_22, zc_X1_see_21, zc_X1_see_22, zif, zdr, zkb, mK_wi, mN_wi, mJ_wi, mI_wi, sI_wi, beq_self_eq_true, Bool.true_or, Bool.or_true, Bool.or_false, Bool.and_self, Bool.and_true, Bool.true_and, ↓reduceIte, ble_up0, i_cl, i_succ, zix_of, zfl_k, zup_k, zup_q, bk2, br1, bka0, bna0, e3, l, hb]; repeat (first | exact ev_r | (refine ev_bk ?_; ((first | refine zat_in zP_X1_see zk_X1_see_0 ?_ | refine zat_in zP_X1_see zk_X1_see_21 ?_ | refine zat_in zP_X1_see zk_X1_see_22 ?_) <;> simp (disch := omega) only [b_X1_see_0, b_X1_see_21, b_X1_see_22, zc_X1_see_21, zc_X1_see_22, zif, zdr, zkb, mK_wi, mN_wi, mJ_wi, mI_wi, sI_wi, beq_self_eq_true, Bool.true_or, Bool.or_true, Bool.or_false, Bool.and_self, Bool.and_true, Bool.true_and, ↓reduceIte, ble_up0, i_cl, i_succ, zix_of, zfl_k, zup_k, zup_q, bk2, br1, bka0, bna0, e3, l, hb])))
theorem sp_X6_byteAt (w0 : mK S w = 7) (m22 : mJ S w 22 = some (w + 20)) (mk22 : mK S (w + 20) = 102) (mn22 : mN S (w + 20) = 400) (e3 : I w 24 = Int32.ofNat n) (hn : n ≤ 400) (hk : k < 100000) (hb : ∀ j, j < 400 → I (w + 20) j = b j) : zCl E d 128 [zr (some w), zi (Int32.ofNat k)] (zwi S I) (Sum.inl (some (zi (see b n k))), zwi S I) := by
  unfold see
  by_cases h : n ≤ k
  · rw [if_pos h]
    have l : (Int32.ofNat n ≤ Int32.ofNat k) = True := by rw [i_le (by omega) (by omega)]; exact eq_true h
    refine zcl_in' zP_X6_byteAt ?_; rw [zn_2_2]
    (first | refine zat_in zP_X6_byteAt zk_X6_byteAt_0 ?_ | refine zat_in zP_X6_byteAt zk_X6_byteAt_21 ?_ | refine zat_in zP_X6_byteAt zk_X6_byteAt_22 ?_) <;> simp (disch := omega) only [b_X6_byteAt_0, b_X6_byteAt_21, b_X6_byteAt_22, zc_X6_byteAt_21, zc_X6_byteAt_22, zif, zdr, zkb, mK_wi, mN_wi, mJ_wi, mI_wi, sI_wi, beq_self_eq_true, Bool.true_or, Bool.or_true, Bool.or_false, Bool.and_self, Bool.and_true, Bool.true_and, ↓reduceIte, ble_up0, i_cl, i_succ, zix_of, zfl_k, zup_k, zup_q, w0, m22, mk22, mn22, e3, l]; repeat (first | exact ev_r | (refine ev_bk ?_; ((first | refine zat_in zP_X6_byteAt zk_X6_byteAt_0 ?_ | refine zat_in zP_X6_byteAt zk_X6_byteAt_21 ?_ | refine zat_in zP_X6_byteAt zk_X6_byteAt_22 ?_) <;> simp (disch := omega) only [b_X6_byteAt_0, b_X6_byteAt_21, b_X6_byteAt_22, zc_X6_byteAt_21, zc_X6_byteAt_22, zif, zdr, zkb, mK_wi, mN_wi, mJ_wi, mI_wi, sI_wi, beq_self_eq_true, Bool.true_or, Bool.or_true, Bool.or_false, Bool.and_self, Bool.and_true, Bool.true_and, ↓reduceIte, ble_up0, i_cl, i_succ, zix_of, zfl_k, zup_k, zup_q, w0, m22, mk22, mn22, e3, l])))
  · rw [if_neg h]
    have l : (Int32.ofNat n ≤ Int32.ofNat k) = False := by rw [i_le (by omega) (by omega)]; exact eq_false h
    refine zcl_in' zP_X6_byteAt ?_; rw [zn_2_2]
    (first | refine zat_in zP_X6_byteAt zk_X6_byteAt_0 ?_ | refine zat_in zP_X6_byteAt zk_X6_byteAt_21 ?_ | refine zat_in zP_X6_byteAt zk_X6_byteAt_22 ?_) <;> simp (disch := omega) only [b_X6_byteAt_0, b_X6_byteAt_21, b_X6_byteAt_22, zc_X6_byteAt_21, zc_X6_byteAt_22, zif, zdr, zkb, mK_wi, mN_wi, mJ_wi, mI_wi, sI_wi, beq_self_eq_true, Bool.true_or, Bool.or_true, Bool.or_false, Bool.and_self, Bool.and_true, Bool.true_and, ↓reduceIte, ble_up0, i_cl, i_succ, zix_of, zfl_k, zup_k, zup_q, w0, m22, mk22, mn22, e3, l, hb]; repeat (first | exact ev_r | (refine ev_bk ?_; ((first | refine zat_in zP_X6_byteAt zk_X6_byteAt_0 ?_ | refine zat_in zP_X6_byteAt zk_X6_byteAt_21 ?_ | refine zat_in zP_X6_byteAt zk_X6_byteAt_22 ?_) <;> simp (disch := omega) only [b_X6_byteAt_0, b_X6_byteAt_21, b_X6_byteAt_22, zc_X6_byteAt_21, zc_X6_byteAt_22, zif, zdr, zkb, mK_wi, mN_wi, mJ_wi, mI_wi, sI_wi, beq_self_eq_true, Bool.true_or, Bool.or_true, Bool.or_false, Bool.and_self, Bool.and_true, Bool.true_and, ↓reduceIte, ble_up0, i_cl, i_succ, zix_of, zfl_k, zup_k, zup_q, w0, m22, mk22, mn22, e3, l, hb])))
theorem sp_X1_isSmall : zCl E d 75 [zi c] (zwi S I) (Sum.inl (some (zi (sml c))), zwi S I) := by
  unfold sml
  refine zcl_in' zP_X1_isSmall ?_; rw [zn_1_1]
  refine zat_in zP_X1_isSmall zk_X1_isSmall_0 ?_
  simp only [b_X1_isSmall_0]
  refine ev_th _ (fun h => ?_) (fun h => ?_)
  · rw [if_pos h]
    refine ev_bk ?_
    refine zat_in zP_X1_isSmall zk_X1_isSmall_16 ?_; simp (disch := omega) only [b_X1_isSmall_16, zc_X1_isSmall_17, b_X1_isSmall_17, zif, zdr, zkb, mK_wi, mN_wi, mJ_wi, mI_wi, sI_wi, beq_self_eq_true, Bool.true_or, Bool.or_true, Bool.or_false, Bool.and_self, Bool.and_true, Bool.true_and, ↓reduceIte, z01]
    exact ev_r
  · rw [if_neg h]
    refine ev_th _ (fun h => ?_) (fun h => ?_)
    · rw [if_pos h]
      refine ev_bk ?_
      refine zat_in zP_X1_isSmall zk_X1_isSmall_16 ?_; simp (disch := omega) only [b_X1_isSmall_16, zc_X1_isSmall_17, b_X1_isSmall_17, zif, zdr, zkb, mK_wi, mN_wi, mJ_wi, mI_wi, sI_wi, beq_self_eq_true, Bool.true_or, Bool.or_true, Bool.or_false, Bool.and_self, Bool.and_true, Bool.true_and, ↓reduceIte, z01]
      exact ev_r
    · rw [if_neg h]
      refine ev_bk ?_
      refine zat_in zP_X1_isSmall zk_X1_isSmall_17 ?_; simp (disch := omega) only [b_X1_isSmall_17, zif, zdr, zkb, mK_wi, mN_wi, mJ_wi, mI_wi, sI_wi, beq_self_eq_true, Bool.true_or, Bool.or_true, Bool.or_false, Bool.and_self, Bool.and_true, Bool.true_and, ↓reduceIte, z01]
      exact ev_r
theorem sp_X6_isLetter : zCl E d 129 [zi c] (zwi S I) (Sum.inl (some (zi (sml c))), zwi S I) := by
  unfold sml
  refine zcl_in' zP_X6_isLetter ?_; rw [zn_1_1]
  refine zat_in zP_X6_isLetter zk_X6_isLetter_0 ?_
  simp only [b_X6_isLetter_0]
  refine ev_th _ (fun h => ?_) (fun h => ?_)
  · rw [if_pos h]
    refine ev_bk ?_
    refine zat_in zP_X6_isLetter zk_X6_isLetter_16 ?_; simp (disch := omega) only [b_X6_isLetter_16, zc_X6_isLetter_17, b_X6_isLetter_17, zif, zdr, zkb, mK_wi, mN_wi, mJ_wi, mI_wi, sI_wi, beq_self_eq_true, Bool.true_or, Bool.or_true, Bool.or_false, Bool.and_self, Bool.and_true, Bool.true_and, ↓reduceIte, z01]
    exact ev_r
  · rw [if_neg h]
    refine ev_th _ (fun h => ?_) (fun h => ?_)
    · rw [if_pos h]
      refine ev_bk ?_
      refine zat_in zP_X6_isLetter zk_X6_isLetter_16 ?_; simp (disch := omega) only [b_X6_isLetter_16, zc_X6_isLetter_17, b_X6_isLetter_17, zif, zdr, zkb, mK_wi, mN_wi, mJ_wi, mI_wi, sI_wi, beq_self_eq_true, Bool.true_or, Bool.or_true, Bool.or_false, Bool.and_self, Bool.and_true, Bool.true_and, ↓reduceIte, z01]
      exact ev_r
    · rw [if_neg h]
      refine ev_bk ?_
      refine zat_in zP_X6_isLetter zk_X6_isLetter_17 ?_; simp (disch := omega) only [b_X6_isLetter_17, zif, zdr, zkb, mK_wi, mN_wi, mJ_wi, mI_wi, sI_wi, beq_self_eq_true, Bool.true_or, Bool.or_true, Bool.or_false, Bool.and_self, Bool.and_true, Bool.true_and, ↓reduceIte, z01]
      exact ev_r
theorem sp_X1_isDigit : zCl E d 76 [zi c] (zwi S I) (Sum.inl (some (zi (dgt c))), zwi S I) := by
  unfold dgt
  refine zcl_in' zP_X1_isDigit ?_; rw [zn_1_1]
  refine zat_in zP_X1_isDigit zk_X1_isDigit_0 ?_
  simp only [b_X1_isDigit_0]
  refine ev_th _ (fun h => ?_) (fun h => ?_)
  · rw [if_pos h]
    refine ev_bk ?_
    refine zat_in zP_X1_isDigit zk_X1_isDigit_16 ?_; simp (disch := omega) only [b_X1_isDigit_16, zc_X1_isDigit_17, b_X1_isDigit_17, zif, zdr, zkb, mK_wi, mN_wi, mJ_wi, mI_wi, sI_wi, beq_self_eq_true, Bool.true_or, Bool.or_true, Bool.or_false, Bool.and_self, Bool.and_true, Bool.true_and, ↓reduceIte, z01]
    exact ev_r
  · rw [if_neg h]
    refine ev_th _ (fun h => ?_) (fun h => ?_)
    · rw [if_pos h]
      refine ev_bk ?_
      refine zat_in zP_X1_isDigit zk_X1_isDigit_16 ?_; simp (disch := omega) only [b_X1_isDigit_16, zc_X1_isDigit_17, b_X1_isDigit_17, zif, zdr, zkb, mK_wi, mN_wi, mJ_wi, mI_wi, sI_wi, beq_self_eq_true, Bool.true_or, Bool.or_true, Bool.or_false, Bool.and_self, Bool.and_true, Bool.true_and, ↓reduceIte, z01]
      exact ev_r
    · rw [if_neg h]
      refine ev_bk ?_
      refine zat_in zP_X1_isDigit zk_X1_isDigit_17 ?_; simp (disch := omega) only [b_X1_isDigit_17, zif, zdr, zkb, mK_wi, mN_wi, mJ_wi, mI_wi, sI_wi, beq_self_eq_true, Bool.true_or, Bool.or_true, Bool.or_false, Bool.and_self, Bool.and_true, Bool.true_and, ↓reduceIte, z01]
      exact ev_r
theorem sp_X6_isDigit : zCl E d 130 [zi c] (zwi S I) (Sum.inl (some (zi (dgt c))), zwi S I) := by
  unfold dgt
  refine zcl_in' zP_X6_isDigit ?_; rw [zn_1_1]
  refine zat_in zP_X6_isDigit zk_X6_isDigit_0 ?_
  simp only [b_X6_isDigit_0]
  refine ev_th _ (fun h => ?_) (fun h => ?_)
  · rw [if_pos h]
    refine ev_bk ?_
    refine zat_in zP_X6_isDigit zk_X6_isDigit_16 ?_; simp (disch := omega) only [b_X6_isDigit_16, zc_X6_isDigit_17, b_X6_isDigit_17, zif, zdr, zkb, mK_wi, mN_wi, mJ_wi, mI_wi, sI_wi, beq_self_eq_true, Bool.true_or, Bool.or_true, Bool.or_false, Bool.and_self, Bool.and_true, Bool.true_and, ↓reduceIte, z01]
    exact ev_r
  · rw [if_neg h]
    refine ev_th _ (fun h => ?_) (fun h => ?_)
    · rw [if_pos h]
      refine ev_bk ?_
      refine zat_in zP_X6_isDigit zk_X6_isDigit_16 ?_; simp (disch := omega) only [b_X6_isDigit_16, zc_X6_isDigit_17, b_X6_isDigit_17, zif, zdr, zkb, mK_wi, mN_wi, mJ_wi, mI_wi, sI_wi, beq_self_eq_true, Bool.true_or, Bool.or_true, Bool.or_false, Bool.and_self, Bool.and_true, Bool.true_and, ↓reduceIte, z01]
      exact ev_r
    · rw [if_neg h]
      refine ev_bk ?_
      refine zat_in zP_X6_isDigit zk_X6_isDigit_17 ?_; simp (disch := omega) only [b_X6_isDigit_17, zif, zdr, zkb, mK_wi, mN_wi, mJ_wi, mI_wi, sI_wi, beq_self_eq_true, Bool.true_or, Bool.or_true, Bool.or_false, Bool.and_self, Bool.and_true, Bool.true_and, ↓reduceIte, z01]
      exact ev_r
end
