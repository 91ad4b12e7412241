/-! ===== acts and names (model): printed by gen/wordsM.py ===== -/
set_option maxRecDepth 100000
theorem v_24 : val 24 = val 0 := by decide +kernel
theorem iw_124 {X : zTx} {e : Nat} : iw X e 24 = iw X e 0 := by unfold iw; rw [v_24]
theorem v_25 : val 25 = val 1 := by decide +kernel
theorem iw_125 {X : zTx} {e : Nat} : iw X e 25 = iw X e 1 := by unfold iw; rw [v_25]
theorem v_26 : val 26 = val 2 := by decide +kernel
theorem iw_126 {X : zTx} {e : Nat} : iw X e 26 = iw X e 2 := by unfold iw; rw [v_26]
theorem v_27 : val 27 = val 3 := by decide +kernel
theorem iw_127 {X : zTx} {e : Nat} : iw X e 27 = iw X e 3 := by unfold iw; rw [v_27]
theorem v_28 : val 28 = val 4 := by decide +kernel
theorem iw_128 {X : zTx} {e : Nat} : iw X e 28 = iw X e 4 := by unfold iw; rw [v_28]
theorem v_29 : val 29 = val 5 := by decide +kernel
theorem iw_129 {X : zTx} {e : Nat} : iw X e 29 = iw X e 5 := by unfold iw; rw [v_29]
theorem v_30 : val 30 = val 6 := by decide +kernel
theorem iw_130 {X : zTx} {e : Nat} : iw X e 30 = iw X e 6 := by unfold iw; rw [v_30]
theorem v_31 : val 31 = val 7 := by decide +kernel
theorem iw_131 {X : zTx} {e : Nat} : iw X e 31 = iw X e 7 := by unfold iw; rw [v_31]
theorem v_32 : val 32 = val 8 := by decide +kernel
theorem iw_132 {X : zTx} {e : Nat} : iw X e 32 = iw X e 8 := by unfold iw; rw [v_32]
theorem v_33 : val 33 = val 9 := by decide +kernel
theorem iw_133 {X : zTx} {e : Nat} : iw X e 33 = iw X e 9 := by unfold iw; rw [v_33]
theorem v_34 : val 34 = val 10 := by decide +kernel
theorem iw_134 {X : zTx} {e : Nat} : iw X e 34 = iw X e 10 := by unfold iw; rw [v_34]
theorem v_35 : val 35 = val 11 := by decide +kernel
theorem iw_135 {X : zTx} {e : Nat} : iw X e 35 = iw X e 11 := by unfold iw; rw [v_35]
theorem v_36 : val 36 = val 12 := by decide +kernel
theorem iw_136 {X : zTx} {e : Nat} : iw X e 36 = iw X e 12 := by unfold iw; rw [v_36]
theorem v_37 : val 37 = val 13 := by decide +kernel
theorem iw_137 {X : zTx} {e : Nat} : iw X e 37 = iw X e 13 := by unfold iw; rw [v_37]
theorem v_38 : val 38 = val 14 := by decide +kernel
theorem iw_138 {X : zTx} {e : Nat} : iw X e 38 = iw X e 14 := by unfold iw; rw [v_38]
theorem v_39 : val 39 = val 22 := by decide +kernel
theorem iw_139 {X : zTx} {e : Nat} : iw X e 39 = iw X e 22 := by unfold iw; rw [v_39]
theorem v_40 : val 40 = val 23 := by decide +kernel
theorem iw_140 {X : zTx} {e : Nat} : iw X e 40 = iw X e 23 := by unfold iw; rw [v_40]
theorem v_41 : val 41 = val 18 := by decide +kernel
theorem iw_141 {X : zTx} {e : Nat} : iw X e 41 = iw X e 18 := by unfold iw; rw [v_41]
theorem v_42 : val 42 = val 19 := by decide +kernel
theorem iw_142 {X : zTx} {e : Nat} : iw X e 42 = iw X e 19 := by unfold iw; rw [v_42]
theorem v_43 : val 43 = val 15 := by decide +kernel
theorem iw_143 {X : zTx} {e : Nat} : iw X e 43 = iw X e 15 := by unfold iw; rw [v_43]
theorem v_44 : val 44 = val 16 := by decide +kernel
theorem iw_144 {X : zTx} {e : Nat} : iw X e 44 = iw X e 16 := by unfold iw; rw [v_44]
theorem v_45 : val 45 = val 17 := by decide +kernel
theorem iw_145 {X : zTx} {e : Nat} : iw X e 45 = iw X e 17 := by unfold iw; rw [v_45]
section
variable {E : zE} {d w e : Nat} {S : zM} {g : Nat → Nat → Int64} {I : Nat → Nat → Int32} {X : zTx}
theorem sp_X6_actHere (hR : mRD E S g I w X e) : zCl E (d + 6) 134 [zr (some w)] (zwi (zwg S g) I) (Sum.inl (some (zi (pAc X e))), zwi (zwg S g) I) := by
  have w0 := hR.1.1.1
  have g53 : ∀ v : Int32, zAt E (d + 6) 134 53 [some (zr (some w))] [zi v] (zwi (zwg S g) I) (Sum.inl (some (zi v)), zwi (zwg S g) I) := by
    intro v
    refine zat_in zP_X6_actHere zk_X6_actHere_53 ?_; simp (disch := omega) only [b_X6_actHere_53, zif, zdr, zkb, mK_wi, mN_wi, mJ_wi, mI_wi, sI_wi, beq_self_eq_true, Bool.true_or, Bool.or_true, Bool.or_false, Bool.and_self, Bool.and_true, Bool.true_and, ↓reduceIte]
    exact ev_r
  have e52 := @b_X6_actHere_52
  unfold pAc wAct
  refine zcl_in' zP_X6_actHere ?_; rw [zn_1_1]
  by_cases hk : tK X e = 2
  · rw [if_pos hk]
    have cw := sp_X6_isWord (E := E) (d := d) hR (i := 24) (by decide)
    have e0 := @b_X6_actHere_0
    by_cases c24 : tV X e = val 24
    · rw [iw_1 ⟨hk, c24⟩] at cw
      rw [v_24] at c24
      rw [if_pos c24]
      refine zat_in zP_X6_actHere zk_X6_actHere_0 ?_
      simp (disch := omega) only [e0, zif, zdr, zkb, mK_wi, mN_wi, mJ_wi, mI_wi, sI_wi, beq_self_eq_true, Bool.true_or, Bool.or_true, Bool.or_false, Bool.and_self, Bool.and_true, Bool.true_and, ↓reduceIte, ble_up0, i_cl, i_succ, zix_of, zfl_k, zup_k, zup_q, w0, mK_wg]
      refine ev_ci cw ?_
      refine ev_th _ (fun h => absurd h (by decide)) (fun _ => ?_)
      exact ev_bk (g53 0)
    rw [iw_0 (fun q => c24 q.2)] at cw
    rw [v_24] at c24
    rw [if_neg c24]
    refine zat_in zP_X6_actHere zk_X6_actHere_0 ?_
    simp (disch := omega) only [e0, zif, zdr, zkb, mK_wi, mN_wi, mJ_wi, mI_wi, sI_wi, beq_self_eq_true, Bool.true_or, Bool.or_true, Bool.or_false, Bool.and_self, Bool.and_true, Bool.true_and, ↓reduceIte, ble_up0, i_cl, i_succ, zix_of, zfl_k, zup_k, zup_q, w0, mK_wg]
    refine ev_ci cw ?_
    refine ev_th _ (fun _ => ?_) (fun h => (h (by first | rfl | trivial)).elim)
    refine ev_bk ?_
    have cw := sp_X6_isWord (E := E) (d := d) hR (i := 25) (by decide)
    have e0 := @b_X6_actHere_13
    by_cases c25 : tV X e = val 25
    · rw [iw_1 ⟨hk, c25⟩] at cw
      rw [v_25] at c25
      rw [if_pos c25]
      refine zat_in zP_X6_actHere zk_X6_actHere_13 ?_
      simp (disch := omega) only [e0, zif, zdr, zkb, mK_wi, mN_wi, mJ_wi, mI_wi, sI_wi, beq_self_eq_true, Bool.true_or, Bool.or_true, Bool.or_false, Bool.and_self, Bool.and_true, Bool.true_and, ↓reduceIte, ble_up0, i_cl, i_succ, zix_of, zfl_k, zup_k, zup_q, w0, mK_wg]
      refine ev_ci cw ?_
      refine ev_th _ (fun h => absurd h (by decide)) (fun _ => ?_)
      exact ev_bk (g53 1)
    rw [iw_0 (fun q => c25 q.2)] at cw
    rw [v_25] at c25
    rw [if_neg c25]
    refine zat_in zP_X6_actHere zk_X6_actHere_13 ?_
    simp (disch := omega) only [e0, zif, zdr, zkb, mK_wi, mN_wi, mJ_wi, mI_wi, sI_wi, beq_self_eq_true, Bool.true_or, Bool.or_true, Bool.or_false, Bool.and_self, Bool.and_true, Bool.true_and, ↓reduceIte, ble_up0, i_cl, i_succ, zix_of, zfl_k, zup_k, zup_q, w0, mK_wg]
    refine ev_ci cw ?_
    refine ev_th _ (fun _ => ?_) (fun h => (h (by first | rfl | trivial)).elim)
    refine ev_bk ?_
    have cw := sp_X6_isWord (E := E) (d := d) hR (i := 26) (by decide)
    have e0 := @b_X6_actHere_26
    by_cases c26 : tV X e = val 26
    · rw [iw_1 ⟨hk, c26⟩] at cw
      rw [v_26] at c26
      rw [if_pos c26]
      refine zat_in zP_X6_actHere zk_X6_actHere_26 ?_
      simp (disch := omega) only [e0, zif, zdr, zkb, mK_wi, mN_wi, mJ_wi, mI_wi, sI_wi, beq_self_eq_true, Bool.true_or, Bool.or_true, Bool.or_false, Bool.and_self, Bool.and_true, Bool.true_and, ↓reduceIte, ble_up0, i_cl, i_succ, zix_of, zfl_k, zup_k, zup_q, w0, mK_wg]
      refine ev_ci cw ?_
      refine ev_th _ (fun h => absurd h (by decide)) (fun _ => ?_)
      exact ev_bk (g53 2)
    rw [iw_0 (fun q => c26 q.2)] at cw
    rw [v_26] at c26
    rw [if_neg c26]
    refine zat_in zP_X6_actHere zk_X6_actHere_26 ?_
    simp (disch := omega) only [e0, zif, zdr, zkb, mK_wi, mN_wi, mJ_wi, mI_wi, sI_wi, beq_self_eq_true, Bool.true_or, Bool.or_true, Bool.or_false, Bool.and_self, Bool.and_true, Bool.true_and, ↓reduceIte, ble_up0, i_cl, i_succ, zix_of, zfl_k, zup_k, zup_q, w0, mK_wg]
    refine ev_ci cw ?_
    refine ev_th _ (fun _ => ?_) (fun h => (h (by first | rfl | trivial)).elim)
    refine ev_bk ?_
    have cw := sp_X6_isWord (E := E) (d := d) hR (i := 27) (by decide)
    have e0 := @b_X6_actHere_39
    by_cases c27 : tV X e = val 27
    · rw [iw_1 ⟨hk, c27⟩] at cw
      rw [v_27] at c27
      rw [if_pos c27]
      refine zat_in zP_X6_actHere zk_X6_actHere_39 ?_
      simp (disch := omega) only [e0, zif, zdr, zkb, mK_wi, mN_wi, mJ_wi, mI_wi, sI_wi, beq_self_eq_true, Bool.true_or, Bool.or_true, Bool.or_false, Bool.and_self, Bool.and_true, Bool.true_and, ↓reduceIte, ble_up0, i_cl, i_succ, zix_of, zfl_k, zup_k, zup_q, w0, mK_wg]
      refine ev_ci cw ?_
      refine ev_th _ (fun h => absurd h (by decide)) (fun _ => ?_)
      exact ev_bk (g53 3)
    rw [iw_0 (fun q => c27 q.2)] at cw
    rw [v_27] at c27
    rw [if_neg c27]
    refine zat_in zP_X6_actHere zk_X6_actHere_39 ?_
    simp (disch := omega) only [e0, zif, zdr, zkb, mK_wi, mN_wi, mJ_wi, mI_wi, sI_wi, beq_self_eq_true, Bool.true_or, Bool.or_true, Bool.or_false, Bool.and_self, Bool.and_true, Bool.true_and, ↓reduceIte, ble_up0, i_cl, i_succ, zix_of, zfl_k, zup_k, zup_q, w0, mK_wg]
    refine ev_ci cw ?_
    refine ev_th _ (fun _ => ?_) (fun h => (h (by first | rfl | trivial)).elim)
    refine ev_bk ?_
    refine zat_in zP_X6_actHere zk_X6_actHere_52 ?_
    simp only [e52]
    exact ev_tl zP_X6_actHere zk_X6_actHere_53 (g53 (-1))
  · rw [if_neg hk]
    have cw := sp_X6_isWord (E := E) (d := d) hR (i := 24) (by decide)
    have e0 := @b_X6_actHere_0
    rw [iw_0 (fun q => hk q.1)] at cw
    refine zat_in zP_X6_actHere zk_X6_actHere_0 ?_
    simp (disch := omega) only [e0, zif, zdr, zkb, mK_wi, mN_wi, mJ_wi, mI_wi, sI_wi, beq_self_eq_true, Bool.true_or, Bool.or_true, Bool.or_false, Bool.and_self, Bool.and_true, Bool.true_and, ↓reduceIte, ble_up0, i_cl, i_succ, zix_of, zfl_k, zup_k, zup_q, w0, mK_wg]
    refine ev_ci cw ?_
    refine ev_th _ (fun _ => ?_) (fun h => (h (by first | rfl | trivial)).elim)
    refine ev_bk ?_
    have cw := sp_X6_isWord (E := E) (d := d) hR (i := 25) (by decide)
    have e0 := @b_X6_actHere_13
    rw [iw_0 (fun q => hk q.1)] at cw
    refine zat_in zP_X6_actHere zk_X6_actHere_13 ?_
    simp (disch := omega) only [e0, zif, zdr, zkb, mK_wi, mN_wi, mJ_wi, mI_wi, sI_wi, beq_self_eq_true, Bool.true_or, Bool.or_true, Bool.or_false, Bool.and_self, Bool.and_true, Bool.true_and, ↓reduceIte, ble_up0, i_cl, i_succ, zix_of, zfl_k, zup_k, zup_q, w0, mK_wg]
    refine ev_ci cw ?_
    refine ev_th _ (fun _ => ?_) (fun h => (h (by first | rfl | trivial)).elim)
    refine ev_bk ?_
    have cw := sp_X6_isWord (E := E) (d := d) hR (i := 26) (by decide)
    have e0 := @b_X6_actHere_26
    rw [iw_0 (fun q => hk q.1)] at cw
    refine zat_in zP_X6_actHere zk_X6_actHere_26 ?_
    simp (disch := omega) only [e0, zif, zdr, zkb, mK_wi, mN_wi, mJ_wi, mI_wi, sI_wi, beq_self_eq_true, Bool.true_or, Bool.or_true, Bool.or_false, Bool.and_self, Bool.and_true, Bool.true_and, ↓reduceIte, ble_up0, i_cl, i_succ, zix_of, zfl_k, zup_k, zup_q, w0, mK_wg]
    refine ev_ci cw ?_
    refine ev_th _ (fun _ => ?_) (fun h => (h (by first | rfl | trivial)).elim)
    refine ev_bk ?_
    have cw := sp_X6_isWord (E := E) (d := d) hR (i := 27) (by decide)
    have e0 := @b_X6_actHere_39
    rw [iw_0 (fun q => hk q.1)] at cw
    refine zat_in zP_X6_actHere zk_X6_actHere_39 ?_
    simp (disch := omega) only [e0, zif, zdr, zkb, mK_wi, mN_wi, mJ_wi, mI_wi, sI_wi, beq_self_eq_true, Bool.true_or, Bool.or_true, Bool.or_false, Bool.and_self, Bool.and_true, Bool.true_and, ↓reduceIte, ble_up0, i_cl, i_succ, zix_of, zfl_k, zup_k, zup_q, w0, mK_wg]
    refine ev_ci cw ?_
    refine ev_th _ (fun _ => ?_) (fun h => (h (by first | rfl | trivial)).elim)
    refine ev_bk ?_
    refine zat_in zP_X6_actHere zk_X6_actHere_52 ?_
    simp only [e52]
    exact ev_tl zP_X6_actHere zk_X6_actHere_53 (g53 (-1))
theorem sp_X6_nameHere (hR : mRD E S g I w X e) (hk : tK X e = 2) : zCl E (d + 6) 137 [zr (some w)] (zwi (zwg S g) I) (Sum.inl (some (zi (wNam (tV X e)))), zwi (zwg S g) I) := by
  have w0 := hR.1.1.1
  have e66 := @b_X6_nameHere_66
  have g66 : ∀ v : Int32, v ≠ -1 → zAt E (d + 6) 137 66 [some (zr (some w)), none] [zi v] (zwi (zwg S g) I) (Sum.inl (some (zi v)), zwi (zwg S g) I) := by
    intro v hv
    refine zat_in zP_X6_nameHere zk_X6_nameHere_66 ?_
    simp only [e66]
    exact ev_th _ (fun h => absurd h hv) (fun _ => ev_r)
  have g158 : ∀ v : Int32, zAt E (d + 6) 137 158 [some (zr (some w)), some (zi (-1))] [zi v] (zwi (zwg S g) I) (Sum.inl (some (zi v)), zwi (zwg S g) I) := by
    intro v
    refine zat_in zP_X6_nameHere zk_X6_nameHere_158 ?_; simp (disch := omega) only [b_X6_nameHere_158, zif, zdr, zkb, mK_wi, mN_wi, mJ_wi, mI_wi, sI_wi, beq_self_eq_true, Bool.true_or, Bool.or_true, Bool.or_false, Bool.and_self, Bool.and_true, Bool.true_and, ↓reduceIte]
    exact ev_r
  have e65 := @b_X6_nameHere_65
  have e157 := @b_X6_nameHere_157
  unfold wNam
  refine zcl_in' zP_X6_nameHere ?_; rw [zn_1_2]
  have cw := sp_X6_isWord (E := E) (d := d) hR (i := 28) (by decide)
  have e0 := @b_X6_nameHere_0
  by_cases c28 : tV X e = val 28
  · rw [iw_1 ⟨hk, c28⟩] at cw
    rw [v_28] at c28
    rw [if_pos c28]
    refine zat_in zP_X6_nameHere zk_X6_nameHere_0 ?_
    simp (disch := omega) only [e0, zif, zdr, zkb, mK_wi, mN_wi, mJ_wi, mI_wi, sI_wi, beq_self_eq_true, Bool.true_or, Bool.or_true, Bool.or_false, Bool.and_self, Bool.and_true, Bool.true_and, ↓reduceIte, ble_up0, i_cl, i_succ, zix_of, zfl_k, zup_k, zup_q, w0, mK_wg]
    refine ev_ci cw ?_
    refine ev_th _ (fun h => absurd h (by decide)) (fun _ => ?_)
    exact ev_bk (g66 0 (by decide))
  rw [iw_0 (fun q => c28 q.2)] at cw
  rw [v_28] at c28
  rw [if_neg c28]
  refine zat_in zP_X6_nameHere zk_X6_nameHere_0 ?_
  simp (disch := omega) only [e0, zif, zdr, zkb, mK_wi, mN_wi, mJ_wi, mI_wi, sI_wi, beq_self_eq_true, Bool.true_or, Bool.or_true, Bool.or_false, Bool.and_self, Bool.and_true, Bool.true_and, ↓reduceIte, ble_up0, i_cl, i_succ, zix_of, zfl_k, zup_k, zup_q, w0, mK_wg]
  refine ev_ci cw ?_
  refine ev_th _ (fun _ => ?_) (fun h => (h (by first | rfl | trivial)).elim)
  refine ev_bk ?_
  have cw := sp_X6_isWord (E := E) (d := d) hR (i := 29) (by decide)
  have e0 := @b_X6_nameHere_13
  by_cases c29 : tV X e = val 29
  · rw [iw_1 ⟨hk, c29⟩] at cw
    rw [v_29] at c29
    rw [if_pos c29]
    refine zat_in zP_X6_nameHere zk_X6_nameHere_13 ?_
    simp (disch := omega) only [e0, zif, zdr, zkb, mK_wi, mN_wi, mJ_wi, mI_wi, sI_wi, beq_self_eq_true, Bool.true_or, Bool.or_true, Bool.or_false, Bool.and_self, Bool.and_true, Bool.true_and, ↓reduceIte, ble_up0, i_cl, i_succ, zix_of, zfl_k, zup_k, zup_q, w0, mK_wg]
    refine ev_ci cw ?_
    refine ev_th _ (fun h => absurd h (by decide)) (fun _ => ?_)
    exact ev_bk (g66 1 (by decide))
  rw [iw_0 (fun q => c29 q.2)] at cw
  rw [v_29] at c29
  rw [if_neg c29]
  refine zat_in zP_X6_nameHere zk_X6_nameHere_13 ?_
  simp (disch := omega) only [e0, zif, zdr, zkb, mK_wi, mN_wi, mJ_wi, mI_wi, sI_wi, beq_self_eq_true, Bool.true_or, Bool.or_true, Bool.or_false, Bool.and_self, Bool.and_true, Bool.true_and, ↓reduceIte, ble_up0, i_cl, i_succ, zix_of, zfl_k, zup_k, zup_q, w0, mK_wg]
  refine ev_ci cw ?_
  refine ev_th _ (fun _ => ?_) (fun h => (h (by first | rfl | trivial)).elim)
  refine ev_bk ?_
  have cw := sp_X6_isWord (E := E) (d := d) hR (i := 30) (by decide)
  have e0 := @b_X6_nameHere_26
  by_cases c30 : tV X e = val 30
  · rw [iw_1 ⟨hk, c30⟩] at cw
    rw [v_30] at c30
    rw [if_pos c30]
    refine zat_in zP_X6_nameHere zk_X6_nameHere_26 ?_
    simp (disch := omega) only [e0, zif, zdr, zkb, mK_wi, mN_wi, mJ_wi, mI_wi, sI_wi, beq_self_eq_true, Bool.true_or, Bool.or_true, Bool.or_false, Bool.and_self, Bool.and_true, Bool.true_and, ↓reduceIte, ble_up0, i_cl, i_succ, zix_of, zfl_k, zup_k, zup_q, w0, mK_wg]
    refine ev_ci cw ?_
    refine ev_th _ (fun h => absurd h (by decide)) (fun _ => ?_)
    exact ev_bk (g66 2 (by decide))
  rw [iw_0 (fun q => c30 q.2)] at cw
  rw [v_30] at c30
  rw [if_neg c30]
  refine zat_in zP_X6_nameHere zk_X6_nameHere_26 ?_
  simp (disch := omega) only [e0, zif, zdr, zkb, mK_wi, mN_wi, mJ_wi, mI_wi, sI_wi, beq_self_eq_true, Bool.true_or, Bool.or_true, Bool.or_false, Bool.and_self, Bool.and_true, Bool.true_and, ↓reduceIte, ble_up0, i_cl, i_succ, zix_of, zfl_k, zup_k, zup_q, w0, mK_wg]
  refine ev_ci cw ?_
  refine ev_th _ (fun _ => ?_) (fun h => (h (by first | rfl | trivial)).elim)
  refine ev_bk ?_
  have cw := sp_X6_isWord (E := E) (d := d) hR (i := 31) (by decide)
  have e0 := @b_X6_nameHere_39
  by_cases c31 : tV X e = val 31
  · rw [iw_1 ⟨hk, c31⟩] at cw
    rw [v_31] at c31
    rw [if_pos c31]
    refine zat_in zP_X6_nameHere zk_X6_nameHere_39 ?_
    simp (disch := omega) only [e0, zif, zdr, zkb, mK_wi, mN_wi, mJ_wi, mI_wi, sI_wi, beq_self_eq_true, Bool.true_or, Bool.or_true, Bool.or_false, Bool.and_self, Bool.and_true, Bool.true_and, ↓reduceIte, ble_up0, i_cl, i_succ, zix_of, zfl_k, zup_k, zup_q, w0, mK_wg]
    refine ev_ci cw ?_
    refine ev_th _ (fun h => absurd h (by decide)) (fun _ => ?_)
    exact ev_bk (g66 3 (by decide))
  rw [iw_0 (fun q => c31 q.2)] at cw
  rw [v_31] at c31
  rw [if_neg c31]
  refine zat_in zP_X6_nameHere zk_X6_nameHere_39 ?_
  simp (disch := omega) only [e0, zif, zdr, zkb, mK_wi, mN_wi, mJ_wi, mI_wi, sI_wi, beq_self_eq_true, Bool.true_or, Bool.or_true, Bool.or_false, Bool.and_self, Bool.and_true, Bool.true_and, ↓reduceIte, ble_up0, i_cl, i_succ, zix_of, zfl_k, zup_k, zup_q, w0, mK_wg]
  refine ev_ci cw ?_
  refine ev_th _ (fun _ => ?_) (fun h => (h (by first | rfl | trivial)).elim)
  refine ev_bk ?_
  have cw := sp_X6_isWord (E := E) (d := d) hR (i := 32) (by decide)
  have e0 := @b_X6_nameHere_52
  by_cases c32 : tV X e = val 32
  · rw [iw_1 ⟨hk, c32⟩] at cw
    rw [v_32] at c32
    rw [if_pos c32]
    refine zat_in zP_X6_nameHere zk_X6_nameHere_52 ?_
    simp (disch := omega) only [e0, zif, zdr, zkb, mK_wi, mN_wi, mJ_wi, mI_wi, sI_wi, beq_self_eq_true, Bool.true_or, Bool.or_true, Bool.or_false, Bool.and_self, Bool.and_true, Bool.true_and, ↓reduceIte, ble_up0, i_cl, i_succ, zix_of, zfl_k, zup_k, zup_q, w0, mK_wg]
    refine ev_ci cw ?_
    refine ev_th _ (fun h => absurd h (by decide)) (fun _ => ?_)
    exact ev_bk (g66 4 (by decide))
  rw [iw_0 (fun q => c32 q.2)] at cw
  rw [v_32] at c32
  rw [if_neg c32]
  refine zat_in zP_X6_nameHere zk_X6_nameHere_52 ?_
  simp (disch := omega) only [e0, zif, zdr, zkb, mK_wi, mN_wi, mJ_wi, mI_wi, sI_wi, beq_self_eq_true, Bool.true_or, Bool.or_true, Bool.or_false, Bool.and_self, Bool.and_true, Bool.true_and, ↓reduceIte, ble_up0, i_cl, i_succ, zix_of, zfl_k, zup_k, zup_q, w0, mK_wg]
  refine ev_ci cw ?_
  refine ev_th _ (fun _ => ?_) (fun h => (h (by first | rfl | trivial)).elim)
  refine ev_bk ?_
  refine zat_in zP_X6_nameHere zk_X6_nameHere_65 ?_
  simp only [e65]
  refine ev_tl zP_X6_nameHere zk_X6_nameHere_66 ?_
  refine zat_in zP_X6_nameHere zk_X6_nameHere_66 ?_
  simp only [e66]
  refine ev_th _ (fun _ => ?_) (fun h => (h (by first | rfl | trivial)).elim)
  refine ev_bk ?_
  have cw := sp_X6_isWord (E := E) (d := d) hR (i := 33) (by decide)
  have e0 := @b_X6_nameHere_74
  by_cases c33 : tV X e = val 33
  · rw [iw_1 ⟨hk, c33⟩] at cw
    rw [v_33] at c33
    rw [if_pos c33]
    refine zat_in zP_X6_nameHere zk_X6_nameHere_74 ?_
    simp (disch := omega) only [e0, zif, zdr, zkb, mK_wi, mN_wi, mJ_wi, mI_wi, sI_wi, beq_self_eq_true, Bool.true_or, Bool.or_true, Bool.or_false, Bool.and_self, Bool.and_true, Bool.true_and, ↓reduceIte, ble_up0, i_cl, i_succ, zix_of, zfl_k, zup_k, zup_q, w0, mK_wg]
    refine ev_ci cw ?_
    refine ev_th _ (fun h => absurd h (by decide)) (fun _ => ?_)
    exact ev_bk (g158 5)
  rw [iw_0 (fun q => c33 q.2)] at cw
  rw [v_33] at c33
  rw [if_neg c33]
  refine zat_in zP_X6_nameHere zk_X6_nameHere_74 ?_
  simp (disch := omega) only [e0, zif, zdr, zkb, mK_wi, mN_wi, mJ_wi, mI_wi, sI_wi, beq_self_eq_true, Bool.true_or, Bool.or_true, Bool.or_false, Bool.and_self, Bool.and_true, Bool.true_and, ↓reduceIte, ble_up0, i_cl, i_succ, zix_of, zfl_k, zup_k, zup_q, w0, mK_wg]
  refine ev_ci cw ?_
  refine ev_th _ (fun _ => ?_) (fun h => (h (by first | rfl | trivial)).elim)
  refine ev_bk ?_
  have cw := sp_X6_isWord (E := E) (d := d) hR (i := 34) (by decide)
  have e0 := @b_X6_nameHere_87
  by_cases c34 : tV X e = val 34
  · rw [iw_1 ⟨hk, c34⟩] at cw
    rw [v_34] at c34
    rw [if_pos c34]
    refine zat_in zP_X6_nameHere zk_X6_nameHere_87 ?_
    simp (disch := omega) only [e0, zif, zdr, zkb, mK_wi, mN_wi, mJ_wi, mI_wi, sI_wi, beq_self_eq_true, Bool.true_or, Bool.or_true, Bool.or_false, Bool.and_self, Bool.and_true, Bool.true_and, ↓reduceIte, ble_up0, i_cl, i_succ, zix_of, zfl_k, zup_k, zup_q, w0, mK_wg]
    refine ev_ci cw ?_
    refine ev_th _ (fun h => absurd h (by decide)) (fun _ => ?_)
    exact ev_bk (g158 6)
  rw [iw_0 (fun q => c34 q.2)] at cw
  rw [v_34] at c34
  rw [if_neg c34]
  refine zat_in zP_X6_nameHere zk_X6_nameHere_87 ?_
  simp (disch := omega) only [e0, zif, zdr, zkb, mK_wi, mN_wi, mJ_wi, mI_wi, sI_wi, beq_self_eq_true, Bool.true_or, Bool.or_true, Bool.or_false, Bool.and_self, Bool.and_true, Bool.true_and, ↓reduceIte, ble_up0, i_cl, i_succ, zix_of, zfl_k, zup_k, zup_q, w0, mK_wg]
  refine ev_ci cw ?_
  refine ev_th _ (fun _ => ?_) (fun h => (h (by first | rfl | trivial)).elim)
  refine ev_bk ?_
  have cw := sp_X6_isWord (E := E) (d := d) hR (i := 35) (by decide)
  have e0 := @b_X6_nameHere_101
  by_cases c35 : tV X e = val 35
  · rw [iw_1 ⟨hk, c35⟩] at cw
    rw [v_35] at c35
    rw [if_pos c35]
    refine zat_in zP_X6_nameHere zk_X6_nameHere_101 ?_
    simp (disch := omega) only [e0, zif, zdr, zkb, mK_wi, mN_wi, mJ_wi, mI_wi, sI_wi, beq_self_eq_true, Bool.true_or, Bool.or_true, Bool.or_false, Bool.and_self, Bool.and_true, Bool.true_and, ↓reduceIte, ble_up0, i_cl, i_succ, zix_of, zfl_k, zup_k, zup_q, w0, mK_wg]
    refine ev_ci cw ?_
    refine ev_th _ (fun h => absurd h (by decide)) (fun _ => ?_)
    exact ev_bk (g158 7)
  rw [iw_0 (fun q => c35 q.2)] at cw
  rw [v_35] at c35
  rw [if_neg c35]
  refine zat_in zP_X6_nameHere zk_X6_nameHere_101 ?_
  simp (disch := omega) only [e0, zif, zdr, zkb, mK_wi, mN_wi, mJ_wi, mI_wi, sI_wi, beq_self_eq_true, Bool.true_or, Bool.or_true, Bool.or_false, Bool.and_self, Bool.and_true, Bool.true_and, ↓reduceIte, ble_up0, i_cl, i_succ, zix_of, zfl_k, zup_k, zup_q, w0, mK_wg]
  refine ev_ci cw ?_
  refine ev_th _ (fun _ => ?_) (fun h => (h (by first | rfl | trivial)).elim)
  refine ev_bk ?_
  have cw := sp_X6_isWord (E := E) (d := d) hR (i := 36) (by decide)
  have e0 := @b_X6_nameHere_115
  by_cases c36 : tV X e = val 36
  · rw [iw_1 ⟨hk, c36⟩] at cw
    rw [v_36] at c36
    rw [if_pos c36]
    refine zat_in zP_X6_nameHere zk_X6_nameHere_115 ?_
    simp (disch := omega) only [e0, zif, zdr, zkb, mK_wi, mN_wi, mJ_wi, mI_wi, sI_wi, beq_self_eq_true, Bool.true_or, Bool.or_true, Bool.or_false, Bool.and_self, Bool.and_true, Bool.true_and, ↓reduceIte, ble_up0, i_cl, i_succ, zix_of, zfl_k, zup_k, zup_q, w0, mK_wg]
    refine ev_ci cw ?_
    refine ev_th _ (fun h => absurd h (by decide)) (fun _ => ?_)
    exact ev_bk (g158 8)
  rw [iw_0 (fun q => c36 q.2)] at cw
  rw [v_36] at c36
  rw [if_neg c36]
  refine zat_in zP_X6_nameHere zk_X6_nameHere_115 ?_
  simp (disch := omega) only [e0, zif, zdr, zkb, mK_wi, mN_wi, mJ_wi, mI_wi, sI_wi, beq_self_eq_true, Bool.true_or, Bool.or_true, Bool.or_false, Bool.and_self, Bool.and_true, Bool.true_and, ↓reduceIte, ble_up0, i_cl, i_succ, zix_of, zfl_k, zup_k, zup_q, w0, mK_wg]
  refine ev_ci cw ?_
  refine ev_th _ (fun _ => ?_) (fun h => (h (by first | rfl | trivial)).elim)
  refine ev_bk ?_
  have cw := sp_X6_isWord (E := E) (d := d) hR (i := 37) (by decide)
  have e0 := @b_X6_nameHere_129
  by_cases c37 : tV X e = val 37
  · rw [iw_1 ⟨hk, c37⟩] at cw
    rw [v_37] at c37
    rw [if_pos c37]
    refine zat_in zP_X6_nameHere zk_X6_nameHere_129 ?_
    simp (disch := omega) only [e0, zif, zdr, zkb, mK_wi, mN_wi, mJ_wi, mI_wi, sI_wi, beq_self_eq_true, Bool.true_or, Bool.or_true, Bool.or_false, Bool.and_self, Bool.and_true, Bool.true_and, ↓reduceIte, ble_up0, i_cl, i_succ, zix_of, zfl_k, zup_k, zup_q, w0, mK_wg]
    refine ev_ci cw ?_
    refine ev_th _ (fun h => absurd h (by decide)) (fun _ => ?_)
    exact ev_bk (g158 9)
  rw [iw_0 (fun q => c37 q.2)] at cw
  rw [v_37] at c37
  rw [if_neg c37]
  refine zat_in zP_X6_nameHere zk_X6_nameHere_129 ?_
  simp (disch := omega) only [e0, zif, zdr, zkb, mK_wi, mN_wi, mJ_wi, mI_wi, sI_wi, beq_self_eq_true, Bool.true_or, Bool.or_true, Bool.or_false, Bool.and_self, Bool.and_true, Bool.true_and, ↓reduceIte, ble_up0, i_cl, i_succ, zix_of, zfl_k, zup_k, zup_q, w0, mK_wg]
  refine ev_ci cw ?_
  refine ev_th _ (fun _ => ?_) (fun h => (h (by first | rfl | trivial)).elim)
  refine ev_bk ?_
  have cw := sp_X6_isWord (E := E) (d := d) hR (i := 38) (by decide)
  have e0 := @b_X6_nameHere_143
  by_cases c38 : tV X e = val 38
  · rw [iw_1 ⟨hk, c38⟩] at cw
    rw [v_38] at c38
    rw [if_pos c38]
    refine zat_in zP_X6_nameHere zk_X6_nameHere_143 ?_
    simp (disch := omega) only [e0, zif, zdr, zkb, mK_wi, mN_wi, mJ_wi, mI_wi, sI_wi, beq_self_eq_true, Bool.true_or, Bool.or_true, Bool.or_false, Bool.and_self, Bool.and_true, Bool.true_and, ↓reduceIte, ble_up0, i_cl, i_succ, zix_of, zfl_k, zup_k, zup_q, w0, mK_wg]
    refine ev_ci cw ?_
    refine ev_th _ (fun h => absurd h (by decide)) (fun _ => ?_)
    exact ev_bk (g158 10)
  rw [iw_0 (fun q => c38 q.2)] at cw
  rw [v_38] at c38
  rw [if_neg c38]
  refine zat_in zP_X6_nameHere zk_X6_nameHere_143 ?_
  simp (disch := omega) only [e0, zif, zdr, zkb, mK_wi, mN_wi, mJ_wi, mI_wi, sI_wi, beq_self_eq_true, Bool.true_or, Bool.or_true, Bool.or_false, Bool.and_self, Bool.and_true, Bool.true_and, ↓reduceIte, ble_up0, i_cl, i_succ, zix_of, zfl_k, zup_k, zup_q, w0, mK_wg]
  refine ev_ci cw ?_
  refine ev_th _ (fun _ => ?_) (fun h => (h (by first | rfl | trivial)).elim)
  refine ev_bk ?_
  refine zat_in zP_X6_nameHere zk_X6_nameHere_157 ?_
  simp only [e157]
  exact ev_tl zP_X6_nameHere zk_X6_nameHere_158 (g158 (-1))
end
