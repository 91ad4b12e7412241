/-! ===== acts and names: printed by gen/words.py ===== -/
set_option maxRecDepth 100000
section
variable {E : zE} {d B e w : Nat} {S : zM} {I : Nat → Nat → Int32} {g : Nat → Nat → Int64} {X : zTx}
theorem g_X0_actOf_0 {s : Nat} {M : zM} : zAt E d 39 105 [some (zr (some s)), some (zr (some s)), some (zi 0)] [] M (Sum.inl (some (zi 0)), M) := by
  have e0 := @b_X0_actOf_105
  refine zat_in zP_X0_actOf zk_X0_actOf_105 ?_
  simp only [e0]
  refine ev_th _ (fun _ => ?_) (fun h => (h (by first | rfl | trivial)).elim)
  refine ev_bk ?_
  refine zat_in zP_X0_actOf zk_X0_actOf_136 ?_; simp (disch := omega) only [b_X0_actOf_136, zif, zdr, zkb, mK_wi, mN_wi, mJ_wi, mI_wi, sI_wi, beq_self_eq_true, Bool.true_or, Bool.or_true, Bool.or_false, Bool.and_self, Bool.and_true, Bool.true_and, ↓reduceIte]
  exact ev_r
theorem g_X0_actOf_1 {s : Nat} {M : zM} : zAt E d 39 105 [some (zr (some s)), some (zr (some s)), some (zi 1)] [] M (Sum.inl (some (zi 1)), M) := by
  have e0 := @b_X0_actOf_105
  refine zat_in zP_X0_actOf zk_X0_actOf_105 ?_
  simp only [e0]
  refine ev_th _ (fun h => absurd h (by decide)) (fun _ => ?_)
  refine ev_th _ (fun _ => ?_) (fun h => (h (by first | rfl | trivial)).elim)
  refine ev_bk ?_
  refine zat_in zP_X0_actOf zk_X0_actOf_138 ?_; simp (disch := omega) only [b_X0_actOf_138, zif, zdr, zkb, mK_wi, mN_wi, mJ_wi, mI_wi, sI_wi, beq_self_eq_true, Bool.true_or, Bool.or_true, Bool.or_false, Bool.and_self, Bool.and_true, Bool.true_and, ↓reduceIte]
  exact ev_r
theorem g_X0_actOf_2 {s : Nat} {M : zM} : zAt E d 39 105 [some (zr (some s)), some (zr (some s)), some (zi 2)] [] M (Sum.inl (some (zi 2)), M) := by
  have e0 := @b_X0_actOf_105
  refine zat_in zP_X0_actOf zk_X0_actOf_105 ?_
  simp only [e0]
  refine ev_th _ (fun h => absurd h (by decide)) (fun _ => ?_)
  refine ev_th _ (fun h => absurd h (by decide)) (fun _ => ?_)
  refine ev_th _ (fun _ => ?_) (fun h => (h (by first | rfl | trivial)).elim)
  refine ev_bk ?_
  refine zat_in zP_X0_actOf zk_X0_actOf_140 ?_; simp (disch := omega) only [b_X0_actOf_140, zif, zdr, zkb, mK_wi, mN_wi, mJ_wi, mI_wi, sI_wi, beq_self_eq_true, Bool.true_or, Bool.or_true, Bool.or_false, Bool.and_self, Bool.and_true, Bool.true_and, ↓reduceIte]
  exact ev_r
theorem g_X0_actOf_3 {s : Nat} {M : zM} : zAt E d 39 105 [some (zr (some s)), some (zr (some s)), some (zi 3)] [] M (Sum.inl (some (zi 3)), M) := by
  have e0 := @b_X0_actOf_105
  refine zat_in zP_X0_actOf zk_X0_actOf_105 ?_
  simp only [e0]
  refine ev_th _ (fun h => absurd h (by decide)) (fun _ => ?_)
  refine ev_th _ (fun h => absurd h (by decide)) (fun _ => ?_)
  refine ev_th _ (fun h => absurd h (by decide)) (fun _ => ?_)
  refine ev_th _ (fun _ => ?_) (fun h => (h (by first | rfl | trivial)).elim)
  refine ev_bk ?_
  refine zat_in zP_X0_actOf zk_X0_actOf_142 ?_; simp (disch := omega) only [b_X0_actOf_142, zif, zdr, zkb, mK_wi, mN_wi, mJ_wi, mI_wi, sI_wi, beq_self_eq_true, Bool.true_or, Bool.or_true, Bool.or_false, Bool.and_self, Bool.and_true, Bool.true_and, ↓reduceIte]
  exact ev_r
theorem g_X0_actOf_n {s : Nat} {M : zM} : zAt E d 39 105 [some (zr (some s)), some (zr (some s)), some (zi (-1))] [] M (Sum.inl (some (zi (-1))), M) := by
  have e0 := @b_X0_actOf_105
  refine zat_in zP_X0_actOf zk_X0_actOf_105 ?_
  simp only [e0]
  refine ev_th _ (fun h => absurd h (by decide)) (fun _ => ?_)
  refine ev_th _ (fun h => absurd h (by decide)) (fun _ => ?_)
  refine ev_th _ (fun h => absurd h (by decide)) (fun _ => ?_)
  refine ev_th _ (fun h => absurd h (by decide)) (fun _ => ?_)
  refine ev_bk ?_
  refine zat_in zP_X0_actOf zk_X0_actOf_144 ?_; simp (disch := omega) only [b_X0_actOf_144, zif, zdr, zkb, mK_wi, mN_wi, mJ_wi, mI_wi, sI_wi, beq_self_eq_true, Bool.true_or, Bool.or_true, Bool.or_false, Bool.and_self, Bool.and_true, Bool.true_and, ↓reduceIte]
  exact ev_r
theorem sp_X0_actOf (hB : E.1 ≤ B) (hR : xRD E S I B X e) (hk : tK X e = 2) : ∃ s I', mJ S (B + 2) 8 = some s ∧ mK S s = 17 ∧ zCl E (d + 4) 39 [zr (some s)] (zwi S I) (Sum.inl (some (zi (wAct (tV X e)))), zwi S I') ∧ xRD E S I' B X e ∧ rFr B (mS S) 0 0 S S I I' := by
  obtain ⟨s, sb, w1, w2, w3, w4, w5, w6⟩ := hR.2.2.1.2.2.2.2.2 hk
  obtain ⟨l8, l1⟩ := tL_8 hk
  have ks := w5.1
  obtain ⟨I1, a1, x1, h1, f1⟩ := sp_J3_hashCode (E := E) (d := d) (by omega) (by omega) w5 (by omega) w6 (by omega) l1
  have hf : rFr B (mS S) 0 0 S S I I1 := ⟨⟨Nat.le_refl _, by omega, by omega⟩, fun _ _ => ⟨rfl, rfl⟩, fun _ _ _ _ => rfl, fun a k _ _ q => f1 a k (fun z => absurd (q (by rw [z]; exact ks)) (by omega)), hR.2.2.2.2.1⟩
  have hR1 : xRD E S I1 B X e := hR.hs w1 w2 w3 w4 x1 h1 f1
  refine ⟨s, I1, w1, ks, ?_, hR1, hf⟩
  have ce : ∀ i, i < 47 → zCl E (d + 3) 9 [zr (some s), zr (some (E.2.1 i))] (zwi S I1) (Sum.inl (some (zi (if tV X e = val i then 1 else 0))), zwi S I1) := fun i hi => hR1.eq (d := d + 2) hk hi w1
  refine zcl_in' zP_X0_actOf ?_; rw [zn_1_3]
  refine zat_in zP_X0_actOf zk_X0_actOf_0 ?_
  simp (maxSteps := 2000000) (disch := omega) only [b_X0_actOf_0, zif, zdr, zkb, mK_wi, mN_wi, mJ_wi, mI_wi, sI_wi, beq_self_eq_true, Bool.true_or, Bool.or_true, Bool.or_false, Bool.and_self, Bool.and_true, Bool.true_and, ↓reduceIte, ble_up0, i_cl, i_succ, zix_of, zfl_k, zup_k, zup_q, ks]
  by_cases c0 : tV X e = val 0
  · obtain ⟨q1, q2⟩ := (isw_i hk (i := 0) (by decide)).1 c0
    have hh : hsh (tW X e) (tL X e) = 3304 := by
      rw [hsh_eq (tL X e) q2, q1]
      decide +kernel
    have hv : wAct (tV X e) = 0 := by
      rw [c0]
      decide +kernel
    have ce := ce 0 (by decide)
    rw [if_pos c0] at ce
    rw [hh] at a1
    rw [hv]
    refine ev_ci a1 ?_
    refine ev_th _ (fun _ => ?_) (fun h => (h (by first | rfl | trivial)).elim)
    refine ev_bk ?_
    refine zat_in zP_X0_actOf zk_X0_actOf_52 ?_
    simp (disch := omega) only [b_X0_actOf_52, zif, zdr, zkb, mK_wi, mN_wi, mJ_wi, mI_wi, sI_wi, beq_self_eq_true, Bool.true_or, Bool.or_true, Bool.or_false, Bool.and_self, Bool.and_true, Bool.true_and, ↓reduceIte, ble_up0, i_cl, i_succ, zix_of, zfl_k, zup_k, zup_q, ks]
    refine ev_ci ce ?_
    refine ev_th _ (fun h => absurd h (by decide)) (fun _ => ?_)
    exact ev_bk g_X0_actOf_0
  by_cases c1 : tV X e = val 1
  · obtain ⟨q1, q2⟩ := (isw_i hk (i := 1) (by decide)).1 c1
    have hh : hsh (tW X e) (tL X e) = 3540569 := by
      rw [hsh_eq (tL X e) q2, q1]
      decide +kernel
    have hv : wAct (tV X e) = 1 := by
      rw [c1]
      decide +kernel
    have ce := ce 1 (by decide)
    rw [if_pos c1] at ce
    rw [hh] at a1
    rw [hv]
    refine ev_ci a1 ?_
    refine ev_th _ (fun h => absurd h (by decide)) (fun _ => ?_)
    refine ev_th _ (fun h => absurd h (by decide)) (fun _ => ?_)
    refine ev_th _ (fun _ => ?_) (fun h => (h (by first | rfl | trivial)).elim)
    refine ev_bk ?_
    refine zat_in zP_X0_actOf zk_X0_actOf_66 ?_
    simp (disch := omega) only [b_X0_actOf_66, zif, zdr, zkb, mK_wi, mN_wi, mJ_wi, mI_wi, sI_wi, beq_self_eq_true, Bool.true_or, Bool.or_true, Bool.or_false, Bool.and_self, Bool.and_true, Bool.true_and, ↓reduceIte, ble_up0, i_cl, i_succ, zix_of, zfl_k, zup_k, zup_q, ks]
    refine ev_ci ce ?_
    refine ev_th _ (fun h => absurd h (by decide)) (fun _ => ?_)
    exact ev_bk g_X0_actOf_1
  by_cases c2 : tV X e = val 2
  · obtain ⟨q1, q2⟩ := (isw_i hk (i := 2) (by decide)).1 c2
    have hh : hsh (tW X e) (tL X e) = 3138974 := by
      rw [hsh_eq (tL X e) q2, q1]
      decide +kernel
    have hv : wAct (tV X e) = 2 := by
      rw [c2]
      decide +kernel
    have ce := ce 2 (by decide)
    rw [if_pos c2] at ce
    rw [hh] at a1
    rw [hv]
    refine ev_ci a1 ?_
    refine ev_th _ (fun h => absurd h (by decide)) (fun _ => ?_)
    refine ev_th _ (fun _ => ?_) (fun h => (h (by first | rfl | trivial)).elim)
    refine ev_bk ?_
    refine zat_in zP_X0_actOf zk_X0_actOf_80 ?_
    simp (disch := omega) only [b_X0_actOf_80, zif, zdr, zkb, mK_wi, mN_wi, mJ_wi, mI_wi, sI_wi, beq_self_eq_true, Bool.true_or, Bool.or_true, Bool.or_false, Bool.and_self, Bool.and_true, Bool.true_and, ↓reduceIte, ble_up0, i_cl, i_succ, zix_of, zfl_k, zup_k, zup_q, ks]
    refine ev_ci ce ?_
    refine ev_th _ (fun h => absurd h (by decide)) (fun _ => ?_)
    exact ev_bk g_X0_actOf_2
  by_cases c3 : tV X e = val 3
  · obtain ⟨q1, q2⟩ := (isw_i hk (i := 3) (by decide)).1 c3
    have hh : hsh (tW X e) (tL X e) = 102846135 := by
      rw [hsh_eq (tL X e) q2, q1]
      decide +kernel
    have hv : wAct (tV X e) = 3 := by
      rw [c3]
      decide +kernel
    have ce := ce 3 (by decide)
    rw [if_pos c3] at ce
    rw [hh] at a1
    rw [hv]
    refine ev_ci a1 ?_
    refine ev_th _ (fun h => absurd h (by decide)) (fun _ => ?_)
    refine ev_th _ (fun h => absurd h (by decide)) (fun _ => ?_)
    refine ev_th _ (fun h => absurd h (by decide)) (fun _ => ?_)
    refine ev_th _ (fun _ => ?_) (fun h => (h (by first | rfl | trivial)).elim)
    refine ev_bk ?_
    refine zat_in zP_X0_actOf zk_X0_actOf_94 ?_
    simp (disch := omega) only [b_X0_actOf_94, zif, zdr, zkb, mK_wi, mN_wi, mJ_wi, mI_wi, sI_wi, beq_self_eq_true, Bool.true_or, Bool.or_true, Bool.or_false, Bool.and_self, Bool.and_true, Bool.true_and, ↓reduceIte, ble_up0, i_cl, i_succ, zix_of, zfl_k, zup_k, zup_q, ks]
    refine ev_ci ce ?_
    refine ev_th _ (fun h => absurd h (by decide)) (fun _ => ?_)
    exact ev_tl zP_X0_actOf zk_X0_actOf_105 g_X0_actOf_3
  have hv : wAct (tV X e) = -1 := by
    unfold wAct
    rw [if_neg c0, if_neg c1, if_neg c2, if_neg c3]
  rw [hv]
  refine ev_ci a1 ?_
  generalize hsh (tW X e) (tL X e) = hx
  refine ev_th _ (fun _ => ?_) (fun _ => ?_)
  · refine ev_bk ?_
    have ce := ce 0 (by decide)
    rw [if_neg c0] at ce
    refine zat_in zP_X0_actOf zk_X0_actOf_52 ?_
    simp (disch := omega) only [b_X0_actOf_52, zif, zdr, zkb, mK_wi, mN_wi, mJ_wi, mI_wi, sI_wi, beq_self_eq_true, Bool.true_or, Bool.or_true, Bool.or_false, Bool.and_self, Bool.and_true, Bool.true_and, ↓reduceIte, ble_up0, i_cl, i_succ, zix_of, zfl_k, zup_k, zup_q, ks]
    refine ev_ci ce ?_
    refine ev_th _ (fun _ => ?_) (fun h => (h (by first | rfl | trivial)).elim)
    exact ev_bk g_X0_actOf_n
  refine ev_th _ (fun _ => ?_) (fun _ => ?_)
  · refine ev_bk ?_
    have ce := ce 2 (by decide)
    rw [if_neg c2] at ce
    refine zat_in zP_X0_actOf zk_X0_actOf_80 ?_
    simp (disch := omega) only [b_X0_actOf_80, zif, zdr, zkb, mK_wi, mN_wi, mJ_wi, mI_wi, sI_wi, beq_self_eq_true, Bool.true_or, Bool.or_true, Bool.or_false, Bool.and_self, Bool.and_true, Bool.true_and, ↓reduceIte, ble_up0, i_cl, i_succ, zix_of, zfl_k, zup_k, zup_q, ks]
    refine ev_ci ce ?_
    refine ev_th _ (fun _ => ?_) (fun h => (h (by first | rfl | trivial)).elim)
    exact ev_bk g_X0_actOf_n
  refine ev_th _ (fun _ => ?_) (fun _ => ?_)
  · refine ev_bk ?_
    have ce := ce 1 (by decide)
    rw [if_neg c1] at ce
    refine zat_in zP_X0_actOf zk_X0_actOf_66 ?_
    simp (disch := omega) only [b_X0_actOf_66, zif, zdr, zkb, mK_wi, mN_wi, mJ_wi, mI_wi, sI_wi, beq_self_eq_true, Bool.true_or, Bool.or_true, Bool.or_false, Bool.and_self, Bool.and_true, Bool.true_and, ↓reduceIte, ble_up0, i_cl, i_succ, zix_of, zfl_k, zup_k, zup_q, ks]
    refine ev_ci ce ?_
    refine ev_th _ (fun _ => ?_) (fun h => (h (by first | rfl | trivial)).elim)
    exact ev_bk g_X0_actOf_n
  refine ev_th _ (fun _ => ?_) (fun _ => ?_)
  · refine ev_bk ?_
    have ce := ce 3 (by decide)
    rw [if_neg c3] at ce
    refine zat_in zP_X0_actOf zk_X0_actOf_94 ?_
    simp (disch := omega) only [b_X0_actOf_94, zif, zdr, zkb, mK_wi, mN_wi, mJ_wi, mI_wi, sI_wi, beq_self_eq_true, Bool.true_or, Bool.or_true, Bool.or_false, Bool.and_self, Bool.and_true, Bool.true_and, ↓reduceIte, ble_up0, i_cl, i_succ, zix_of, zfl_k, zup_k, zup_q, ks]
    refine ev_ci ce ?_
    refine ev_th _ (fun _ => ?_) (fun h => (h (by first | rfl | trivial)).elim)
    exact ev_bk g_X0_actOf_n
  exact ev_bk g_X0_actOf_n
theorem g_X0_nameOf_0 {s : Nat} {M : zM} : zAt E d 40 264 [some (zr (some s)), some (zr (some s)), some (zi 0)] [] M (Sum.inl (some (zi 0)), M) := by
  have e0 := @b_X0_nameOf_264
  refine zat_in zP_X0_nameOf zk_X0_nameOf_264 ?_
  simp only [e0]
  refine ev_th _ (fun _ => ?_) (fun h => (h (by first | rfl | trivial)).elim)
  refine ev_bk ?_
  refine zat_in zP_X0_nameOf zk_X0_nameOf_324 ?_; simp (disch := omega) only [b_X0_nameOf_324, zif, zdr, zkb, mK_wi, mN_wi, mJ_wi, mI_wi, sI_wi, beq_self_eq_true, Bool.true_or, Bool.or_true, Bool.or_false, Bool.and_self, Bool.and_true, Bool.true_and, ↓reduceIte]
  exact ev_r
theorem g_X0_nameOf_1 {s : Nat} {M : zM} : zAt E d 40 264 [some (zr (some s)), some (zr (some s)), some (zi 1)] [] M (Sum.inl (some (zi 1)), M) := by
  have e0 := @b_X0_nameOf_264
  refine zat_in zP_X0_nameOf zk_X0_nameOf_264 ?_
  simp only [e0]
  refine ev_th _ (fun h => absurd h (by decide)) (fun _ => ?_)
  refine ev_th _ (fun _ => ?_) (fun h => (h (by first | rfl | trivial)).elim)
  refine ev_bk ?_
  refine zat_in zP_X0_nameOf zk_X0_nameOf_326 ?_; simp (disch := omega) only [b_X0_nameOf_326, zif, zdr, zkb, mK_wi, mN_wi, mJ_wi, mI_wi, sI_wi, beq_self_eq_true, Bool.true_or, Bool.or_true, Bool.or_false, Bool.and_self, Bool.and_true, Bool.true_and, ↓reduceIte]
  exact ev_r
theorem g_X0_nameOf_2 {s : Nat} {M : zM} : zAt E d 40 264 [some (zr (some s)), some (zr (some s)), some (zi 2)] [] M (Sum.inl (some (zi 2)), M) := by
  have e0 := @b_X0_nameOf_264
  refine zat_in zP_X0_nameOf zk_X0_nameOf_264 ?_
  simp only [e0]
  refine ev_th _ (fun h => absurd h (by decide)) (fun _ => ?_)
  refine ev_th _ (fun h => absurd h (by decide)) (fun _ => ?_)
  refine ev_th _ (fun _ => ?_) (fun h => (h (by first | rfl | trivial)).elim)
  refine ev_bk ?_
  refine zat_in zP_X0_nameOf zk_X0_nameOf_328 ?_; simp (disch := omega) only [b_X0_nameOf_328, zif, zdr, zkb, mK_wi, mN_wi, mJ_wi, mI_wi, sI_wi, beq_self_eq_true, Bool.true_or, Bool.or_true, Bool.or_false, Bool.and_self, Bool.and_true, Bool.true_and, ↓reduceIte]
  exact ev_r
theorem g_X0_nameOf_3 {s : Nat} {M : zM} : zAt E d 40 264 [some (zr (some s)), some (zr (some s)), some (zi 3)] [] M (Sum.inl (some (zi 3)), M) := by
  have e0 := @b_X0_nameOf_264
  refine zat_in zP_X0_nameOf zk_X0_nameOf_264 ?_
  simp only [e0]
  refine ev_th _ (fun h => absurd h (by decide)) (fun _ => ?_)
  refine ev_th _ (fun h => absurd h (by decide)) (fun _ => ?_)
  refine ev_th _ (fun h => absurd h (by decide)) (fun _ => ?_)
  refine ev_th _ (fun _ => ?_) (fun h => (h (by first | rfl | trivial)).elim)
  refine ev_bk ?_
  refine zat_in zP_X0_nameOf zk_X0_nameOf_330 ?_; simp (disch := omega) only [b_X0_nameOf_330, zif, zdr, zkb, mK_wi, mN_wi, mJ_wi, mI_wi, sI_wi, beq_self_eq_true, Bool.true_or, Bool.or_true, Bool.or_false, Bool.and_self, Bool.and_true, Bool.true_and, ↓reduceIte]
  exact ev_r
theorem g_X0_nameOf_4 {s : Nat} {M : zM} : zAt E d 40 264 [some (zr (some s)), some (zr (some s)), some (zi 4)] [] M (Sum.inl (some (zi 4)), M) := by
  have e0 := @b_X0_nameOf_264
  refine zat_in zP_X0_nameOf zk_X0_nameOf_264 ?_
  simp only [e0]
  refine ev_th _ (fun h => absurd h (by decide)) (fun _ => ?_)
  refine ev_th _ (fun h => absurd h (by decide)) (fun _ => ?_)
  refine ev_th _ (fun h => absurd h (by decide)) (fun _ => ?_)
  refine ev_th _ (fun h => absurd h (by decide)) (fun _ => ?_)
  refine ev_th _ (fun _ => ?_) (fun h => (h (by first | rfl | trivial)).elim)
  refine ev_bk ?_
  refine zat_in zP_X0_nameOf zk_X0_nameOf_332 ?_; simp (disch := omega) only [b_X0_nameOf_332, zif, zdr, zkb, mK_wi, mN_wi, mJ_wi, mI_wi, sI_wi, beq_self_eq_true, Bool.true_or, Bool.or_true, Bool.or_false, Bool.and_self, Bool.and_true, Bool.true_and, ↓reduceIte]
  exact ev_r
theorem g_X0_nameOf_5 {s : Nat} {M : zM} : zAt E d 40 264 [some (zr (some s)), some (zr (some s)), some (zi 5)] [] M (Sum.inl (some (zi 5)), M) := by
  have e0 := @b_X0_nameOf_264
  refine zat_in zP_X0_nameOf zk_X0_nameOf_264 ?_
  simp only [e0]
  refine ev_th _ (fun h => absurd h (by decide)) (fun _ => ?_)
  refine ev_th _ (fun h => absurd h (by decide)) (fun _ => ?_)
  refine ev_th _ (fun h => absurd h (by decide)) (fun _ => ?_)
  refine ev_th _ (fun h => absurd h (by decide)) (fun _ => ?_)
  refine ev_th _ (fun h => absurd h (by decide)) (fun _ => ?_)
  refine ev_th _ (fun _ => ?_) (fun h => (h (by first | rfl | trivial)).elim)
  refine ev_bk ?_
  refine zat_in zP_X0_nameOf zk_X0_nameOf_334 ?_; simp (disch := omega) only [b_X0_nameOf_334, zif, zdr, zkb, mK_wi, mN_wi, mJ_wi, mI_wi, sI_wi, beq_self_eq_true, Bool.true_or, Bool.or_true, Bool.or_false, Bool.and_self, Bool.and_true, Bool.true_and, ↓reduceIte]
  exact ev_r
theorem g_X0_nameOf_6 {s : Nat} {M : zM} : zAt E d 40 264 [some (zr (some s)), some (zr (some s)), some (zi 6)] [] M (Sum.inl (some (zi 6)), M) := by
  have e0 := @b_X0_nameOf_264
  refine zat_in zP_X0_nameOf zk_X0_nameOf_264 ?_
  simp only [e0]
  refine ev_th _ (fun h => absurd h (by decide)) (fun _ => ?_)
  refine ev_th _ (fun h => absurd h (by decide)) (fun _ => ?_)
  refine ev_th _ (fun h => absurd h (by decide)) (fun _ => ?_)
  refine ev_th _ (fun h => absurd h (by decide)) (fun _ => ?_)
  refine ev_th _ (fun h => absurd h (by decide)) (fun _ => ?_)
  refine ev_th _ (fun h => absurd h (by decide)) (fun _ => ?_)
  refine ev_th _ (fun _ => ?_) (fun h => (h (by first | rfl | trivial)).elim)
  refine ev_bk ?_
  refine zat_in zP_X0_nameOf zk_X0_nameOf_336 ?_; simp (disch := omega) only [b_X0_nameOf_336, zif, zdr, zkb, mK_wi, mN_wi, mJ_wi, mI_wi, sI_wi, beq_self_eq_true, Bool.true_or, Bool.or_true, Bool.or_false, Bool.and_self, Bool.and_true, Bool.true_and, ↓reduceIte]
  exact ev_r
theorem g_X0_nameOf_7 {s : Nat} {M : zM} : zAt E d 40 264 [some (zr (some s)), some (zr (some s)), some (zi 7)] [] M (Sum.inl (some (zi 7)), M) := by
  have e0 := @b_X0_nameOf_264
  refine zat_in zP_X0_nameOf zk_X0_nameOf_264 ?_
  simp only [e0]
  refine ev_th _ (fun h => absurd h (by decide)) (fun _ => ?_)
  refine ev_th _ (fun h => absurd h (by decide)) (fun _ => ?_)
  refine ev_th _ (fun h => absurd h (by decide)) (fun _ => ?_)
  refine ev_th _ (fun h => absurd h (by decide)) (fun _ => ?_)
  refine ev_th _ (fun h => absurd h (by decide)) (fun _ => ?_)
  refine ev_th _ (fun h => absurd h (by decide)) (fun _ => ?_)
  refine ev_th _ (fun h => absurd h (by decide)) (fun _ => ?_)
  refine ev_th _ (fun _ => ?_) (fun h => (h (by first | rfl | trivial)).elim)
  refine ev_bk ?_
  refine zat_in zP_X0_nameOf zk_X0_nameOf_339 ?_; simp (disch := omega) only [b_X0_nameOf_339, zif, zdr, zkb, mK_wi, mN_wi, mJ_wi, mI_wi, sI_wi, beq_self_eq_true, Bool.true_or, Bool.or_true, Bool.or_false, Bool.and_self, Bool.and_true, Bool.true_and, ↓reduceIte]
  exact ev_r
theorem g_X0_nameOf_8 {s : Nat} {M : zM} : zAt E d 40 264 [some (zr (some s)), some (zr (some s)), some (zi 8)] [] M (Sum.inl (some (zi 8)), M) := by
  have e0 := @b_X0_nameOf_264
  refine zat_in zP_X0_nameOf zk_X0_nameOf_264 ?_
  simp only [e0]
  refine ev_th _ (fun h => absurd h (by decide)) (fun _ => ?_)
  refine ev_th _ (fun h => absurd h (by decide)) (fun _ => ?_)
  refine ev_th _ (fun h => absurd h (by decide)) (fun _ => ?_)
  refine ev_th _ (fun h => absurd h (by decide)) (fun _ => ?_)
  refine ev_th _ (fun h => absurd h (by decide)) (fun _ => ?_)
  refine ev_th _ (fun h => absurd h (by decide)) (fun _ => ?_)
  refine ev_th _ (fun h => absurd h (by decide)) (fun _ => ?_)
  refine ev_th _ (fun h => absurd h (by decide)) (fun _ => ?_)
  refine ev_th _ (fun _ => ?_) (fun h => (h (by first | rfl | trivial)).elim)
  refine ev_bk ?_
  refine zat_in zP_X0_nameOf zk_X0_nameOf_342 ?_; simp (disch := omega) only [b_X0_nameOf_342, zif, zdr, zkb, mK_wi, mN_wi, mJ_wi, mI_wi, sI_wi, beq_self_eq_true, Bool.true_or, Bool.or_true, Bool.or_false, Bool.and_self, Bool.and_true, Bool.true_and, ↓reduceIte]
  exact ev_r
theorem g_X0_nameOf_9 {s : Nat} {M : zM} : zAt E d 40 264 [some (zr (some s)), some (zr (some s)), some (zi 9)] [] M (Sum.inl (some (zi 9)), M) := by
  have e0 := @b_X0_nameOf_264
  refine zat_in zP_X0_nameOf zk_X0_nameOf_264 ?_
  simp only [e0]
  refine ev_th _ (fun h => absurd h (by decide)) (fun _ => ?_)
  refine ev_th _ (fun h => absurd h (by decide)) (fun _ => ?_)
  refine ev_th _ (fun h => absurd h (by decide)) (fun _ => ?_)
  refine ev_th _ (fun h => absurd h (by decide)) (fun _ => ?_)
  refine ev_th _ (fun h => absurd h (by decide)) (fun _ => ?_)
  refine ev_th _ (fun h => absurd h (by decide)) (fun _ => ?_)
  refine ev_th _ (fun h => absurd h (by decide)) (fun _ => ?_)
  refine ev_th _ (fun h => absurd h (by decide)) (fun _ => ?_)
  refine ev_th _ (fun h => absurd h (by decide)) (fun _ => ?_)
  refine ev_th _ (fun _ => ?_) (fun h => (h (by first | rfl | trivial)).elim)
  refine ev_bk ?_
  refine zat_in zP_X0_nameOf zk_X0_nameOf_345 ?_; simp (disch := omega) only [b_X0_nameOf_345, zif, zdr, zkb, mK_wi, mN_wi, mJ_wi, mI_wi, sI_wi, beq_self_eq_true, Bool.true_or, Bool.or_true, Bool.or_false, Bool.and_self, Bool.and_true, Bool.true_and, ↓reduceIte]
  exact ev_r
theorem g_X0_nameOf_10 {s : Nat} {M : zM} : zAt E d 40 264 [some (zr (some s)), some (zr (some s)), some (zi 10)] [] M (Sum.inl (some (zi 10)), M) := by
  have e0 := @b_X0_nameOf_264
  refine zat_in zP_X0_nameOf zk_X0_nameOf_264 ?_
  simp only [e0]
  refine ev_th _ (fun h => absurd h (by decide)) (fun _ => ?_)
  refine ev_th _ (fun h => absurd h (by decide)) (fun _ => ?_)
  refine ev_th _ (fun h => absurd h (by decide)) (fun _ => ?_)
  refine ev_th _ (fun h => absurd h (by decide)) (fun _ => ?_)
  refine ev_th _ (fun h => absurd h (by decide)) (fun _ => ?_)
  refine ev_th _ (fun h => absurd h (by decide)) (fun _ => ?_)
  refine ev_th _ (fun h => absurd h (by decide)) (fun _ => ?_)
  refine ev_th _ (fun h => absurd h (by decide)) (fun _ => ?_)
  refine ev_th _ (fun h => absurd h (by decide)) (fun _ => ?_)
  refine ev_th _ (fun h => absurd h (by decide)) (fun _ => ?_)
  refine ev_th _ (fun _ => ?_) (fun h => (h (by first | rfl | trivial)).elim)
  refine ev_bk ?_
  refine zat_in zP_X0_nameOf zk_X0_nameOf_348 ?_; simp (disch := omega) only [b_X0_nameOf_348, zif, zdr, zkb, mK_wi, mN_wi, mJ_wi, mI_wi, sI_wi, beq_self_eq_true, Bool.true_or, Bool.or_true, Bool.or_false, Bool.and_self, Bool.and_true, Bool.true_and, ↓reduceIte]
  exact ev_r
theorem g_X0_nameOf_n {s : Nat} {M : zM} : zAt E d 40 264 [some (zr (some s)), some (zr (some s)), some (zi (-1))] [] M (Sum.inl (some (zi (-1))), M) := by
  have e0 := @b_X0_nameOf_264
  refine zat_in zP_X0_nameOf zk_X0_nameOf_264 ?_
  simp only [e0]
  refine ev_th _ (fun h => absurd h (by decide)) (fun _ => ?_)
  refine ev_th _ (fun h => absurd h (by decide)) (fun _ => ?_)
  refine ev_th _ (fun h => absurd h (by decide)) (fun _ => ?_)
  refine ev_th _ (fun h => absurd h (by decide)) (fun _ => ?_)
  refine ev_th _ (fun h => absurd h (by decide)) (fun _ => ?_)
  refine ev_th _ (fun h => absurd h (by decide)) (fun _ => ?_)
  refine ev_th _ (fun h => absurd h (by decide)) (fun _ => ?_)
  refine ev_th _ (fun h => absurd h (by decide)) (fun _ => ?_)
  refine ev_th _ (fun h => absurd h (by decide)) (fun _ => ?_)
  refine ev_th _ (fun h => absurd h (by decide)) (fun _ => ?_)
  refine ev_th _ (fun h => absurd h (by decide)) (fun _ => ?_)
  refine ev_bk ?_
  refine zat_in zP_X0_nameOf zk_X0_nameOf_351 ?_; simp (disch := omega) only [b_X0_nameOf_351, zif, zdr, zkb, mK_wi, mN_wi, mJ_wi, mI_wi, sI_wi, beq_self_eq_true, Bool.true_or, Bool.or_true, Bool.or_false, Bool.and_self, Bool.and_true, Bool.true_and, ↓reduceIte]
  exact ev_r
theorem sp_X0_nameOf (hB : E.1 ≤ B) (hR : xRD E S I B X e) (hk : tK X e = 2) : ∃ s I', mJ S (B + 2) 8 = some s ∧ mK S s = 17 ∧ zCl E (d + 4) 40 [zr (some s)] (zwi S I) (Sum.inl (some (zi (wNam (tV X e)))), zwi S I') ∧ xRD E S I' B X e ∧ rFr B (mS S) 0 0 S S I I' := by
  obtain ⟨s, sb, w1, w2, w3, w4, w5, w6⟩ := hR.2.2.1.2.2.2.2.2 hk
  obtain ⟨l8, l1⟩ := tL_8 hk
  have ks := w5.1
  obtain ⟨I1, a1, x1, h1, f1⟩ := sp_J3_hashCode (E := E) (d := d) (by omega) (by omega) w5 (by omega) w6 (by omega) l1
  have hf : rFr B (mS S) 0 0 S S I I1 := ⟨⟨Nat.le_refl _, by omega, by omega⟩, fun _ _ => ⟨rfl, rfl⟩, fun _ _ _ _ => rfl, fun a k _ _ q => f1 a k (fun z => absurd (q (by rw [z]; exact ks)) (by omega)), hR.2.2.2.2.1⟩
  have hR1 : xRD E S I1 B X e := hR.hs w1 w2 w3 w4 x1 h1 f1
  refine ⟨s, I1, w1, ks, ?_, hR1, hf⟩
  have ce : ∀ i, i < 47 → zCl E (d + 3) 9 [zr (some s), zr (some (E.2.1 i))] (zwi S I1) (Sum.inl (some (zi (if tV X e = val i then 1 else 0))), zwi S I1) := fun i hi => hR1.eq (d := d + 2) hk hi w1
  refine zcl_in' zP_X0_nameOf ?_; rw [zn_1_3]
  refine zat_in zP_X0_nameOf zk_X0_nameOf_0 ?_
  simp (maxSteps := 2000000) (disch := omega) only [b_X0_nameOf_0, zif, zdr, zkb, mK_wi, mN_wi, mJ_wi, mI_wi, sI_wi, beq_self_eq_true, Bool.true_or, Bool.or_true, Bool.or_false, Bool.and_self, Bool.and_true, Bool.true_and, ↓reduceIte, ble_up0, i_cl, i_succ, zix_of, zfl_k, zup_k, zup_q, ks]
  by_cases c4 : tV X e = val 4
  · obtain ⟨q1, q2⟩ := (isw_i hk (i := 4) (by decide)).1 c4
    have hh : hsh (tW X e) (tL X e) = 113291 := by
      rw [hsh_eq (tL X e) q2, q1]
      decide +kernel
    have hv : wNam (tV X e) = 0 := by
      rw [c4]
      decide +kernel
    have ce := ce 4 (by decide)
    rw [if_pos c4] at ce
    rw [hh] at a1
    rw [hv]
    refine ev_ci a1 ?_
    refine ev_th _ (fun _ => ?_) (fun h => (h (by first | rfl | trivial)).elim)
    refine ev_bk ?_
    refine zat_in zP_X0_nameOf zk_X0_nameOf_108 ?_
    simp (disch := omega) only [b_X0_nameOf_108, zif, zdr, zkb, mK_wi, mN_wi, mJ_wi, mI_wi, sI_wi, beq_self_eq_true, Bool.true_or, Bool.or_true, Bool.or_false, Bool.and_self, Bool.and_true, Bool.true_and, ↓reduceIte, ble_up0, i_cl, i_succ, zix_of, zfl_k, zup_k, zup_q, ks]
    refine ev_ci ce ?_
    refine ev_th _ (fun h => absurd h (by decide)) (fun _ => ?_)
    exact ev_bk g_X0_nameOf_0
  by_cases c5 : tV X e = val 5
  · obtain ⟨q1, q2⟩ := (isw_i hk (i := 5) (by decide)).1 c5
    have hh : hsh (tW X e) (tL X e) = 3496916 := by
      rw [hsh_eq (tL X e) q2, q1]
      decide +kernel
    have hv : wNam (tV X e) = 1 := by
      rw [c5]
      decide +kernel
    have ce := ce 5 (by decide)
    rw [if_pos c5] at ce
    rw [hh] at a1
    rw [hv]
    refine ev_ci a1 ?_
    refine ev_th _ (fun h => absurd h (by decide)) (fun _ => ?_)
    refine ev_th _ (fun h => absurd h (by decide)) (fun _ => ?_)
    refine ev_th _ (fun h => absurd h (by decide)) (fun _ => ?_)
    refine ev_th _ (fun h => absurd h (by decide)) (fun _ => ?_)
    refine ev_th _ (fun h => absurd h (by decide)) (fun _ => ?_)
    refine ev_th _ (fun h => absurd h (by decide)) (fun _ => ?_)
    refine ev_th _ (fun h => absurd h (by decide)) (fun _ => ?_)
    refine ev_th _ (fun h => absurd h (by decide)) (fun _ => ?_)
    refine ev_th _ (fun _ => ?_) (fun h => (h (by first | rfl | trivial)).elim)
    refine ev_bk ?_
    refine zat_in zP_X0_nameOf zk_X0_nameOf_122 ?_
    simp (disch := omega) only [b_X0_nameOf_122, zif, zdr, zkb, mK_wi, mN_wi, mJ_wi, mI_wi, sI_wi, beq_self_eq_true, Bool.true_or, Bool.or_true, Bool.or_false, Bool.and_self, Bool.and_true, Bool.true_and, ↓reduceIte, ble_up0, i_cl, i_succ, zix_of, zfl_k, zup_k, zup_q, ks]
    refine ev_ci ce ?_
    refine ev_th _ (fun h => absurd h (by decide)) (fun _ => ?_)
    exact ev_bk g_X0_nameOf_1
  by_cases c6 : tV X e = val 6
  · obtain ⟨q1, q2⟩ := (isw_i hk (i := 6) (by decide)).1 c6
    have hh : hsh (tW X e) (tL X e) = 3645304 := by
      rw [hsh_eq (tL X e) q2, q1]
      decide +kernel
    have hv : wNam (tV X e) = 2 := by
      rw [c6]
      decide +kernel
    have ce := ce 6 (by decide)
    rw [if_pos c6] at ce
    rw [hh] at a1
    rw [hv]
    refine ev_ci a1 ?_
    refine ev_th _ (fun h => absurd h (by decide)) (fun _ => ?_)
    refine ev_th _ (fun h => absurd h (by decide)) (fun _ => ?_)
    refine ev_th _ (fun h => absurd h (by decide)) (fun _ => ?_)
    refine ev_th _ (fun h => absurd h (by decide)) (fun _ => ?_)
    refine ev_th _ (fun h => absurd h (by decide)) (fun _ => ?_)
    refine ev_th _ (fun h => absurd h (by decide)) (fun _ => ?_)
    refine ev_th _ (fun h => absurd h (by decide)) (fun _ => ?_)
    refine ev_th _ (fun h => absurd h (by decide)) (fun _ => ?_)
    refine ev_th _ (fun h => absurd h (by decide)) (fun _ => ?_)
    refine ev_th _ (fun _ => ?_) (fun h => (h (by first | rfl | trivial)).elim)
    refine ev_bk ?_
    refine zat_in zP_X0_nameOf zk_X0_nameOf_136 ?_
    simp (disch := omega) only [b_X0_nameOf_136, zif, zdr, zkb, mK_wi, mN_wi, mJ_wi, mI_wi, sI_wi, beq_self_eq_true, Bool.true_or, Bool.or_true, Bool.or_false, Bool.and_self, Bool.and_true, Bool.true_and, ↓reduceIte, ble_up0, i_cl, i_succ, zix_of, zfl_k, zup_k, zup_q, ks]
    refine ev_ci ce ?_
    refine ev_th _ (fun h => absurd h (by decide)) (fun _ => ?_)
    exact ev_bk g_X0_nameOf_2
  by_cases c7 : tV X e = val 7
  · obtain ⟨q1, q2⟩ := (isw_i hk (i := 7) (by decide)).1 c7
    have hh : hsh (tW X e) (tL X e) = 3347397 := by
      rw [hsh_eq (tL X e) q2, q1]
      decide +kernel
    have hv : wNam (tV X e) = 3 := by
      rw [c7]
      decide +kernel
    have ce := ce 7 (by decide)
    rw [if_pos c7] at ce
    rw [hh] at a1
    rw [hv]
    refine ev_ci a1 ?_
    refine ev_th _ (fun h => absurd h (by decide)) (fun _ => ?_)
    refine ev_th _ (fun h => absurd h (by decide)) (fun _ => ?_)
    refine ev_th _ (fun h => absurd h (by decide)) (fun _ => ?_)
    refine ev_th _ (fun h => absurd h (by decide)) (fun _ => ?_)
    refine ev_th _ (fun h => absurd h (by decide)) (fun _ => ?_)
    refine ev_th _ (fun h => absurd h (by decide)) (fun _ => ?_)
    refine ev_th _ (fun _ => ?_) (fun h => (h (by first | rfl | trivial)).elim)
    refine ev_bk ?_
    refine zat_in zP_X0_nameOf zk_X0_nameOf_150 ?_
    simp (disch := omega) only [b_X0_nameOf_150, zif, zdr, zkb, mK_wi, mN_wi, mJ_wi, mI_wi, sI_wi, beq_self_eq_true, Bool.true_or, Bool.or_true, Bool.or_false, Bool.and_self, Bool.and_true, Bool.true_and, ↓reduceIte, ble_up0, i_cl, i_succ, zix_of, zfl_k, zup_k, zup_q, ks]
    refine ev_ci ce ?_
    refine ev_th _ (fun h => absurd h (by decide)) (fun _ => ?_)
    exact ev_bk g_X0_nameOf_3
  by_cases c8 : tV X e = val 8
  · obtain ⟨q1, q2⟩ := (isw_i hk (i := 8) (by decide)).1 c8
    have hh : hsh (tW X e) (tL X e) = 3059428 := by
      rw [hsh_eq (tL X e) q2, q1]
      decide +kernel
    have hv : wNam (tV X e) = 4 := by
      rw [c8]
      decide +kernel
    have ce := ce 8 (by decide)
    rw [if_pos c8] at ce
    rw [hh] at a1
    rw [hv]
    refine ev_ci a1 ?_
    refine ev_th _ (fun h => absurd h (by decide)) (fun _ => ?_)
    refine ev_th _ (fun _ => ?_) (fun h => (h (by first | rfl | trivial)).elim)
    refine ev_bk ?_
    refine zat_in zP_X0_nameOf zk_X0_nameOf_164 ?_
    simp (disch := omega) only [b_X0_nameOf_164, zif, zdr, zkb, mK_wi, mN_wi, mJ_wi, mI_wi, sI_wi, beq_self_eq_true, Bool.true_or, Bool.or_true, Bool.or_false, Bool.and_self, Bool.and_true, Bool.true_and, ↓reduceIte, ble_up0, i_cl, i_succ, zix_of, zfl_k, zup_k, zup_q, ks]
    refine ev_ci ce ?_
    refine ev_th _ (fun h => absurd h (by decide)) (fun _ => ?_)
    exact ev_bk g_X0_nameOf_4
  by_cases c9 : tV X e = val 9
  · obtain ⟨q1, q2⟩ := (isw_i hk (i := 9) (by decide)).1 c9
    have hh : hsh (tW X e) (tL X e) = 103769360 := by
      rw [hsh_eq (tL X e) q2, q1]
      decide +kernel
    have hv : wNam (tV X e) = 5 := by
      rw [c9]
      decide +kernel
    have ce := ce 9 (by decide)
    rw [if_pos c9] at ce
    rw [hh] at a1
    rw [hv]
    refine ev_ci a1 ?_
    refine ev_th _ (fun h => absurd h (by decide)) (fun _ => ?_)
    refine ev_th _ (fun h => absurd h (by decide)) (fun _ => ?_)
    refine ev_th _ (fun h => absurd h (by decide)) (fun _ => ?_)
    refine ev_th _ (fun h => absurd h (by decide)) (fun _ => ?_)
    refine ev_th _ (fun h => absurd h (by decide)) (fun _ => ?_)
    refine ev_th _ (fun h => absurd h (by decide)) (fun _ => ?_)
    refine ev_th _ (fun h => absurd h (by decide)) (fun _ => ?_)
    refine ev_th _ (fun h => absurd h (by decide)) (fun _ => ?_)
    refine ev_th _ (fun h => absurd h (by decide)) (fun _ => ?_)
    refine ev_th _ (fun h => absurd h (by decide)) (fun _ => ?_)
    refine ev_th _ (fun _ => ?_) (fun h => (h (by first | rfl | trivial)).elim)
    refine ev_bk ?_
    refine zat_in zP_X0_nameOf zk_X0_nameOf_178 ?_
    simp (disch := omega) only [b_X0_nameOf_178, zif, zdr, zkb, mK_wi, mN_wi, mJ_wi, mI_wi, sI_wi, beq_self_eq_true, Bool.true_or, Bool.or_true, Bool.or_false, Bool.and_self, Bool.and_true, Bool.true_and, ↓reduceIte, ble_up0, i_cl, i_succ, zix_of, zfl_k, zup_k, zup_q, ks]
    refine ev_ci ce ?_
    refine ev_th _ (fun h => absurd h (by decide)) (fun _ => ?_)
    exact ev_bk g_X0_nameOf_5
  by_cases c10 : tV X e = val 10
  · obtain ⟨q1, q2⟩ := (isw_i hk (i := 10) (by decide)).1 c10
    have hh : hsh (tW X e) (tL X e) = 3089079 := by
      rw [hsh_eq (tL X e) q2, q1]
      decide +kernel
    have hv : wNam (tV X e) = 6 := by
      rw [c10]
      decide +kernel
    have ce := ce 10 (by decide)
    rw [if_pos c10] at ce
    rw [hh] at a1
    rw [hv]
    refine ev_ci a1 ?_
    refine ev_th _ (fun h => absurd h (by decide)) (fun _ => ?_)
    refine ev_th _ (fun h => absurd h (by decide)) (fun _ => ?_)
    refine ev_th _ (fun _ => ?_) (fun h => (h (by first | rfl | trivial)).elim)
    refine ev_bk ?_
    refine zat_in zP_X0_nameOf zk_X0_nameOf_192 ?_
    simp (disch := omega) only [b_X0_nameOf_192, zif, zdr, zkb, mK_wi, mN_wi, mJ_wi, mI_wi, sI_wi, beq_self_eq_true, Bool.true_or, Bool.or_true, Bool.or_false, Bool.and_self, Bool.and_true, Bool.true_and, ↓reduceIte, ble_up0, i_cl, i_succ, zix_of, zfl_k, zup_k, zup_q, ks]
    refine ev_ci ce ?_
    refine ev_th _ (fun h => absurd h (by decide)) (fun _ => ?_)
    exact ev_bk g_X0_nameOf_6
  by_cases c11 : tV X e = val 11
  · obtain ⟨q1, q2⟩ := (isw_i hk (i := 11) (by decide)).1 c11
    have hh : hsh (tW X e) (tL X e) = 3317767 := by
      rw [hsh_eq (tL X e) q2, q1]
      decide +kernel
    have hv : wNam (tV X e) = 7 := by
      rw [c11]
      decide +kernel
    have ce := ce 11 (by decide)
    rw [if_pos c11] at ce
    rw [hh] at a1
    rw [hv]
    refine ev_ci a1 ?_
    refine ev_th _ (fun h => absurd h (by decide)) (fun _ => ?_)
    refine ev_th _ (fun h => absurd h (by decide)) (fun _ => ?_)
    refine ev_th _ (fun h => absurd h (by decide)) (fun _ => ?_)
    refine ev_th _ (fun h => absurd h (by decide)) (fun _ => ?_)
    refine ev_th _ (fun _ => ?_) (fun h => (h (by first | rfl | trivial)).elim)
    refine ev_bk ?_
    refine zat_in zP_X0_nameOf zk_X0_nameOf_207 ?_
    simp (disch := omega) only [b_X0_nameOf_207, zif, zdr, zkb, mK_wi, mN_wi, mJ_wi, mI_wi, sI_wi, beq_self_eq_true, Bool.true_or, Bool.or_true, Bool.or_false, Bool.and_self, Bool.and_true, Bool.true_and, ↓reduceIte, ble_up0, i_cl, i_succ, zix_of, zfl_k, zup_k, zup_q, ks]
    refine ev_ci ce ?_
    refine ev_th _ (fun h => absurd h (by decide)) (fun _ => ?_)
    exact ev_bk g_X0_nameOf_7
  by_cases c12 : tV X e = val 12
  · obtain ⟨q1, q2⟩ := (isw_i hk (i := 12) (by decide)).1 c12
    have hh : hsh (tW X e) (tL X e) = 3208676 := by
      rw [hsh_eq (tL X e) q2, q1]
      decide +kernel
    have hv : wNam (tV X e) = 8 := by
      rw [c12]
      decide +kernel
    have ce := ce 12 (by decide)
    rw [if_pos c12] at ce
    rw [hh] at a1
    rw [hv]
    refine ev_ci a1 ?_
    refine ev_th _ (fun h => absurd h (by decide)) (fun _ => ?_)
    refine ev_th _ (fun h => absurd h (by decide)) (fun _ => ?_)
    refine ev_th _ (fun h => absurd h (by decide)) (fun _ => ?_)
    refine ev_th _ (fun _ => ?_) (fun h => (h (by first | rfl | trivial)).elim)
    refine ev_bk ?_
    refine zat_in zP_X0_nameOf zk_X0_nameOf_222 ?_
    simp (disch := omega) only [b_X0_nameOf_222, zif, zdr, zkb, mK_wi, mN_wi, mJ_wi, mI_wi, sI_wi, beq_self_eq_true, Bool.true_or, Bool.or_true, Bool.or_false, Bool.and_self, Bool.and_true, Bool.true_and, ↓reduceIte, ble_up0, i_cl, i_succ, zix_of, zfl_k, zup_k, zup_q, ks]
    refine ev_ci ce ?_
    refine ev_th _ (fun h => absurd h (by decide)) (fun _ => ?_)
    exact ev_bk g_X0_nameOf_8
  by_cases c13 : tV X e = val 13
  · obtain ⟨q1, q2⟩ := (isw_i hk (i := 13) (by decide)).1 c13
    have hh : hsh (tW X e) (tL X e) = 3446944 := by
      rw [hsh_eq (tL X e) q2, q1]
      decide +kernel
    have hv : wNam (tV X e) = 9 := by
      rw [c13]
      decide +kernel
    have ce := ce 13 (by decide)
    rw [if_pos c13] at ce
    rw [hh] at a1
    rw [hv]
    refine ev_ci a1 ?_
    refine ev_th _ (fun h => absurd h (by decide)) (fun _ => ?_)
    refine ev_th _ (fun h => absurd h (by decide)) (fun _ => ?_)
    refine ev_th _ (fun h => absurd h (by decide)) (fun _ => ?_)
    refine ev_th _ (fun h => absurd h (by decide)) (fun _ => ?_)
    refine ev_th _ (fun h => absurd h (by decide)) (fun _ => ?_)
    refine ev_th _ (fun h => absurd h (by decide)) (fun _ => ?_)
    refine ev_th _ (fun h => absurd h (by decide)) (fun _ => ?_)
    refine ev_th _ (fun _ => ?_) (fun h => (h (by first | rfl | trivial)).elim)
    refine ev_bk ?_
    refine zat_in zP_X0_nameOf zk_X0_nameOf_237 ?_
    simp (disch := omega) only [b_X0_nameOf_237, zif, zdr, zkb, mK_wi, mN_wi, mJ_wi, mI_wi, sI_wi, beq_self_eq_true, Bool.true_or, Bool.or_true, Bool.or_false, Bool.and_self, Bool.and_true, Bool.true_and, ↓reduceIte, ble_up0, i_cl, i_succ, zix_of, zfl_k, zup_k, zup_q, ks]
    refine ev_ci ce ?_
    refine ev_th _ (fun h => absurd h (by decide)) (fun _ => ?_)
    exact ev_bk g_X0_nameOf_9
  by_cases c14 : tV X e = val 14
  · obtain ⟨q1, q2⟩ := (isw_i hk (i := 14) (by decide)).1 c14
    have hh : hsh (tW X e) (tL X e) = 3327206 := by
      rw [hsh_eq (tL X e) q2, q1]
      decide +kernel
    have hv : wNam (tV X e) = 10 := by
      rw [c14]
      decide +kernel
    have ce := ce 14 (by decide)
    rw [if_pos c14] at ce
    rw [hh] at a1
    rw [hv]
    refine ev_ci a1 ?_
    refine ev_th _ (fun h => absurd h (by decide)) (fun _ => ?_)
    refine ev_th _ (fun h => absurd h (by decide)) (fun _ => ?_)
    refine ev_th _ (fun h => absurd h (by decide)) (fun _ => ?_)
    refine ev_th _ (fun h => absurd h (by decide)) (fun _ => ?_)
    refine ev_th _ (fun h => absurd h (by decide)) (fun _ => ?_)
    refine ev_th _ (fun _ => ?_) (fun h => (h (by first | rfl | trivial)).elim)
    refine ev_bk ?_
    refine zat_in zP_X0_nameOf zk_X0_nameOf_252 ?_
    simp (disch := omega) only [b_X0_nameOf_252, zif, zdr, zkb, mK_wi, mN_wi, mJ_wi, mI_wi, sI_wi, beq_self_eq_true, Bool.true_or, Bool.or_true, Bool.or_false, Bool.and_self, Bool.and_true, Bool.true_and, ↓reduceIte, ble_up0, i_cl, i_succ, zix_of, zfl_k, zup_k, zup_q, ks]
    refine ev_ci ce ?_
    refine ev_th _ (fun h => absurd h (by decide)) (fun _ => ?_)
    exact ev_tl zP_X0_nameOf zk_X0_nameOf_264 g_X0_nameOf_10
  have hv : wNam (tV X e) = -1 := by
    unfold wNam
    rw [if_neg c4, if_neg c5, if_neg c6, if_neg c7, if_neg c8, if_neg c9, if_neg c10, if_neg c11, if_neg c12, if_neg c13, if_neg c14]
  rw [hv]
  refine ev_ci a1 ?_
  generalize hsh (tW X e) (tL X e) = hx
  refine ev_th _ (fun _ => ?_) (fun _ => ?_)
  · refine ev_bk ?_
    have ce := ce 4 (by decide)
    rw [if_neg c4] at ce
    refine zat_in zP_X0_nameOf zk_X0_nameOf_108 ?_
    simp (disch := omega) only [b_X0_nameOf_108, zif, zdr, zkb, mK_wi, mN_wi, mJ_wi, mI_wi, sI_wi, beq_self_eq_true, Bool.true_or, Bool.or_true, Bool.or_false, Bool.and_self, Bool.and_true, Bool.true_and, ↓reduceIte, ble_up0, i_cl, i_succ, zix_of, zfl_k, zup_k, zup_q, ks]
    refine ev_ci ce ?_
    refine ev_th _ (fun _ => ?_) (fun h => (h (by first | rfl | trivial)).elim)
    exact ev_bk g_X0_nameOf_n
  refine ev_th _ (fun _ => ?_) (fun _ => ?_)
  · refine ev_bk ?_
    have ce := ce 8 (by decide)
    rw [if_neg c8] at ce
    refine zat_in zP_X0_nameOf zk_X0_nameOf_164 ?_
    simp (disch := omega) only [b_X0_nameOf_164, zif, zdr, zkb, mK_wi, mN_wi, mJ_wi, mI_wi, sI_wi, beq_self_eq_true, Bool.true_or, Bool.or_true, Bool.or_false, Bool.and_self, Bool.and_true, Bool.true_and, ↓reduceIte, ble_up0, i_cl, i_succ, zix_of, zfl_k, zup_k, zup_q, ks]
    refine ev_ci ce ?_
    refine ev_th _ (fun _ => ?_) (fun h => (h (by first | rfl | trivial)).elim)
    exact ev_bk g_X0_nameOf_n
  refine ev_th _ (fun _ => ?_) (fun _ => ?_)
  · refine ev_bk ?_
    have ce := ce 10 (by decide)
    rw [if_neg c10] at ce
    refine zat_in zP_X0_nameOf zk_X0_nameOf_192 ?_
    simp (disch := omega) only [b_X0_nameOf_192, zif, zdr, zkb, mK_wi, mN_wi, mJ_wi, mI_wi, sI_wi, beq_self_eq_true, Bool.true_or, Bool.or_true, Bool.or_false, Bool.and_self, Bool.and_true, Bool.true_and, ↓reduceIte, ble_up0, i_cl, i_succ, zix_of, zfl_k, zup_k, zup_q, ks]
    refine ev_ci ce ?_
    refine ev_th _ (fun _ => ?_) (fun h => (h (by first | rfl | trivial)).elim)
    exact ev_bk g_X0_nameOf_n
  refine ev_th _ (fun _ => ?_) (fun _ => ?_)
  · refine ev_bk ?_
    have ce := ce 12 (by decide)
    rw [if_neg c12] at ce
    refine zat_in zP_X0_nameOf zk_X0_nameOf_222 ?_
    simp (disch := omega) only [b_X0_nameOf_222, zif, zdr, zkb, mK_wi, mN_wi, mJ_wi, mI_wi, sI_wi, beq_self_eq_true, Bool.true_or, Bool.or_true, Bool.or_false, Bool.and_self, Bool.and_true, Bool.true_and, ↓reduceIte, ble_up0, i_cl, i_succ, zix_of, zfl_k, zup_k, zup_q, ks]
    refine ev_ci ce ?_
    refine ev_th _ (fun _ => ?_) (fun h => (h (by first | rfl | trivial)).elim)
    exact ev_bk g_X0_nameOf_n
  refine ev_th _ (fun _ => ?_) (fun _ => ?_)
  · refine ev_bk ?_
    have ce := ce 11 (by decide)
    rw [if_neg c11] at ce
    refine zat_in zP_X0_nameOf zk_X0_nameOf_207 ?_
    simp (disch := omega) only [b_X0_nameOf_207, zif, zdr, zkb, mK_wi, mN_wi, mJ_wi, mI_wi, sI_wi, beq_self_eq_true, Bool.true_or, Bool.or_true, Bool.or_false, Bool.and_self, Bool.and_true, Bool.true_and, ↓reduceIte, ble_up0, i_cl, i_succ, zix_of, zfl_k, zup_k, zup_q, ks]
    refine ev_ci ce ?_
    refine ev_th _ (fun _ => ?_) (fun h => (h (by first | rfl | trivial)).elim)
    exact ev_bk g_X0_nameOf_n
  refine ev_th _ (fun _ => ?_) (fun _ => ?_)
  · refine ev_bk ?_
    have ce := ce 14 (by decide)
    rw [if_neg c14] at ce
    refine zat_in zP_X0_nameOf zk_X0_nameOf_252 ?_
    simp (disch := omega) only [b_X0_nameOf_252, zif, zdr, zkb, mK_wi, mN_wi, mJ_wi, mI_wi, sI_wi, beq_self_eq_true, Bool.true_or, Bool.or_true, Bool.or_false, Bool.and_self, Bool.and_true, Bool.true_and, ↓reduceIte, ble_up0, i_cl, i_succ, zix_of, zfl_k, zup_k, zup_q, ks]
    refine ev_ci ce ?_
    refine ev_th _ (fun _ => ?_) (fun h => (h (by first | rfl | trivial)).elim)
    exact ev_bk g_X0_nameOf_n
  refine ev_th _ (fun _ => ?_) (fun _ => ?_)
  · refine ev_bk ?_
    have ce := ce 7 (by decide)
    rw [if_neg c7] at ce
    refine zat_in zP_X0_nameOf zk_X0_nameOf_150 ?_
    simp (disch := omega) only [b_X0_nameOf_150, zif, zdr, zkb, mK_wi, mN_wi, mJ_wi, mI_wi, sI_wi, beq_self_eq_true, Bool.true_or, Bool.or_true, Bool.or_false, Bool.and_self, Bool.and_true, Bool.true_and, ↓reduceIte, ble_up0, i_cl, i_succ, zix_of, zfl_k, zup_k, zup_q, ks]
    refine ev_ci ce ?_
    refine ev_th _ (fun _ => ?_) (fun h => (h (by first | rfl | trivial)).elim)
    exact ev_bk g_X0_nameOf_n
  refine ev_th _ (fun _ => ?_) (fun _ => ?_)
  · refine ev_bk ?_
    have ce := ce 13 (by decide)
    rw [if_neg c13] at ce
    refine zat_in zP_X0_nameOf zk_X0_nameOf_237 ?_
    simp (disch := omega) only [b_X0_nameOf_237, zif, zdr, zkb, mK_wi, mN_wi, mJ_wi, mI_wi, sI_wi, beq_self_eq_true, Bool.true_or, Bool.or_true, Bool.or_false, Bool.and_self, Bool.and_true, Bool.true_and, ↓reduceIte, ble_up0, i_cl, i_succ, zix_of, zfl_k, zup_k, zup_q, ks]
    refine ev_ci ce ?_
    refine ev_th _ (fun _ => ?_) (fun h => (h (by first | rfl | trivial)).elim)
    exact ev_bk g_X0_nameOf_n
  refine ev_th _ (fun _ => ?_) (fun _ => ?_)
  · refine ev_bk ?_
    have ce := ce 5 (by decide)
    rw [if_neg c5] at ce
    refine zat_in zP_X0_nameOf zk_X0_nameOf_122 ?_
    simp (disch := omega) only [b_X0_nameOf_122, zif, zdr, zkb, mK_wi, mN_wi, mJ_wi, mI_wi, sI_wi, beq_self_eq_true, Bool.true_or, Bool.or_true, Bool.or_false, Bool.and_self, Bool.and_true, Bool.true_and, ↓reduceIte, ble_up0, i_cl, i_succ, zix_of, zfl_k, zup_k, zup_q, ks]
    refine ev_ci ce ?_
    refine ev_th _ (fun _ => ?_) (fun h => (h (by first | rfl | trivial)).elim)
    exact ev_bk g_X0_nameOf_n
  refine ev_th _ (fun _ => ?_) (fun _ => ?_)
  · refine ev_bk ?_
    have ce := ce 6 (by decide)
    rw [if_neg c6] at ce
    refine zat_in zP_X0_nameOf zk_X0_nameOf_136 ?_
    simp (disch := omega) only [b_X0_nameOf_136, zif, zdr, zkb, mK_wi, mN_wi, mJ_wi, mI_wi, sI_wi, beq_self_eq_true, Bool.true_or, Bool.or_true, Bool.or_false, Bool.and_self, Bool.and_true, Bool.true_and, ↓reduceIte, ble_up0, i_cl, i_succ, zix_of, zfl_k, zup_k, zup_q, ks]
    refine ev_ci ce ?_
    refine ev_th _ (fun _ => ?_) (fun h => (h (by first | rfl | trivial)).elim)
    exact ev_bk g_X0_nameOf_n
  refine ev_th _ (fun _ => ?_) (fun _ => ?_)
  · refine ev_bk ?_
    have ce := ce 9 (by decide)
    rw [if_neg c9] at ce
    refine zat_in zP_X0_nameOf zk_X0_nameOf_178 ?_
    simp (disch := omega) only [b_X0_nameOf_178, zif, zdr, zkb, mK_wi, mN_wi, mJ_wi, mI_wi, sI_wi, beq_self_eq_true, Bool.true_or, Bool.or_true, Bool.or_false, Bool.and_self, Bool.and_true, Bool.true_and, ↓reduceIte, ble_up0, i_cl, i_succ, zix_of, zfl_k, zup_k, zup_q, ks]
    refine ev_ci ce ?_
    refine ev_th _ (fun _ => ?_) (fun h => (h (by first | rfl | trivial)).elim)
    exact ev_bk g_X0_nameOf_n
  exact ev_bk g_X0_nameOf_n
end
