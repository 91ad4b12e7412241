/-! ===== plan (class) ===== -/
set_option maxRecDepth 100000
section
variable {E : zE} {d B : Nat} {S : zM} {I : Nat → Nat → Int32} {G : zGl} {n : Int32}
theorem oPlan_e {f : zFl} (hn : ¬ tin n 0 (gU G 0 0) = 0) (h : pPl (gX G n) 12 pD0 0 0 = Sum.inl f) : oPlan G n = (-1, sU G (uTk (gU G) 4 (Int32.ofNat f.2) f.1)) := by
  unfold oPlan
  rw [if_neg hn, h]
theorem oPlan_8 {r : zPL × Nat} (hn : ¬ tin n 0 (gU G 0 0) = 0) (h : pPl (gX G n) 12 pD0 0 0 = Sum.inr r) (h8 : gp G = 8) : oPlan G n = (-1, sU G (uTk (gU G) 3 (-1) 0)) := by
  unfold oPlan
  rw [if_neg hn, h]
  exact if_pos h8
theorem oPlan_1 {r : zPL × Nat} (hn : ¬ tin n 0 (gU G 0 0) = 0) (h : pPl (gX G n) 12 pD0 0 0 = Sum.inr r) (h8 : ¬ gp G = 8) : oPlan G n = (Int32.ofNat (gp G), sPl (sU G (uTk (gU G) 0 (-1) 0)) (ins (gL G) r.1 (gp G) r.2) (gp G + 1)) := by
  unfold oPlan
  rw [if_neg hn, h]
  exact if_neg h8
/-- the numbers are new, what was read is garbage -/
theorem XG.rd {S' : zM} {I0 I' J : Nat → Nat → Int32} {U' : zT} {c u : Nat} (h : XG S I B G) (hi : IG G) (hm : B + 466 ≤ mS S) (hz : ∀ a, mS S ≤ a → mK S a = 0) (h0 : ∀ a k, ¬ (a = B ∧ (k = 1 ∨ k = 13 ∨ k = 14 ∨ k = 15)) → ¬ (B + 2 ≤ a ∧ a ≤ B + 4) → I0 a k = I a k) (hf : rFr B (mS S) c u S S' I0 I') (hJ : ∀ a k, ¬ (a = B ∧ (k = 1 ∨ k = 13 ∨ k = 14 ∨ k = 15)) → a ≠ B + 317 → J a k = I' a k) (hu : J B 1 = U' 0 0 ∧ J B 13 = U' 0 1 ∧ J B 15 = U' 0 2 ∧ J B 14 = U' 0 3) (ht : ∀ j, j < 400 → U' 1 j = gU G 1 j) : XG S' J B (sU G U') := by
  obtain ⟨f1, f2, f3, f4, f5⟩ := hf
  exact h.mvU hi hm (fun a l1 l2 => f2 a l2) (fun a k l1 l2 l3 _ _ _ => f3 a k l2 l3) (fun a k l1 l2 l3 l4 l5 l6 l7 => (hJ a k l5 l6).trans ((f4 a k l2 l4 (fun q => absurd q l7)).trans (h0 a k l5 l4))) hz hu ht
theorem xFr.rd {S' : zM} {I0 I' J : Nat → Nat → Int32} {c u : Nat} (hm : B + 466 ≤ mS S) (hk : ∀ a, B + 318 ≤ a → a < B + 466 → mK S a ≠ 17) (h0 : ∀ a k, ¬ (a = B ∧ (k = 1 ∨ k = 13 ∨ k = 14 ∨ k = 15)) → ¬ (B + 2 ≤ a ∧ a ≤ B + 4) → I0 a k = I a k) (hf : rFr B (mS S) c u S S' I0 I') (hJ : ∀ a k, ¬ (a = B ∧ (k = 1 ∨ k = 13 ∨ k = 14 ∨ k = 15)) → a ≠ B + 317 → J a k = I' a k) : xFr B c u S S' I J := by
  obtain ⟨f1, f2, f3, f4, f5⟩ := hf
  refine ⟨f1, f2, fun a k ha => ⟨f3 a k (by omega) (by omega), ?_⟩, f5⟩
  refine (hJ a k (by omega) (by omega)).trans ((f4 a k (by omega) (by omega) (fun q => ?_)).trans (h0 a k (by omega) (by omega)))
  rcases ha with ha | ha
  · exact ha
  · exact absurd q (hk a ha.1 ha.2)
theorem sp_X0_plan (hB : E.1 ≤ B) (h : XG S I B G) (hi : IG G) (hT : xTX E S I B) (hm : B + 466 ≤ mS S) (hz : ∀ a, mS S ≤ a → mK S a = 0) (hk : ∀ a, B + 318 ≤ a → a < B + 466 → mK S a ≠ 17) : ∃ S' I', zCl E (d + 9) 37 [zr (some B), zi n] (zwi S I) (Sum.inl (some (zi (oPlan G n).1)), zwi S' I') ∧ XG S' I' B (oPlan G n).2 ∧ xFr B 784 3926 S S' I I' := by
  have hcs := h.1
  obtain ⟨b0, ⟨b3, b4, b5⟩, hwn, hwk, hal, ⟨b7, bk7, bn7⟩, ⟨b8, bk8, bn8⟩, ⟨b9, bk9, bn9⟩, ⟨b12, bk12⟩, ⟨ba0, bka0, bna0⟩, b2, bk2, ⟨br0, brk0⟩, br1, br2, brk2, brn2⟩ := id hcs
  have e0 := @b_X0_plan_0
  by_cases hn : tin n 0 (gU G 0 0) = 0
  · have ho : oPlan G n = (-1, gtr G 2 (-1)) := if_pos hn
    rw [ho]
    have ct := sp_X0_takes_0 (E := E) (d := d + 7) hB h hn
    refine ⟨S, zup (zup (zup I B 13 0) B 15 (-1)) B 13 2, ?_, ?_, ⟨Nat.le_refl _, by omega, by omega⟩, fun _ _ => ⟨rfl, rfl⟩, fun a k ha => ⟨rfl, by simp (disch := omega) only [zfl_k, zfl_q, zup_k, zup_q]⟩, hz⟩
    · refine zcl_in' zP_X0_plan ?_; rw [zn_2_4]
      refine zat_in zP_X0_plan zk_X0_plan_0 ?_
      simp (disch := omega) only [e0, zif, zdr, zkb, mK_wi, mN_wi, mJ_wi, mI_wi, sI_wi, beq_self_eq_true, Bool.true_or, Bool.or_true, Bool.or_false, Bool.and_self, Bool.and_true, Bool.true_and, ↓reduceIte, ble_up0, i_cl, i_succ, zix_of, zfl_k, zup_k, zup_q, b0]
      refine ev_ci ct ?_
      refine ev_th _ (fun _ => ?_) (fun h => (h (by first | rfl | trivial)).elim)
      exact ev_r
    · exact h.tr hi (by simp (disch := omega) only [zfl_k, zfl_q, zup_k, zup_q]) (by simp (disch := omega) only [zfl_k, zfl_q, zup_k, zup_q]) (fun a k h1 h2 h3 h4 h5 => by simp (disch := omega) only [zfl_k, zfl_q, zup_k, zup_q])
  · obtain ⟨S1, I1, a1, R1, f1⟩ := sp_X0_takes_1 (d := d + 2) hB h hi hT hm hz hn
    have h0 : ∀ a k, ¬ (a = B ∧ (k = 1 ∨ k = 13 ∨ k = 14 ∨ k = 15)) → ¬ (B + 2 ≤ a ∧ a ≤ B + 4) → (zup (zup (zup (zup (zup (zup I B 13 0) B 15 (-1)) B 1 0) B 14 0) (B + 2) 3 n) (B + 2) 4 0) a k = I a k := fun a k q1 q2 => by simp (disch := omega) only [zfl_k, zfl_q, zup_k, zup_q]
    have hm1 := f1.1.1
    -- the new plan
    have R2 := R1.al (κ := 10) (n := 0) (w := 2)
    have g2 := rFr.al (B := B) (S := S1) (I := I1) (κ := 10) (n := 0) (w := 2) R1.2.2.2.2.1
    have R3 := R2.al (κ := 108) (n := 12) (w := 12)
    have g3 := rFr.al (B := B) (S := zal S1 10 0 2) (I := zwn I1 (mS S1)) (κ := 108) (n := 12) (w := 12) R2.2.2.2.2.1
    have K3 : ∀ a, mK (zal (zal S1 10 0 2) 108 12 12) a = if a = mS S1 + 1 then 108 else if a = mS S1 then 10 else mK S1 a := fun _ => rfl
    have N3 : ∀ a, mN (zal (zal S1 10 0 2) 108 12 12) a = if a = mS S1 + 1 then 12 else if a = mS S1 then 0 else mN S1 a := fun _ => rfl
    have k10 : mK (zal (zal S1 10 0 2) 108 12 12) (mS S1) = 10 := by rw [K3, if_neg (by omega), if_pos rfl]
    have k108 : mK (zal (zal S1 10 0 2) 108 12 12) (mS S1 + 1) = 108 := by rw [K3, if_pos rfl]
    have R4 : xRD E (sJ (zal (zal S1 10 0 2) 108 12 12) (mS S1) 0 (some (mS S1 + 1))) (zwn (zwn I1 (mS S1)) (mS S1 + 1)) B (gX G n) 0 := R3.fx (Nat.le_refl _) (fun _ _ => ⟨rfl, rfl⟩) (fun a i ha hk => if_neg (fun z => by
      rcases hk with hk | hk
      · omega
      · rw [z.1, k10] at hk
        omega)) (fun _ _ _ _ => rfl) R3.2.2.2.2.1
    have g4 : rFr B (mS S1) 0 0 (zal (zal S1 10 0 2) 108 12 12) (sJ (zal (zal S1 10 0 2) 108 12 12) (mS S1) 0 (some (mS S1 + 1))) (zwn (zwn I1 (mS S1)) (mS S1 + 1)) (zwn (zwn I1 (mS S1)) (mS S1 + 1)) := ⟨⟨Nat.le_refl _, Nat.le_refl _, Nat.le_refl _⟩, fun _ _ => ⟨rfl, rfl⟩, fun a i ha _ => if_neg (by omega), fun _ _ _ _ _ => rfl, R3.2.2.2.2.1⟩
    have gA := (g2.tr (g3.wd (show mS S1 ≤ mS S1 + 1 by omega) (Nat.le_refl _) (Nat.le_refl _))).tr g4
    have P4 : xPp (sJ (zal (zal S1 10 0 2) 108 12 12) (mS S1) 0 (some (mS S1 + 1))) (zwn (zwn I1 (mS S1)) (mS S1 + 1)) (B + 466) (mS S1) (mS S1 + 1) 0 pD0 := by
      refine ⟨⟨by omega, show mS S1 < mS S1 + 1 + 1 by omega, k10, ?_, by omega⟩, ⟨by omega, show mS S1 + 1 < mS S1 + 1 + 1 by omega, by omega, if_pos ⟨rfl, rfl⟩, k108, ?_⟩, fun j hj => absurd hj (by omega)⟩
      · rw [zwn_k (by omega), zwn_q rfl]
        rfl
      · show mN (zal (zal S1 10 0 2) 108 12 12) (mS S1 + 1) = 12
        rw [N3, if_pos rfl]
    have z12 : zsz 12 = true := by decide
    have t12 : Int32.toNatClampNeg 12 = 12 := by decide
    have ci : zCl E (d + 8) 188 [zr (some (mS S1))] (zwi (zal S1 10 0 2) (zwn I1 (mS S1))) (Sum.inl none, zwi (sJ (zal (zal S1 10 0 2) 108 12 12) (mS S1) 0 (some (mS S1 + 1))) (zwn (zwn I1 (mS S1)) (mS S1 + 1))) := by
      have e0 := @b_X9_init_0
      have ms1 : mS (zal S1 10 0 2) = mS S1 + 1 := rfl
      refine zcl_in' zP_X9_init ?_; rw [zn_1_1]
      refine zat_in zP_X9_init zk_X9_init_0 ?_
      simp (disch := omega) only [e0, zif, zdr, zkb, mK_wi, mN_wi, mJ_wi, mI_wi, sI_wi, beq_self_eq_true, Bool.true_or, Bool.or_true, Bool.or_false, Bool.and_self, Bool.and_true, Bool.true_and, ↓reduceIte, ble_up0, i_cl, i_succ, zix_of, zfl_k, zup_k, zup_q, z12, t12, al_wi, mS_wi, ms1, k10, sJ_wi]
      exact ev_r
    obtain ⟨x1, x2⟩ := sp_X9_read (d := d) (m := mS S1) hB (Nat.le_refl _) R4 P4 (show B + 466 ≤ mS S1 + 1 + 1 by omega) ⟨show mS S1 ≤ mS S1 + 1 + 1 by omega, by omega, by omega⟩
    -- what is the same in all that follows
    have e10 := @b_X0_plan_10
    have e48 := @b_X0_plan_48
    have kB4 : mK (sJ (zal (zal S1 10 0 2) 108 12 12) (mS S1) 0 (some (mS S1 + 1))) B = 1 := (gA.2.1 B (by omega)).1.trans ((f1.2.1 B (by omega)).1.trans b0)
    have jB4 : mJ (sJ (zal (zal S1 10 0 2) 108 12 12) (mS S1) 0 (some (mS S1 + 1))) B 2 = some (B + 2) := (gA.2.2.1 B 2 (by omega) (by omega)).trans ((f1.2.2.1 B 2 (by omega) (by omega)).trans b2)
    have k10' : mK (sJ (zal (zal S1 10 0 2) 108 12 12) (mS S1) 0 (some (mS S1 + 1))) (mS S1) = 10 := k10
    have st : ∀ w, zEv (fun n1 => zcv (zcfX E zPm n1 (d + 9) 189 [zr (some (mS S1)), zr (some (B + 2))] (zwi (sJ (zal (zal S1 10 0 2) 108 12 12) (mS S1) 0 (some (mS S1 + 1))) (zwn (zwn I1 (mS S1)) (mS S1 + 1)))) (fun q5 M6 => zif (mK M6 q5 == 3) (zX E zPm n1 (d + 9) 37 48 [some (zr (some B)), some (zi n), some (zr (some (mS S1))), none] [zr (some q5)] M6)) (fun M4 => zif (zkb (mK M4 B) [1]) (if 8 ≤ (mI M4 B 10) then zX E zPm n1 (d + 9) 37 40 [some (zr (some B)), some (zi n), some (zr (some (mS S1))), none] [zr (some B)] M4 else zX E zPm n1 (d + 9) 37 41 [some (zr (some B)), some (zi n), some (zr (some (mS S1))), none] [zi 1, zr (some B)] M4))) w → zCl E (d + 9) 37 [zr (some B), zi n] (zwi S I) w := by
      intro w hw
      refine zcl_in' zP_X0_plan ?_; rw [zn_2_4]
      refine zat_in zP_X0_plan zk_X0_plan_0 ?_
      simp (disch := omega) only [e0, zif, zdr, zkb, mK_wi, mN_wi, mJ_wi, mI_wi, sI_wi, beq_self_eq_true, Bool.true_or, Bool.or_true, Bool.or_false, Bool.and_self, Bool.and_true, Bool.true_and, ↓reduceIte, ble_up0, i_cl, i_succ, zix_of, zfl_k, zup_k, zup_q, b0]
      refine ev_ci a1 ?_
      refine ev_th _ (fun h => absurd h (by decide)) (fun _ => ?_)
      refine ev_bk ?_
      refine zat_in zP_X0_plan zk_X0_plan_10 ?_
      simp (disch := omega) only [e10, al_wi, mS_wi]
      refine ev_cv ci ?_
      try simp (disch := omega) only [zif, zdr, zkb, mK_wi, mN_wi, mJ_wi, mI_wi, sI_wi, beq_self_eq_true, Bool.true_or, Bool.or_true, Bool.or_false, Bool.and_self, Bool.and_true, Bool.true_and, ↓reduceIte, ble_up0, i_cl, i_succ, zix_of, zfl_k, zup_k, zup_q, kB4, jB4, k10']
      simp only [zif, zdr, zkb, mK_wi, mN_wi, mJ_wi, mI_wi, sI_wi, beq_self_eq_true, Bool.true_or, Bool.or_true, Bool.or_false, Bool.and_self, Bool.and_true, Bool.true_and, ↓reduceIte, ble_up0, i_cl, i_succ, zix_of, zfl_k, zup_k, zup_q] at hw
      try simp only [zif, zdr, zkb, mK_wi, mN_wi, mJ_wi, mI_wi, sI_wi, beq_self_eq_true, Bool.true_or, Bool.or_true, Bool.or_false, Bool.and_self, Bool.and_true, Bool.true_and, ↓reduceIte, ble_up0, i_cl, i_succ, zix_of, zfl_k, zup_k, zup_q]
      exact hw
    -- the refusal
    have ref : ∀ (S5 : zM) (I5 : Nat → Nat → Int32) (q : Nat) (v1 v2 v3 : Int32), mK S5 B = 1 → mK S5 q = 3 → q ≠ B → I5 q 6 = v1 → I5 q 7 = v2 → I5 q 8 = v3 → zAt E (d + 9) 37 48 [some (zr (some B)), some (zi n), some (zr (some (mS S1))), none] [zr (some q)] (zwi S5 I5) (Sum.inl (some (zi (-1))), zwi S5 (zup (zup (zup I5 B 14 v2) B 13 v1) B 15 v3)) := by
      intro S5 I5 q v1 v2 v3 y1 y2 y3 y4 y5 y6
      have cr := sp_X0_refuses (E := E) (d := d + 8) (S := S5) (I := zup I5 B 14 v2) hB y1 y2 y3
      rw [zup_k (by omega), zup_k (by omega), y4, y6] at cr
      refine zat_in zP_X0_plan zk_X0_plan_48 ?_
      simp (disch := omega) only [e48, zif, zdr, zkb, mK_wi, mN_wi, mJ_wi, mI_wi, sI_wi, beq_self_eq_true, Bool.true_or, Bool.or_true, Bool.or_false, Bool.and_self, Bool.and_true, Bool.true_and, ↓reduceIte, ble_up0, i_cl, i_succ, zix_of, zfl_k, zup_k, zup_q, y1, y2, y5]
      refine ev_ci cr ?_
      exact ev_r
    cases hp : pPl (gX G n) 12 pD0 0 0 with
    | inl s =>
      obtain ⟨f, p⟩ := s
      rw [oPlan_e hn hp]
      obtain ⟨S5, I5, a5, ⟨t1, t2, t3⟩, f5⟩ := x1 f p hp
      have fB := f1.tr ((gA.tr f5).wd hm1 (Nat.le_refl _) (Nat.le_refl _))
      have fB := fB.wd (Nat.le_refl _) (show _ ≤ 784 by omega) (show _ ≤ 3926 by omega)
      have kB := (fB.2.1 B (by omega)).1.trans b0
      have kq := (fB.2.1 (B + 3) (by omega)).1.trans brk0
      have jJ : ∀ a k, ¬ (a = B ∧ (k = 1 ∨ k = 13 ∨ k = 14 ∨ k = 15)) → a ≠ B + 317 → zup (zup (zup I5 B 14 f) B 13 4) B 15 (Int32.ofNat p) a k = I5 a k := fun a k q1 q2 => by simp (disch := omega) only [zfl_k, zfl_q, zup_k, zup_q]
      refine ⟨S5, zup (zup (zup I5 B 14 f) B 13 4) B 15 (Int32.ofNat p), st _ ?_, h.rd hi hm hz h0 fB jJ ⟨?_, ?_, ?_, ?_⟩ (fun _ _ => uTk_1), xFr.rd hm hk h0 fB jJ⟩
      · refine ev_cvx a5 ?_
        try simp (disch := omega) only [zif, zdr, zkb, mK_wi, mN_wi, mJ_wi, mI_wi, sI_wi, beq_self_eq_true, Bool.true_or, Bool.or_true, Bool.or_false, Bool.and_self, Bool.and_true, Bool.true_and, ↓reduceIte, ble_up0, i_cl, i_succ, zix_of, zfl_k, zup_k, zup_q, kq]
        exact ev_bk (ref S5 I5 (B + 3) 4 f (Int32.ofNat p) kB kq (by omega) t1 t2 t3)
      · rw [uTk_00]
        simp (disch := omega) only [zfl_k, zfl_q, zup_k, zup_q]
        rw [fB.2.2.2.1 B 1 (by omega) (by omega) (fun q => by rw [b0] at q; omega)]
        simp (disch := omega) only [zfl_k, zfl_q, zup_k, zup_q]
      · rw [uTk_01]
        simp (disch := omega) only [zfl_k, zfl_q, zup_k, zup_q]
      · rw [uTk_02]
        simp (disch := omega) only [zfl_k, zfl_q, zup_k, zup_q]
      · rw [uTk_03]
        simp (disch := omega) only [zfl_k, zfl_q, zup_k, zup_q]
    | inr s =>
      obtain ⟨D', k⟩ := s
      obtain ⟨S5, I5, a5, P5, f5⟩ := x2 D' k hp
      have fB := f1.tr ((gA.tr f5).wd hm1 (Nat.le_refl _) (Nat.le_refl _))
      have fB := fB.wd (Nat.le_refl _) (show _ ≤ 784 by omega) (show _ ≤ 3926 by omega)
      have kB := (fB.2.1 B (by omega)).1.trans b0
      have kq := (fB.2.1 (B + 317) (by omega)).1.trans bk12
      have j12 := (fB.2.2.1 B 12 (by omega) (by omega)).trans b12
      have iB : ∀ i, I5 B i = (zup (zup (zup (zup (zup (zup I B 13 0) B 15 (-1)) B 1 0) B 14 0) (B + 2) 3 n) (B + 2) 4 0) B i := fun i => fB.2.2.2.1 B i (by omega) (by omega) (fun q => by rw [b0] at q; omega)
      have e10' : I5 B 10 = Int32.ofNat (gp G) := by
        rw [iB]
        simp (disch := omega) only [zfl_k, zfl_q, zup_k, zup_q]
        exact h.2.1.2.2.1
      have hp8 := hi.2.2.1
      have l8 : ((8 : Int32) ≤ Int32.ofNat (gp G)) = (8 ≤ gp G) := i_le8 (by omega)
      by_cases c8 : gp G = 8
      · rw [oPlan_8 hn hp c8]
        have d8 : (8 ≤ gp G) = True := eq_true (by omega)
        have jJ : ∀ a k, ¬ (a = B ∧ (k = 1 ∨ k = 13 ∨ k = 14 ∨ k = 15)) → a ≠ B + 317 → (zup (zup (zup (zup (zup (zup I5 (B + 317) 6 3) (B + 317) 7 0) (B + 317) 8 (-1)) B 14 0) B 13 3) B 15 (-1)) a k = I5 a k := fun a k q1 q2 => by simp (disch := omega) only [zfl_k, zfl_q, zup_k, zup_q]
        refine ⟨S5, zup (zup (zup (zup (zup (zup I5 (B + 317) 6 3) (B + 317) 7 0) (B + 317) 8 (-1)) B 14 0) B 13 3) B 15 (-1), st _ ?_, h.rd hi hm hz h0 fB jJ ⟨?_, ?_, ?_, ?_⟩ (fun _ _ => uTk_1), xFr.rd hm hk h0 fB jJ⟩
        · refine ev_cv a5 ?_
          try simp (disch := omega) only [zif, zdr, zkb, mK_wi, mN_wi, mJ_wi, mI_wi, sI_wi, beq_self_eq_true, Bool.true_or, Bool.or_true, Bool.or_false, Bool.and_self, Bool.and_true, Bool.true_and, ↓reduceIte, ble_up0, i_cl, i_succ, zix_of, zfl_k, zup_k, zup_q, kB, e10', l8, d8]
          refine ev_bk ?_
          have e40 := @b_X0_plan_40
          refine zat_in zP_X0_plan zk_X0_plan_40 ?_
          simp only [e40]
          refine ev_tl zP_X0_plan zk_X0_plan_41 ?_
          have cm := sp_X0_must0 (E := E) (d := d + 7) (S := S5) (I := I5) (x := 0) (y := 3) hB kB j12 kq (eq_true rfl)
          refine zat_in zP_X0_plan zk_X0_plan_41 ?_
          simp (disch := omega) only [b_X0_plan_41, zif, zdr, zkb, mK_wi, mN_wi, mJ_wi, mI_wi, sI_wi, beq_self_eq_true, Bool.true_or, Bool.or_true, Bool.or_false, Bool.and_self, Bool.and_true, Bool.true_and, ↓reduceIte, ble_up0, i_cl, i_succ, zix_of, zfl_k, zup_k, zup_q, kB]
          refine ev_cvx cm ?_
          try simp (disch := omega) only [zif, zdr, zkb, mK_wi, mN_wi, mJ_wi, mI_wi, sI_wi, beq_self_eq_true, Bool.true_or, Bool.or_true, Bool.or_false, Bool.and_self, Bool.and_true, Bool.true_and, ↓reduceIte, ble_up0, i_cl, i_succ, zix_of, zfl_k, zup_k, zup_q, kq]
          exact ev_bk (ref S5 _ (B + 317) 3 0 (-1) kB kq (by omega) (by simp (disch := omega) only [zfl_k, zfl_q, zup_k, zup_q]) (by simp (disch := omega) only [zfl_k, zfl_q, zup_k, zup_q]) (by simp (disch := omega) only [zfl_k, zfl_q, zup_k, zup_q]))
        · rw [uTk_00]
          simp (disch := omega) only [zfl_k, zfl_q, zup_k, zup_q]
          rw [iB]
          simp (disch := omega) only [zfl_k, zfl_q, zup_k, zup_q]
        · rw [uTk_01]
          simp (disch := omega) only [zfl_k, zfl_q, zup_k, zup_q]
        · rw [uTk_02]
          simp (disch := omega) only [zfl_k, zfl_q, zup_k, zup_q]
        · rw [uTk_03]
          simp (disch := omega) only [zfl_k, zfl_q, zup_k, zup_q]
      · rw [oPlan_1 hn hp c8]
        have d8 : (8 ≤ gp G) = False := eq_false (by omega)
        have X5 : XG S5 I5 B (sU G (uTk (gU G) 0 (-1) 0)) := by
          refine h.rd hi hm hz h0 fB (J := I5) (fun _ _ _ _ => rfl) ⟨?_, ?_, ?_, ?_⟩ (fun _ _ => uTk_1)
          · rw [uTk_00, iB]
            simp (disch := omega) only [zfl_k, zfl_q, zup_k, zup_q]
          · rw [uTk_01, iB]
            simp (disch := omega) only [zfl_k, zfl_q, zup_k, zup_q]
          · rw [uTk_02, iB]
            simp (disch := omega) only [zfl_k, zfl_q, zup_k, zup_q]
          · rw [uTk_03, iB]
            simp (disch := omega) only [zfl_k, zfl_q, zup_k, zup_q]
        have hi5 : IG (sU G (uTk (gU G) 0 (-1) 0)) := ⟨hi.1, hi.2.1, hi.2.2.1, hi.2.2.2.1, by
          show sm (uTk (gU G) 0 (-1) 0 0 0) 400
          rw [uTk_00]
          exact sm_of (a := 0) (by omega) (by omega)⟩
        have X6 := X5.pl hi5 P5 (show gp G < 8 by omega)
        have fX : xFr B 784 3926 S S5 I I5 := xFr.rd hm hk h0 fB (fun _ _ _ _ => rfl)
        refine ⟨_, _, st _ ?_, X6, ⟨fX.1, fX.2.1, fun a i ha => ⟨(if_neg (by omega)).trans (fX.2.2.1 a i ha).1, (zup_k (by omega)).trans (fX.2.2.1 a i ha).2⟩, fX.2.2.2⟩⟩
        have j7 := (fB.2.2.1 B 7 (by omega) (by omega)).trans b7
        have k7 := (fB.2.1 (B + 314) (by omega)).1.trans bk7
        have n7 := (fB.2.1 (B + 314) (by omega)).2.trans bn7
        have kpa := P5.1.2.2.1
        refine ev_cv a5 ?_
        try simp (disch := omega) only [zif, zdr, zkb, mK_wi, mN_wi, mJ_wi, mI_wi, sI_wi, beq_self_eq_true, Bool.true_or, Bool.or_true, Bool.or_false, Bool.and_self, Bool.and_true, Bool.true_and, ↓reduceIte, ble_up0, i_cl, i_succ, zix_of, zfl_k, zup_k, zup_q, kB, e10', l8, d8]
        refine ev_bk ?_
        have cm := sp_X0_must1 (E := E) (d := d + 8) (S := S5) (I := I5) (B := B) (x := 1) (y := 3) kB i10
        refine zat_in zP_X0_plan zk_X0_plan_41 ?_
        simp (disch := omega) only [b_X0_plan_41, zif, zdr, zkb, mK_wi, mN_wi, mJ_wi, mI_wi, sI_wi, beq_self_eq_true, Bool.true_or, Bool.or_true, Bool.or_false, Bool.and_self, Bool.and_true, Bool.true_and, ↓reduceIte, ble_up0, i_cl, i_succ, zix_of, zfl_k, zup_k, zup_q, kB]
        refine ev_cv cm ?_
        refine ev_bk ?_
        have hz8 : zix (Int32.ofNat (gp G)) 8 = true := zix_of (by omega) (by omega)
        refine zat_in zP_X0_plan zk_X0_plan_63 ?_
        simp (disch := omega) only [b_X0_plan_63, zif, zdr, zkb, mK_wi, mN_wi, mJ_wi, mI_wi, sI_wi, beq_self_eq_true, Bool.true_or, Bool.or_true, Bool.or_false, Bool.and_self, Bool.and_true, Bool.true_and, ↓reduceIte, ble_up0, i_cl, i_succ, zix_of, zfl_k, zup_k, zup_q, kB, j7, k7, n7, kpa, e10', hz8, sJ_wi, mK_sJ]
        refine ev_tl zP_X0_plan zk_X0_plan_83 ?_
        have e83 := @b_X0_plan_83
        have es : Int32.ofNat (gp G + 1) - 1 = Int32.ofNat (gp G) := i_subL (b := 1) (by omega) (by omega)
        refine zat_in zP_X0_plan zk_X0_plan_83 ?_
        simp (disch := omega) only [e83, zif, zdr, zkb, mK_wi, mN_wi, mJ_wi, mI_wi, sI_wi, beq_self_eq_true, Bool.true_or, Bool.or_true, Bool.or_false, Bool.and_self, Bool.and_true, Bool.true_and, ↓reduceIte, ble_up0, i_cl, i_succ, zix_of, zfl_k, zup_k, zup_q, mK_sJ, kB, es]
        exact ev_r
end
