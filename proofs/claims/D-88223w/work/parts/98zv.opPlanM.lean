/-! ===== plan (model) ===== -/
set_option maxRecDepth 100000
section
variable {S : zM} {g : Nat → Nat → Int64} {I J : Nat → Nat → Int32} {w p k : Nat} {G : zGl} {L D : zPL}
theorem MG.gw (h : MG S I w G) : MG (zwg S g) I w G := h
theorem mPl.keepI (h : mPl I w p L) {q : Nat} (hq : p ≠ q) : mPl I w p (ins L D q k) := by
  obtain ⟨h1, h2, h3⟩ := h
  refine ⟨by rw [ins_no hq]; exact h1, by rw [ins_no hq]; exact h2, fun r hr => ?_⟩
  rw [ins_no hq] at hr
  obtain ⟨a1, a2, a3, a4⟩ := h3 r hr
  refine ⟨?_, ?_, ?_, fun j hj => ?_⟩
  · rw [ins_ao hq (by omega)]
    exact a1
  · rw [ins_to hq (by omega)]
    exact a2
  · rw [ins_to hq (by omega)]
    exact a3
  · rw [ins_to hq (by omega)] at hj
    rw [ins_ro hq (by omega) (by omega) (by omega), ins_ro hq (by omega) (by omega) (by omega), ins_ro hq (by omega) (by omega) (by omega)]
    exact a4 j hj
theorem mPp.pl (h : mPp I w p k D) : mPl I w p (ins L D p k) := by
  obtain ⟨h1, h2, h3⟩ := h
  refine ⟨by rw [ins_n]; exact h1, by rw [ins_n]; exact h2, fun r hr => ?_⟩
  rw [ins_n] at hr
  obtain ⟨a1, a2, a3, a4⟩ := h3 r hr
  refine ⟨?_, ?_, ?_, fun j hj => ?_⟩
  · rw [ins_a (by omega)]
    exact a1
  · rw [ins_t (by omega)]
    exact a2
  · rw [ins_t (by omega)]
    exact a3
  · rw [ins_t (by omega)] at hj
    rw [ins_r (by omega) (by omega) (by omega), ins_r (by omega) (by omega) (by omega), ins_r (by omega) (by omega) (by omega)]
    exact a4 j hj
/-- the model's numbers are new, what was read is garbage -/
theorem MG.rd {U' : zT} (h : MG S I w G) (hi : IG G) (hf : ∀ a k, w ≤ a → a < w + 148 → ¬ (a = w ∧ (k ≤ 3 ∨ k = 23 ∨ 24 ≤ k ∧ k ≤ 29)) → a ≠ w + 19 → ¬ (a = w + 21 ∧ k = gp G) → ¬ ((a = w + 22 ∨ a = w + 23) ∧ 12 * gp G ≤ k ∧ k < 12 * gp G + 12) → ¬ (w + 24 ≤ a ∧ a ≤ w + 26 ∧ 48 * gp G ≤ k ∧ k < 48 * gp G + 48) → ¬ (a = w + 27 ∧ 4 * gn G ≤ k) → J a k = I a k) (hu : J w 23 = U' 0 0 ∧ J w 1 = U' 0 1 ∧ J w 2 = U' 0 2 ∧ J w 3 = U' 0 3) (ht : ∀ j, j < 400 → U' 1 j = gU G 1 j) : MG S J w (sU G U') := by
  obtain ⟨h1, ⟨-, s6, s7, s8⟩, h3, ⟨h4, h4'⟩, h5, h6⟩ := h
  have e : ∀ i, ¬ (i ≤ 3 ∨ i = 23 ∨ 24 ≤ i ∧ i ≤ 29) → J w i = I w i := fun i q => hf w i (by omega) (by omega) (by omega) (by omega) (by omega) (by omega) (by omega) (by omega)
  refine ⟨h1, ⟨hu, (e 31 (by omega)).trans s6, (e 38 (by omega)).trans s7, fun j hj => ?_⟩, h3.fr' hi.1.1.2.1 (fun a j q1 q2 q3 => hf a j (by omega) (by omega) (by omega) (by omega) (by omega) (by omega) (by omega) (by omega)), ⟨fun q => (h4 q).fr' hi.2.1.1.2.1 (fun a j q1 q2 q3 => hf a j (by omega) (by omega) (by omega) (by omega) (by omega) (by omega) (by omega) (by omega)), fun q => (e 12 (by omega)).trans (h4' q)⟩, fun p hp => ?_, fun i hi2 j hj => ?_⟩
  · exact (hf _ _ (by omega) (by omega) (by omega) (by omega) (by omega) (by omega) (by omega) (by omega)).trans ((s8 j hj).trans (ht j hj).symm)
  · have hp : p < gp G := hp
    obtain ⟨a1, a2, a3⟩ := h5 p hp
    refine ⟨(hf _ _ (by omega) (by omega) (by omega) (by omega) (by omega) (by omega) (by omega) (by omega)).trans a1, a2, fun r hr => ?_⟩
    have hr : r < pnr (gL G) p := hr
    obtain ⟨b1, b2, b3, b4⟩ := a3 r hr
    refine ⟨(hf _ _ (by omega) (by omega) (by omega) (by omega) (by omega) (by omega) (by omega) (by omega)).trans b1, (hf _ _ (by omega) (by omega) (by omega) (by omega) (by omega) (by omega) (by omega) (by omega)).trans b2, b3, fun k hk => ?_⟩
    have hk : k < pnt (gL G) (12 * p + r) := hk
    obtain ⟨c1, c2, c3⟩ := b4 k hk
    exact ⟨(hf _ _ (by omega) (by omega) (by omega) (by omega) (by omega) (by omega) (by omega) (by omega)).trans c1, (hf _ _ (by omega) (by omega) (by omega) (by omega) (by omega) (by omega) (by omega) (by omega)).trans c2, (hf _ _ (by omega) (by omega) (by omega) (by omega) (by omega) (by omega) (by omega) (by omega)).trans c3⟩
  · have hi2 : i < gn G := hi2
    exact (hf _ _ (by omega) (by omega) (by omega) (by omega) (by omega) (by omega) (by omega) (by omega)).trans (h6 i hi2 j hj)
theorem MG.pl (h : MG S I w G) (hi : IG G) (hp : mPp I w (gp G) k D) : MG S (zup I w 31 (Int32.ofNat (gp G + 1))) w (sPl G (ins (gL G) D (gp G) k) (gp G + 1)) := by
  obtain ⟨h1, ⟨⟨s1, s2, s3, s4⟩, s6, s7, s8⟩, h3, ⟨h4, h4'⟩, h5, h6⟩ := h
  have e : ∀ a i, ¬ (a = w ∧ i = 31) → zup I w 31 (Int32.ofNat (gp G + 1)) a i = I a i := fun a i q => zup_k q
  refine ⟨h1, ⟨⟨(e _ _ (by omega)).trans s1, (e _ _ (by omega)).trans s2, (e _ _ (by omega)).trans s3, (e _ _ (by omega)).trans s4⟩, zup_q _ _ _ _, (e _ _ (by omega)).trans s7, fun j hj => (e _ _ (by omega)).trans (s8 j hj)⟩, h3.fr' hi.1.1.2.1 (fun a j q1 q2 q3 => e a j (by omega)), ⟨fun q => (h4 q).fr' hi.2.1.1.2.1 (fun a j q1 q2 q3 => e a j (by omega)), fun q => (e _ _ (by omega)).trans (h4' q)⟩, fun p hp2 => ?_, fun i hi2 j hj => (e _ _ (by omega)).trans (h6 i hi2 j hj)⟩
  have hp2 : p < gp G + 1 := hp2
  by_cases q : p = gp G
  · subst q
    exact mPl.fr (fun a k l1 l2 => e a k (by omega)) hp.pl
  · exact mPl.fr (fun a k l1 l2 => e a k (by omega)) ((h5 p (by omega)).keepI q)
end
section
variable {E : zE} {d w : Nat} {S : zM} {I : Nat → Nat → Int32} {G : zGl} {n : Int32}
/-- the text is begun: its first token -/
theorem sp_X6_start (hB : E.1 ≤ w) (h : MG S I w G) (hT : xTX E S I w) (hn : n = Int32.ofNat (nn n)) (n3 : nn n ≤ 400) : ∃ g' I', zCl E (d + 2) 126 [zr (some w), zi n] (zwi S I) (Sum.inl none, zwi (zwg S g') I') ∧ mRD E S g' I' w (gX G n) 0 ∧ mFr w (zup (zup (zup (zup I w 24 n) w 23 0) w 25 0) w 3 0) I' := by
  have hcs := h.1
  obtain ⟨hwn, hwk, hps, ⟨m20, hot⟩, ⟨m21, mk21⟩, ⟨m22, mk22, mn22⟩, m39, mk39, mn39⟩ := id hcs
  have w0 := hwn.1.1
  have RI : mRI (zup (zup (zup (zup I w 24 n) w 23 0) w 25 0) w 3 0) w (gX G n) := by
    refine ⟨?_, fun j hj => ?_⟩
    · simp (disch := omega) only [zfl_k, zfl_q, zup_k, zup_q]
      exact hn
    · simp (disch := omega) only [zfl_k, zfl_q, zup_k, zup_q]
      exact h.2.1.2.2.2 j hj
  obtain ⟨g1, I1, a1, b1, f1⟩ := sp_X6_next (E := E) (d := d) (g := mG S) (S := S) (X := gX G n) (e := 0) hB ⟨w0, m22, mk22, mn22⟩ n3 RI (by simp (disch := omega) only [zfl_k, zfl_q, zup_k, zup_q]; rfl) (Nat.zero_le _)
  refine ⟨g1, I1, ?_, ⟨⟨⟨w0, m22, mk22, mn22⟩, m21, mk21⟩, hT.frI (fun a k q => ?_), b1, Nat.zero_le _⟩, f1⟩
  · have e0 := @b_X6_start_0
    have a1 : zCl E (d + 1) 127 [zr (some w)] (zwi S (zup (zup (zup (zup I w 24 n) w 23 0) w 25 0) w 3 0)) (Sum.inl none, zwi (zwg S g1) I1) := a1
    refine zcl_in' zP_X6_start ?_; rw [zn_2_2]
    refine zat_in zP_X6_start zk_X6_start_0 ?_
    simp (disch := omega) only [e0, zif, zdr, zkb, mK_wi, mN_wi, mJ_wi, mI_wi, sI_wi, beq_self_eq_true, Bool.true_or, Bool.or_true, Bool.or_false, Bool.and_self, Bool.and_true, Bool.true_and, ↓reduceIte, ble_up0, i_cl, i_succ, zix_of, zfl_k, zup_k, zup_q, w0]
    refine ev_cv a1 ?_
    exact ev_r
  · rw [f1 a k (by omega)]
    simp (disch := omega) only [zfl_k, zfl_q, zup_k, zup_q]
theorem sp_X6_wrong {q : Nat} {f : Int32} {p : Nat} (hB : E.1 ≤ w) (w0 : mK S w = 7) (k9 : mK S q = 9) (hq : q ≠ w) (h6 : I q 6 = f) (h7 : I q 7 = Int32.ofNat p) : zCl E d 140 [zr (some w), zr (some q)] (zwi S I) (Sum.inl (some (zi (-1))), zwi S (zup (zup (zup I w 3 f) w 1 4) w 2 (Int32.ofNat p))) := by
  have e0 := @b_X6_wrong_0
  have e21 := @b_X6_wrong_21
  refine zcl_in' zP_X6_wrong ?_; rw [zn_2_2]
  refine zat_in zP_X6_wrong zk_X6_wrong_0 ?_
  simp (disch := omega) only [e0, zif, zdr, zkb, mK_wi, mN_wi, mJ_wi, mI_wi, sI_wi, beq_self_eq_true, Bool.true_or, Bool.or_true, Bool.or_false, Bool.and_self, Bool.and_true, Bool.true_and, ↓reduceIte, ble_up0, i_cl, i_succ, zix_of, zfl_k, zup_k, zup_q, w0, k9, h6, h7]
  refine ev_tl zP_X6_wrong zk_X6_wrong_21 ?_
  refine zat_in zP_X6_wrong zk_X6_wrong_21 ?_
  simp only [e21]
  exact ev_r
theorem tin_00 {a b : Int32} (h : tin a 0 b = 0) : a < 0 ∨ (¬ a < 0 ∧ ¬ a ≤ b) := by
  unfold tin at h
  by_cases h1 : a < 0
  · exact Or.inl h1
  · refine Or.inr ⟨h1, fun h2 => ?_⟩
    rw [if_neg h1, if_neg (by rw [i_nle, Decidable.not_not]; exact h2)] at h
    exact absurd h (by decide)
theorem mp_plan (hB : E.1 ≤ w) (h : MG S I w G) (hi : IG G) (hT : xTX E S I w) : ∃ g' I', zCl E (d + 9) 125 [zr (some w), zi n] (zwi S I) (Sum.inl (some (zi (oPlan G n).1)), zwi (zwg S g') I') ∧ MG (zwg S g') I' w (oPlan G n).2 ∧ zfI w (w + 148) I I' := by
  have hcs := h.1
  obtain ⟨hwn, hwk, hps, ⟨m20, hot⟩, ⟨m21, mk21⟩, ⟨m22, mk22, mn22⟩, m39, mk39, mn39⟩ := id hcs
  have w0 := hwn.1.1
  have e0 := @b_X6_plan_0
  have e17 := @b_X6_plan_17
  have e23 := @b_X6_plan_23
  have e42 := @b_X6_plan_42
  have ei := h.2.1.1.1
  by_cases hn : tin n 0 (gU G 0 0) = 0
  · have ho : oPlan G n = (-1, gtr G 2 (-1)) := if_pos hn
    rw [ho]
    have cr := sp_X6_refused (E := E) (d := d + 8) (S := S) (I := zup I w 0 0) (a := 2) hB w0
    have g17 : zAt E (d + 9) 125 17 [some (zr (some w)), some (zi n), none] [] (zwi S (zup I w 0 0)) (Sum.inl (some (zi (-1))), zwi S (zup (zup (zup I w 0 0) w 1 2) w 2 (-1))) := by
      refine zat_in zP_X6_plan zk_X6_plan_17 ?_
      simp (disch := omega) only [e17, zif, zdr, zkb, mK_wi, mN_wi, mJ_wi, mI_wi, sI_wi, beq_self_eq_true, Bool.true_or, Bool.or_true, Bool.or_false, Bool.and_self, Bool.and_true, Bool.true_and, ↓reduceIte, ble_up0, i_cl, i_succ, zix_of, zfl_k, zup_k, zup_q, w0]
      refine ev_ci cr ?_
      exact ev_r
    refine ⟨mG S, zup (zup (zup I w 0 0) w 1 2) w 2 (-1), ?_, ?_, fun a k q => by simp (disch := omega) only [zfl_k, zfl_q, zup_k, zup_q]⟩
    · show zCl E (d + 9) 125 [zr (some w), zi n] (zwi S I) (Sum.inl (some (zi (-1))), zwi S (zup (zup (zup I w 0 0) w 1 2) w 2 (-1)))
      refine zcl_in' zP_X6_plan ?_; rw [zn_2_3]
      refine zat_in zP_X6_plan zk_X6_plan_0 ?_
      simp (disch := omega) only [e0, zif, zdr, zkb, mK_wi, mN_wi, mJ_wi, mI_wi, sI_wi, beq_self_eq_true, Bool.true_or, Bool.or_true, Bool.or_false, Bool.and_self, Bool.and_true, Bool.true_and, ↓reduceIte, ble_up0, i_cl, i_succ, zix_of, zfl_k, zup_k, zup_q, w0, ei]
      rcases tin_00 hn with c | ⟨c1, c2⟩
      · refine ev_th _ (fun _ => ev_bk g17) (fun z => absurd c z)
      · refine ev_th _ (fun z => absurd z c1) (fun _ => ?_)
        refine ev_th _ (fun z => absurd z c2) (fun _ => ?_)
        exact ev_tl zP_X6_plan zk_X6_plan_17 g17
    · exact MG.gw (h.tr hi (by simp (disch := omega) only [zfl_k, zfl_q, zup_k, zup_q]) (by simp (disch := omega) only [zfl_k, zfl_q, zup_k, zup_q]) (fun a k h1 h2 h3 => by simp (disch := omega) only [zfl_k, zfl_q, zup_k, zup_q]))
  · have hu := hi.2.2.2.2
    obtain ⟨n1, n2⟩ := tin_1 hn
    have en : n = Int32.ofNat (nn n) := i_toN n1
    have n3 : nn n ≤ 400 := by
      have h1 := i_nnI n1
      have n2 := n2
      rw [Int32.le_iff_toInt_le, hu.1, i_int (by have := hu.2; omega)] at n2
      have := hu.2
      omega
    have h0 : MG S (zup I w 0 0) w G := h.q0 hi
    have hT0 : xTX E S (zup I w 0 0) w := hT.frI (fun a k q => zup_k (by omega))
    obtain ⟨g1, I1, a1, R1, f1⟩ := sp_X6_start (d := d + 6) hB h0 hT0 en n3
    have v1 : ∀ k, ¬ (25 ≤ k ∧ k ≤ 29) → I1 w k = zup (zup (zup (zup (zup I w 0 0) w 24 n) w 23 0) w 25 0) w 3 0 w k := fun k q => f1 _ _ (by omega)
    have e31 : I1 w 31 = Int32.ofNat (gp G) := by
      rw [v1 31 (by omega)]
      simp (disch := omega) only [zfl_k, zfl_q, zup_k, zup_q]
      exact h.2.1.2.1
    have hp8 := hi.2.2.1
    obtain ⟨x1, x2⟩ := sp_X6_readPlan (d := d) (D := pD0) hB hps (show gp G < 9 by omega) R1 e31
    have st : ∀ z, zEv (fun n1 => zcv (zcfX E zPm n1 (d + 9) 131 [zr (some w)] (zwi (zwg S g1) I1)) (fun q5 M6 => zif (mK M6 q5 == 9) (zX E zPm n1 (d + 9) 125 35 [some (zr (some w)), some (zi n), none] [zr (some q5)] M6)) (fun M4 => zX E zPm n1 (d + 9) 125 42 [some (zr (some w)), some (zi n), none] [] M4)) z → zCl E (d + 9) 125 [zr (some w), zi n] (zwi S I) z := by
      intro z hz
      have c1 : ¬ n < 0 := by rw [i_nle, Decidable.not_not]; exact n1
      refine zcl_in' zP_X6_plan ?_; rw [zn_2_3]
      refine zat_in zP_X6_plan zk_X6_plan_0 ?_
      simp (disch := omega) only [e0, zif, zdr, zkb, mK_wi, mN_wi, mJ_wi, mI_wi, sI_wi, beq_self_eq_true, Bool.true_or, Bool.or_true, Bool.or_false, Bool.and_self, Bool.and_true, Bool.true_and, ↓reduceIte, ble_up0, i_cl, i_succ, zix_of, zfl_k, zup_k, zup_q, w0, ei]
      refine ev_th _ (fun z => absurd z c1) (fun _ => ?_)
      refine ev_th _ (fun _ => ?_) (fun z => absurd n2 z)
      refine ev_bk ?_
      refine zat_in zP_X6_plan zk_X6_plan_23 ?_
      simp (disch := omega) only [e23, zif, zdr, zkb, mK_wi, mN_wi, mJ_wi, mI_wi, sI_wi, beq_self_eq_true, Bool.true_or, Bool.or_true, Bool.or_false, Bool.and_self, Bool.and_true, Bool.true_and, ↓reduceIte, ble_up0, i_cl, i_succ, zix_of, zfl_k, zup_k, zup_q, w0]
      refine ev_cv a1 ?_
      try simp (disch := omega) only [zif, zdr, zkb, mK_wi, mN_wi, mJ_wi, mI_wi, sI_wi, beq_self_eq_true, Bool.true_or, Bool.or_true, Bool.or_false, Bool.and_self, Bool.and_true, Bool.true_and, ↓reduceIte, ble_up0, i_cl, i_succ, zix_of, zfl_k, zup_k, zup_q, w0, mK_wg]
      exact hz
    -- everything but the numbers is as it was or garbage
    have fr : ∀ (I2 J : Nat → Nat → Int32), mPf w (gp G) I1 I2 → (∀ a k, ¬ (a = w ∧ k ≤ 3) → J a k = I2 a k) → ∀ a k, w ≤ a → a < w + 148 → ¬ (a = w ∧ (k ≤ 3 ∨ k = 23 ∨ 24 ≤ k ∧ k ≤ 29)) → a ≠ w + 19 → ¬ (a = w + 21 ∧ k = gp G) → ¬ ((a = w + 22 ∨ a = w + 23) ∧ 12 * gp G ≤ k ∧ k < 12 * gp G + 12) → ¬ (w + 24 ≤ a ∧ a ≤ w + 26 ∧ 48 * gp G ≤ k ∧ k < 48 * gp G + 48) → ¬ (a = w + 27 ∧ 4 * gn G ≤ k) → J a k = I a k := by
      intro I2 J f2 f3 a k q1 q2 q3 q4 q5 q6 q7 q8
      rw [f3 a k (by omega), f2 a k (by omega) q4 q5 q6 q7, f1 a k (by omega)]
      simp (disch := omega) only [zfl_k, zfl_q, zup_k, zup_q]
    have zf : ∀ (I2 J : Nat → Nat → Int32), mPf w (gp G) I1 I2 → (∀ a k, ¬ (a = w ∧ k ≤ 3) → ¬ (a = w ∧ k = 31) → J a k = I2 a k) → zfI w (w + 148) I J := by
      intro I2 J f2 f3 a k q
      rw [f3 a k (by omega) (by omega), f2 a k (by omega) (by omega) (by omega) (by omega) (by omega), f1 a k (by omega)]
      simp (disch := omega) only [zfl_k, zfl_q, zup_k, zup_q]
    have t23 : ∀ I2, mPf w (gp G) I1 I2 → I2 w 23 = 0 ∧ I2 w 3 = 0 ∧ I2 w 31 = Int32.ofNat (gp G) := by
      intro I2 f2
      refine ⟨?_, ?_, ?_⟩
      · rw [f2 _ _ (by omega) (by omega) (by omega) (by omega) (by omega), v1 23 (by omega)]
        simp (disch := omega) only [zfl_k, zfl_q, zup_k, zup_q]
      · rw [f2 _ _ (by omega) (by omega) (by omega) (by omega) (by omega), v1 3 (by omega)]
        simp (disch := omega) only [zfl_k, zfl_q, zup_k, zup_q]
      · rw [f2 _ _ (by omega) (by omega) (by omega) (by omega) (by omega)]
        exact e31
    cases hp : pPl (gX G n) 12 pD0 0 0 with
    | inl s =>
      obtain ⟨f, p⟩ := s
      rw [oPlan_e hn hp]
      obtain ⟨g2, I2, a2, ⟨t1, t2⟩, f2⟩ := x1 f p hp
      obtain ⟨y1, y2, y3⟩ := t23 I2 f2
      refine ⟨g2, zup (zup (zup I2 w 3 f) w 1 4) w 2 (Int32.ofNat p), st _ ?_, MG.gw (h.rd hi (fr I2 _ f2 (fun a k q => by rw [zup_k (by omega), zup_k (by omega), zup_k (by omega)])) ⟨?_, ?_, ?_, ?_⟩ (fun _ _ => uTk_1)), zf I2 _ f2 (fun a k q _ => by rw [zup_k (by omega), zup_k (by omega), zup_k (by omega)])⟩
      · refine ev_cvx a2 ?_
        have cw := sp_X6_wrong (E := E) (d := d + 8) (S := zwg S g2) (I := I2) (q := w + 19) hB w0 mk21 (by omega) t1 t2
        simp (disch := omega) only [zif, zdr, zkb, mK_wi, mN_wi, mJ_wi, mI_wi, sI_wi, beq_self_eq_true, Bool.true_or, Bool.or_true, Bool.or_false, Bool.and_self, Bool.and_true, Bool.true_and, ↓reduceIte, ble_up0, i_cl, i_succ, zix_of, zfl_k, zup_k, zup_q, mK_wg, mk21]
        refine ev_bk ?_
        have e35 := @b_X6_plan_35
        refine zat_in zP_X6_plan zk_X6_plan_35 ?_
        simp (disch := omega) only [e35, zif, zdr, zkb, mK_wi, mN_wi, mJ_wi, mI_wi, sI_wi, beq_self_eq_true, Bool.true_or, Bool.or_true, Bool.or_false, Bool.and_self, Bool.and_true, Bool.true_and, ↓reduceIte, ble_up0, i_cl, i_succ, zix_of, zfl_k, zup_k, zup_q, w0, mK_wg]
        refine ev_ci cw ?_
        exact ev_r
      · rw [uTk_00]
        simp (disch := omega) only [zfl_k, zfl_q, zup_k, zup_q]
        exact y1
      · rw [uTk_01]
        simp (disch := omega) only [zfl_k, zfl_q, zup_k, zup_q]
      · rw [uTk_02]
        simp (disch := omega) only [zfl_k, zfl_q, zup_k, zup_q]
      · rw [uTk_03]
        simp (disch := omega) only [zfl_k, zfl_q, zup_k, zup_q]
    | inr s =>
      obtain ⟨D', k⟩ := s
      obtain ⟨g2, I2, a2, P2, f2⟩ := x2 D' k hp
      obtain ⟨y1, y2, y3⟩ := t23 I2 f2
      have i8 : (Int32.ofNat (gp G) = 8) = (gp G = 8) := i_eq (b := 8) (by omega) (by omega)
      by_cases c8 : gp G = 8
      · rw [oPlan_8 hn hp c8]
        have d8 := eq_true c8
        have cr := sp_X6_refused (E := E) (d := d + 8) (S := zwg S g2) (I := I2) (a := 3) hB w0
        refine ⟨g2, zup (zup I2 w 1 3) w 2 (-1), st _ ?_, MG.gw (h.rd hi (fr I2 _ f2 (fun a k q => by rw [zup_k (by omega), zup_k (by omega)])) ⟨?_, ?_, ?_, ?_⟩ (fun _ _ => uTk_1)), zf I2 _ f2 (fun a k q _ => by rw [zup_k (by omega), zup_k (by omega)])⟩
        · refine ev_cv a2 ?_
          refine ev_bk ?_
          refine zat_in zP_X6_plan zk_X6_plan_42 ?_
          simp (disch := omega) only [e42, zif, zdr, zkb, mK_wi, mN_wi, mJ_wi, mI_wi, sI_wi, beq_self_eq_true, Bool.true_or, Bool.or_true, Bool.or_false, Bool.and_self, Bool.and_true, Bool.true_and, ↓reduceIte, ble_up0, i_cl, i_succ, zix_of, zfl_k, zup_k, zup_q, w0, mK_wg, y3, i8, d8]
          refine ev_ci cr ?_
          exact ev_r
        · rw [uTk_00]
          simp (disch := omega) only [zfl_k, zfl_q, zup_k, zup_q]
          exact y1
        · rw [uTk_01]
          simp (disch := omega) only [zfl_k, zfl_q, zup_k, zup_q]
        · rw [uTk_02]
          simp (disch := omega) only [zfl_k, zfl_q, zup_k, zup_q]
        · rw [uTk_03]
          simp (disch := omega) only [zfl_k, zfl_q, zup_k, zup_q]
          exact y2
      · rw [oPlan_1 hn hp c8]
        have d8 := eq_false c8
        have es : Int32.ofNat (gp G + 1) - 1 = Int32.ofNat (gp G) := i_subL (b := 1) (by omega) (by omega)
        have cd := sp_X6_done (E := E) (d := d + 8) (S := zwg S g2) (I := zup I2 w 31 (Int32.ofNat (gp G + 1))) (a := Int32.ofNat (gp G)) hB w0
        have hi5 : IG (sU G (uTk (gU G) 0 (-1) 0)) := ⟨hi.1, hi.2.1, hi.2.2.1, hi.2.2.2.1, by
          show sm (uTk (gU G) 0 (-1) 0 0 0) 400
          rw [uTk_00]
          exact sm_of (a := 0) (by omega) (by omega)⟩
        have X5 : MG S (zup (zup I2 w 1 0) w 2 (-1)) w (sU G (uTk (gU G) 0 (-1) 0)) := by
          refine h.rd hi (fr I2 _ f2 (fun a k q => by rw [zup_k (by omega), zup_k (by omega)])) ⟨?_, ?_, ?_, ?_⟩ (fun _ _ => uTk_1)
          · rw [uTk_00]
            simp (disch := omega) only [zfl_k, zfl_q, zup_k, zup_q]
            exact y1
          · rw [uTk_01]
            simp (disch := omega) only [zfl_k, zfl_q, zup_k, zup_q]
          · rw [uTk_02]
            simp (disch := omega) only [zfl_k, zfl_q, zup_k, zup_q]
          · rw [uTk_03]
            simp (disch := omega) only [zfl_k, zfl_q, zup_k, zup_q]
            exact y2
        have P5 : mPp (zup (zup I2 w 1 0) w 2 (-1)) w (gp G) k D' := by
          obtain ⟨q1, q2, q3⟩ := P2
          exact ⟨by rw [zup_k (by omega), zup_k (by omega)]; exact q1, q2, fun j hj => (q3 j hj).frI (fun a i l1 l2 => by rw [zup_k (by omega), zup_k (by omega)])⟩
        have X6 := X5.pl hi5 P5
        have ee : zup (zup (zup I2 w 31 (Int32.ofNat (gp G + 1))) w 1 0) w 2 (-1) = zup (zup (zup I2 w 1 0) w 2 (-1)) w 31 (Int32.ofNat (gp G + 1)) := by
          funext a i
          by_cases q1 : a = w ∧ i = 31
          · obtain ⟨rfl, rfl⟩ := q1
            simp (disch := omega) only [zfl_k, zfl_q, zup_k, zup_q]
          · by_cases q2 : a = w ∧ i = 2
            · obtain ⟨rfl, rfl⟩ := q2
              simp (disch := omega) only [zfl_k, zfl_q, zup_k, zup_q]
            · by_cases q3 : a = w ∧ i = 1
              · obtain ⟨rfl, rfl⟩ := q3
                simp (disch := omega) only [zfl_k, zfl_q, zup_k, zup_q]
              · rw [zup_k q2, zup_k q3, zup_k q1, zup_k q1, zup_k q2, zup_k q3]
        rw [ee] at cd
        refine ⟨g2, _, st _ ?_, MG.gw X6, zf I2 _ f2 (fun a k q q2 => by rw [zup_k q2, zup_k (by omega), zup_k (by omega)])⟩
        refine ev_cv a2 ?_
        refine ev_bk ?_
        have e57 := @b_X6_plan_57
        refine zat_in zP_X6_plan zk_X6_plan_42 ?_
        simp (disch := omega) only [e42, zif, zdr, zkb, mK_wi, mN_wi, mJ_wi, mI_wi, sI_wi, beq_self_eq_true, Bool.true_or, Bool.or_true, Bool.or_false, Bool.and_self, Bool.and_true, Bool.true_and, ↓reduceIte, ble_up0, i_cl, i_succ, zix_of, zfl_k, zup_k, zup_q, w0, mK_wg, y3, i8, d8]
        refine ev_bk ?_
        refine zat_in zP_X6_plan zk_X6_plan_57 ?_
        simp (disch := omega) only [e57, zif, zdr, zkb, mK_wi, mN_wi, mJ_wi, mI_wi, sI_wi, beq_self_eq_true, Bool.true_or, Bool.or_true, Bool.or_false, Bool.and_self, Bool.and_true, Bool.true_and, ↓reduceIte, ble_up0, i_cl, i_succ, zix_of, zfl_k, zup_k, zup_q, w0, mK_wg, y3, es]
        refine ev_ci cd ?_
        exact ev_r
end
