/-! ===== laws: the model's call ===== -/
set_option maxRecDepth 100000
section
variable {E : zE} {d w : Nat} {S : zM} {I : Nat → Nat → Int32} {G : zGl} {n : Int32}
theorem mp_laws (hB : E.1 ≤ w) (h : MG S I w G) (hi : IG G) (hT : xTX E S I w) : ∃ g' I', zCl E (d + 9) 141 [zr (some w), zi n] (zwi S I) (Sum.inl (some (zi (oLaws G n).1)), zwi (zwg S g') I') ∧ MG (zwg S g') I' w (oLaws G n).2 ∧ zfI w (w + 148) I I' := by
  have hcs := h.1
  obtain ⟨hwn, hwk, hps, ⟨m20, hot⟩, ⟨m21, mk21⟩, ⟨m22, mk22, mn22⟩, m39, mk39, mn39⟩ := id hcs
  have w0 := hwn.1.1
  have e0 := @b_X6_laws_0
  have e17 := @b_X6_laws_17
  have e23 := @b_X6_laws_23
  have e43 := @b_X6_laws_43
  have ei := h.2.1.1.1
  by_cases hn : tin n 0 (gU G 0 0) = 0
  · have ho : oLaws G n = (-1, gtr G 2 (-1)) := if_pos hn
    rw [ho]
    have cr := sp_X6_refused (E := E) (d := d + 8) (S := S) (I := zup I w 0 0) (a := 2) hB w0
    have g17 : zAt E (d + 9) 141 17 [some (zr (some w)), some (zi n), none, none] [] (zwi S (zup I w 0 0)) (Sum.inl (some (zi (-1))), zwi S (zup (zup (zup I w 0 0) w 1 2) w 2 (-1))) := by
      refine zat_in zP_X6_laws zk_X6_laws_17 ?_
      simp (disch := omega) only [e17, zif, zdr, zkb, mK_wi, mN_wi, mJ_wi, mI_wi, sI_wi, beq_self_eq_true, Bool.true_or, Bool.or_true, Bool.or_false, Bool.and_self, Bool.and_true, Bool.true_and, ↓reduceIte, ble_up0, i_cl, i_succ, zix_of, zfl_k, zup_k, zup_q, w0]
      refine ev_ci cr ?_
      exact ev_r
    refine ⟨mG S, zup (zup (zup I w 0 0) w 1 2) w 2 (-1), ?_, ?_, fun a k q => by simp (disch := omega) only [zfl_k, zfl_q, zup_k, zup_q]⟩
    · show zCl E (d + 9) 141 [zr (some w), zi n] (zwi S I) (Sum.inl (some (zi (-1))), zwi S (zup (zup (zup I w 0 0) w 1 2) w 2 (-1)))
      refine zcl_in' zP_X6_laws ?_; rw [zn_2_4]
      refine zat_in zP_X6_laws zk_X6_laws_0 ?_
      simp (disch := omega) only [e0, zif, zdr, zkb, mK_wi, mN_wi, mJ_wi, mI_wi, sI_wi, beq_self_eq_true, Bool.true_or, Bool.or_true, Bool.or_false, Bool.and_self, Bool.and_true, Bool.true_and, ↓reduceIte, ble_up0, i_cl, i_succ, zix_of, zfl_k, zup_k, zup_q, w0, ei]
      rcases tin_00 hn with c | ⟨c1, c2⟩
      · refine ev_th _ (fun _ => ev_bk g17) (fun z => absurd c z)
      · refine ev_th _ (fun z => absurd z c1) (fun _ => ?_)
        refine ev_th _ (fun z => absurd z c2) (fun _ => ?_)
        exact ev_tl zP_X6_laws zk_X6_laws_17 g17
    · exact MG.gw (h.tr hi (by simp (disch := omega) only [zfl_k, zfl_q, zup_k, zup_q]) (by simp (disch := omega) only [zfl_k, zfl_q, zup_k, zup_q]) (fun a k h1 h2 h3 => by simp (disch := omega) only [zfl_k, zfl_q, zup_k, zup_q]))
  · have hu := hi.2.2.2.2
    obtain ⟨n1, n2⟩ := tin_1 hn
    have en : n = Int32.ofNat (nn n) := i_toN n1
    have n3 : nn n ≤ 400 := by
      have h1 := i_nnI n1
      have n2 := n2
      rw [Int32.le_iff_toInt_le, hu.1, i_int (by have := hu.2; omega)] at n2
      have := hu.2
      omega
    have h0 : MG S (zup I w 0 0) w G := h.q0 hi
    have hT0 : xTX E S (zup I w 0 0) w := hT.frI (fun a k q => zup_k (by omega))
    obtain ⟨g1, I1, a1, R1, f1⟩ := sp_X6_start (d := d + 6) hB h0 hT0 en n3
    have v1 : ∀ k, ¬ (25 ≤ k ∧ k ≤ 29) → I1 w k = zup (zup (zup (zup (zup I w 0 0) w 24 n) w 23 0) w 25 0) w 3 0 w k := fun k q => f1 _ _ (by omega)
    have e38 : I1 w 38 = Int32.ofNat (gn G) := by
      rw [v1 38 (by omega)]
      simp (disch := omega) only [zfl_k, zfl_q, zup_k, zup_q]
      exact h.2.1.2.2.1
    have hn10 := hi.2.2.2.1
    have L1 : mLT I1 w (gn G) (gW G) := fun i hi2 j hj => by
      rw [f1 _ _ (by omega)]
      simp (disch := omega) only [zfl_k, zfl_q, zup_k, zup_q]
      exact h.2.2.2.2.2 i hi2 j hj
    obtain ⟨x1, x2⟩ := lp_X6_readLaws (d := d) hB m39 mk39 mn39 (10 - gn G) (gn G) (by omega) (gW G) 0 g1 I1 none none none none R1 L1
    have e70 := @b_X6_readLaws_0
    have en7 : ∀ z, zAt E (d + 8) 142 7 [some (zr (some w)), some (zi (Int32.ofNat (gn G))), some (zi 1), none, none, none, none] [] (zwi (zwg S g1) I1) z → zCl E (d + 8) 142 [zr (some w)] (zwi (zwg S g1) I1) z := by
      intro z hz
      refine zcl_in' zP_X6_readLaws ?_; rw [zn_1_7]
      refine zat_in zP_X6_readLaws zk_X6_readLaws_0 ?_
      simp (disch := omega) only [e70, zif, zdr, zkb, mK_wi, mN_wi, mJ_wi, mI_wi, sI_wi, beq_self_eq_true, Bool.true_or, Bool.or_true, Bool.or_false, Bool.and_self, Bool.and_true, Bool.true_and, ↓reduceIte, ble_up0, i_cl, i_succ, zix_of, zfl_k, zup_k, zup_q, w0, mK_wg, e38]
      exact ev_tl zP_X6_readLaws zk_X6_readLaws_7 hz
    have st : ∀ z, zEv (fun n1 => zci (zcfX E zPm n1 (d + 9) 142 [zr (some w)] (zwi (zwg S g1) I1)) (fun q5 M6 => zif (mK M6 q5 == 9) (zX E zPm n1 (d + 9) 141 36 [some (zr (some w)), some (zi n), none, none] [zr (some q5)] M6)) (fun x7 M4 => zX E zPm n1 (d + 9) 141 43 [some (zr (some w)), some (zi n), some (zi x7), none] [] M4)) z → zCl E (d + 9) 141 [zr (some w), zi n] (zwi S I) z := by
      intro z hz
      have c1 : ¬ n < 0 := by rw [i_nle, Decidable.not_not]; exact n1
      refine zcl_in' zP_X6_laws ?_; rw [zn_2_4]
      refine zat_in zP_X6_laws zk_X6_laws_0 ?_
      simp (disch := omega) only [e0, zif, zdr, zkb, mK_wi, mN_wi, mJ_wi, mI_wi, sI_wi, beq_self_eq_true, Bool.true_or, Bool.or_true, Bool.or_false, Bool.and_self, Bool.and_true, Bool.true_and, ↓reduceIte, ble_up0, i_cl, i_succ, zix_of, zfl_k, zup_k, zup_q, w0, ei]
      refine ev_th _ (fun z => absurd z c1) (fun _ => ?_)
      refine ev_th _ (fun _ => ?_) (fun z => absurd n2 z)
      refine ev_bk ?_
      refine zat_in zP_X6_laws zk_X6_laws_23 ?_
      simp (disch := omega) only [e23, zif, zdr, zkb, mK_wi, mN_wi, mJ_wi, mI_wi, sI_wi, beq_self_eq_true, Bool.true_or, Bool.or_true, Bool.or_false, Bool.and_self, Bool.and_true, Bool.true_and, ↓reduceIte, ble_up0, i_cl, i_succ, zix_of, zfl_k, zup_k, zup_q, w0]
      refine ev_cv a1 ?_
      try simp (disch := omega) only [zif, zdr, zkb, mK_wi, mN_wi, mJ_wi, mI_wi, sI_wi, beq_self_eq_true, Bool.true_or, Bool.or_true, Bool.or_false, Bool.and_self, Bool.and_true, Bool.true_and, ↓reduceIte, ble_up0, i_cl, i_succ, zix_of, zfl_k, zup_k, zup_q, w0, mK_wg]
      exact hz
    have fr : ∀ (I2 J : Nat → Nat → Int32), mLf w (gn G) I1 I2 → (∀ a k, ¬ (a = w ∧ k ≤ 3) → J a k = I2 a k) → ∀ a k, w ≤ a → a < w + 148 → ¬ (a = w ∧ (k ≤ 3 ∨ k = 23 ∨ 24 ≤ k ∧ k ≤ 29)) → a ≠ w + 19 → ¬ (a = w + 21 ∧ k = gp G) → ¬ ((a = w + 22 ∨ a = w + 23) ∧ 12 * gp G ≤ k ∧ k < 12 * gp G + 12) → ¬ (w + 24 ≤ a ∧ a ≤ w + 26 ∧ 48 * gp G ≤ k ∧ k < 48 * gp G + 48) → ¬ (a = w + 27 ∧ 4 * gn G ≤ k) → J a k = I a k := by
      intro I2 J f2 f3 a k q1 q2 q3 q4 q5 q6 q7 q8
      rw [f3 a k (by omega), f2 a k (by omega) q4 q8, f1 a k (by omega)]
      simp (disch := omega) only [zfl_k, zfl_q, zup_k, zup_q]
    have zf : ∀ (I2 J : Nat → Nat → Int32), mLf w (gn G) I1 I2 → (∀ a k, ¬ (a = w ∧ k ≤ 3) → ¬ (a = w ∧ k = 38) → J a k = I2 a k) → zfI w (w + 148) I J := by
      intro I2 J f2 f3 a k q
      rw [f3 a k (by omega) (by omega), f2 a k (by omega) (by omega) (by omega), f1 a k (by omega)]
      simp (disch := omega) only [zfl_k, zfl_q, zup_k, zup_q]
    have t23 : ∀ I2, mLf w (gn G) I1 I2 → I2 w 23 = 0 ∧ I2 w 3 = 0 := by
      intro I2 f2
      refine ⟨?_, ?_⟩
      · rw [f2 _ _ (by omega) (by omega) (by omega), v1 23 (by omega)]
        simp (disch := omega) only [zfl_k, zfl_q, zup_k, zup_q]
      · rw [f2 _ _ (by omega) (by omega) (by omega), v1 3 (by omega)]
        simp (disch := omega) only [zfl_k, zfl_q, zup_k, zup_q]
    cases hp : pLs (gX G n) (10 - gn G) (gW G) (gn G) 0 with
    | inl s =>
      obtain ⟨f, p⟩ := s
      rw [oLaws_e hn hp]
      obtain ⟨g2, I2, a2, ⟨t1, t2⟩, f2⟩ := x1 f p hp
      obtain ⟨y1, y2⟩ := t23 I2 f2
      refine ⟨g2, zup (zup (zup I2 w 3 f) w 1 4) w 2 (Int32.ofNat p), st _ ?_, MG.gw (h.rd hi (fr I2 _ f2 (fun a k q => by rw [zup_k (by omega), zup_k (by omega), zup_k (by omega)])) ⟨?_, ?_, ?_, ?_⟩ (fun _ _ => uTk_1)), zf I2 _ f2 (fun a k q _ => by rw [zup_k (by omega), zup_k (by omega), zup_k (by omega)])⟩
      · refine ev_cix (en7 _ a2) ?_
        have cw := sp_X6_wrong (E := E) (d := d + 8) (S := zwg S g2) (I := I2) (q := w + 19) hB w0 mk21 (by omega) t1 t2
        simp (disch := omega) only [zif, zdr, zkb, mK_wi, mN_wi, mJ_wi, mI_wi, sI_wi, beq_self_eq_true, Bool.true_or, Bool.or_true, Bool.or_false, Bool.and_self, Bool.and_true, Bool.true_and, ↓reduceIte, ble_up0, i_cl, i_succ, zix_of, zfl_k, zup_k, zup_q, mK_wg, mk21]
        refine ev_bk ?_
        have e36 := @b_X6_laws_36
        refine zat_in zP_X6_laws zk_X6_laws_36 ?_
        simp (disch := omega) only [e36, zif, zdr, zkb, mK_wi, mN_wi, mJ_wi, mI_wi, sI_wi, beq_self_eq_true, Bool.true_or, Bool.or_true, Bool.or_false, Bool.and_self, Bool.and_true, Bool.true_and, ↓reduceIte, ble_up0, i_cl, i_succ, zix_of, zfl_k, zup_k, zup_q, w0, mK_wg]
        refine ev_ci cw ?_
        exact ev_r
      · rw [uTk_00]
        simp (disch := omega) only [zfl_k, zfl_q, zup_k, zup_q]
        exact y1
      · rw [uTk_01]
        simp (disch := omega) only [zfl_k, zfl_q, zup_k, zup_q]
      · rw [uTk_02]
        simp (disch := omega) only [zfl_k, zfl_q, zup_k, zup_q]
      · rw [uTk_03]
        simp (disch := omega) only [zfl_k, zfl_q, zup_k, zup_q]
    | inr s =>
      obtain ⟨W', n'⟩ := s
      rw [oLaws_1 hn hp]
      obtain ⟨g2, I2, a2, L2, f2⟩ := x2 W' n' hp
      obtain ⟨y1, y2⟩ := t23 I2 f2
      have X5 : MG S (zup (zup I2 w 1 0) w 2 (-1)) w (sU G (uTk (gU G) 0 (-1) 0)) := by
        refine h.rd hi (fr I2 _ f2 (fun a k q => by rw [zup_k (by omega), zup_k (by omega)])) ⟨?_, ?_, ?_, ?_⟩ (fun _ _ => uTk_1)
        · rw [uTk_00]
          simp (disch := omega) only [zfl_k, zfl_q, zup_k, zup_q]
          exact y1
        · rw [uTk_01]
          simp (disch := omega) only [zfl_k, zfl_q, zup_k, zup_q]
        · rw [uTk_02]
          simp (disch := omega) only [zfl_k, zfl_q, zup_k, zup_q]
        · rw [uTk_03]
          simp (disch := omega) only [zfl_k, zfl_q, zup_k, zup_q]
          exact y2
      have cd := sp_X6_done (E := E) (d := d + 8) (S := zwg S g2) (I := zup I2 w 38 (Int32.ofNat n')) (a := Int32.ofNat n') hB w0
      have hI : ∀ a i, ¬ (a = w ∧ i = 38) → (zup (zup (zup I2 w 38 (Int32.ofNat n')) w 1 0) w 2 (-1)) a i = (zup (zup I2 w 1 0) w 2 (-1)) a i := fun a i q => by
        by_cases q2 : a = w ∧ i = 2
        · obtain ⟨rfl, rfl⟩ := q2
          simp (disch := omega) only [zfl_k, zfl_q, zup_k, zup_q]
        · rw [zup_k q2, zup_k q2]
          by_cases q3 : a = w ∧ i = 1
          · obtain ⟨rfl, rfl⟩ := q3
            simp (disch := omega) only [zfl_k, zfl_q, zup_k, zup_q]
          · rw [zup_k q3, zup_k q3, zup_k q]
      have X6 : MG S (zup (zup (zup I2 w 38 (Int32.ofNat n')) w 1 0) w 2 (-1)) w (sLw (sU G (uTk (gU G) 0 (-1) 0)) W' n') := by
        obtain ⟨h1, ⟨⟨s1, s2, s3, s4⟩, s6, s7, s8⟩, h3, ⟨h4, h4'⟩, h5, h6⟩ := X5
        refine ⟨h1, ⟨⟨(hI _ _ (by omega)).trans s1, (hI _ _ (by omega)).trans s2, (hI _ _ (by omega)).trans s3, (hI _ _ (by omega)).trans s4⟩, (hI _ _ (by omega)).trans s6, ?_, fun j hj => (hI _ _ (by omega)).trans (s8 j hj)⟩, h3.fr' hi.1.1.2.1 (fun a j q1 q2 q3 => hI a j (by omega)), ⟨fun q => (h4 q).fr' hi.2.1.1.2.1 (fun a j q1 q2 q3 => hI a j (by omega)), fun q => (hI _ _ (by omega)).trans (h4' q)⟩, fun p hp => mPl.fr (fun a k l1 l2 => hI a k (by omega)) (h5 p hp), fun i hi2 j hj => ?_⟩
        · simp (disch := omega) only [zfl_k, zfl_q, zup_k, zup_q]
          rfl
        · rw [hI _ _ (by omega), zup_k (by omega), zup_k (by omega)]
          exact L2 i hi2 j hj
      refine ⟨g2, _, st _ ?_, MG.gw X6, zf I2 _ f2 (fun a k q q2 => by rw [zup_k (by omega), zup_k (by omega), zup_k q2])⟩
      refine ev_ci (en7 _ a2) ?_
      refine ev_bk ?_
      refine zat_in zP_X6_laws zk_X6_laws_43 ?_
      simp (disch := omega) only [e43, zif, zdr, zkb, mK_wi, mN_wi, mJ_wi, mI_wi, sI_wi, beq_self_eq_true, Bool.true_or, Bool.or_true, Bool.or_false, Bool.and_self, Bool.and_true, Bool.true_and, ↓reduceIte, ble_up0, i_cl, i_succ, zix_of, zfl_k, zup_k, zup_q, w0, mK_wg]
      refine ev_ci cd ?_
      exact ev_r
end
