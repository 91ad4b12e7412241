/-! ===== back (model); small words of refusal ===== -/
set_option maxRecDepth 100000
section
variable {E : zE} {d w nt t u : Nat} {S : zM} {I J : Nat → Nat → Int32} {V : zT} {TT : Nat → zT} {T : zT}
theorem sp_X6_granted (hB : E.1 ≤ w) (w0 : mK S w = 7) : zCl E d 118 [zr (some w)] (zwi S I) (Sum.inl (some (zi 1)), zwi S (zup (zup I w 1 0) w 2 (-1))) := by
  refine zcl_in' zP_X6_granted ?_; rw [zn_1_1]
  refine zat_in zP_X6_granted zk_X6_granted_0 ?_; simp (disch := omega) only [b_X6_granted_0, zif, zdr, zkb, mK_wi, mN_wi, mJ_wi, mI_wi, sI_wi, beq_self_eq_true, Bool.true_or, Bool.or_true, Bool.or_false, Bool.and_self, Bool.and_true, Bool.true_and, ↓reduceIte, ble_up0, i_cl, i_succ, zix_of, zfl_k, zup_k, zup_q, w0]
  exact ev_r
theorem sp_X6_denied {a : Int32} (hB : E.1 ≤ w) (w0 : mK S w = 7) : zCl E d 117 [zr (some w), zi a] (zwi S I) (Sum.inl (some (zi 0)), zwi S (zup (zup I w 1 a) w 2 (-1))) := by
  refine zcl_in' zP_X6_denied ?_; rw [zn_2_2]
  refine zat_in zP_X6_denied zk_X6_denied_0 ?_; simp (disch := omega) only [b_X6_denied_0, zif, zdr, zkb, mK_wi, mN_wi, mJ_wi, mI_wi, sI_wi, beq_self_eq_true, Bool.true_or, Bool.or_true, Bool.or_false, Bool.and_self, Bool.and_true, Bool.true_and, ↓reduceIte, ble_up0, i_cl, i_succ, zix_of, zfl_k, zup_k, zup_q, w0]
  exact ev_r
theorem sp_X6_refused {a : Int32} (hB : E.1 ≤ w) (w0 : mK S w = 7) : zCl E d 120 [zr (some w), zi a] (zwi S I) (Sum.inl (some (zi (-1))), zwi S (zup (zup I w 1 a) w 2 (-1))) := by
  refine zcl_in' zP_X6_refused ?_; rw [zn_2_2]
  refine zat_in zP_X6_refused zk_X6_refused_0 ?_; simp (disch := omega) only [b_X6_refused_0, zif, zdr, zkb, mK_wi, mN_wi, mJ_wi, mI_wi, sI_wi, beq_self_eq_true, Bool.true_or, Bool.or_true, Bool.or_false, Bool.and_self, Bool.and_true, Bool.true_and, ↓reduceIte, ble_up0, i_cl, i_succ, zix_of, zfl_k, zup_k, zup_q, w0]
  exact ev_r
theorem sp_X6_done {a : Int32} (hB : E.1 ≤ w) (w0 : mK S w = 7) : zCl E d 122 [zr (some w), zi a] (zwi S I) (Sum.inl (some (zi a)), zwi S (zup (zup I w 1 0) w 2 (-1))) := by
  refine zcl_in' zP_X6_done ?_; rw [zn_2_2]
  refine zat_in zP_X6_done zk_X6_done_0 ?_; simp (disch := omega) only [b_X6_done_0, zif, zdr, zkb, mK_wi, mN_wi, mJ_wi, mI_wi, sI_wi, beq_self_eq_true, Bool.true_or, Bool.or_true, Bool.or_false, Bool.and_self, Bool.and_true, Bool.true_and, ↓reduceIte, ble_up0, i_cl, i_succ, zix_of, zfl_k, zup_k, zup_q, w0]
  exact ev_r
theorem sp_X6_back (hB : E.1 ≤ w) (hS : mWT S w) (hK : mKT S w) (hnt : sm (V 0 1) 6) (hl : sm (V 0 0) 12) (hT : ∀ k, k < nn (V 0 1) → tOK (TT k)) (hP : mKW I w V TT) : ∃ I', zCl E (d + 2) 116 [zr (some w)] (zwi S I) (Sum.inl (some (zi 1)), zwi S I') ∧ mW I' w V TT ∧ (I' w 0 = 0 ∧ I' w 1 = 0 ∧ I' w 2 = -1) ∧ ∀ a i, ¬ (a = w ∧ (i ≤ 2 ∨ 4 ≤ i ∧ i < 8)) → ¬ (w + 1 ≤ a ∧ a ≤ w + 3) → ¬ (w + 28 ≤ a ∧ a < w + 148 ∧ (a - (w + 28)) % 20 < 10) → I' a i = I a i := by
  have w0 := hS.1.1
  have hP' := hP
  obtain ⟨hV, hTT⟩ := hP
  obtain ⟨⟨v0, v1, v2, v3⟩, r1, r2, r3⟩ := hV.un
  have hne : (V 0 0 = -1) = False := by
    rw [hl.1]
    exact i_neg1 (by have := hl.2; omega)
  have key : ∃ I1, (∀ r, zAt E (d + 2) 116 118 [some (zr (some w)), some (zi (Int32.ofNat 0))] [] (zwi S I1) r → zCl E (d + 2) 116 [zr (some w)] (zwi S I) r) ∧ wP I1 w V ∧ I1 w 0 = 0 ∧ ∀ a i, ¬ (a = w ∧ (i = 0 ∨ 4 ≤ i ∧ i < 8)) → ¬ (w + 1 ≤ a ∧ a ≤ w + 3) → I1 a i = I a i := by
    refine ⟨?w, ?a, ?b, ?e, ?c⟩
    case a =>
      intro r hr
      refine zcl_in' zP_X6_back ?_; rw [zn_1_2]
      refine zat_in zP_X6_back zk_X6_back_0 ?_; simp (disch := omega) only [b_X6_back_0, zif, zdr, zkb, mK_wi, mN_wi, mJ_wi, mI_wi, sI_wi, beq_self_eq_true, Bool.true_or, Bool.or_true, Bool.or_false, Bool.and_self, Bool.and_true, Bool.true_and, ↓reduceIte, ble_up0, i_cl, i_succ, zix_of, zfl_k, zup_k, zup_q, w0, v0, hne]
      refine ev_bk ?_
      refine zat_in zP_X6_back zk_X6_back_19 ?_
      simp (disch := omega) only [b_X6_back_19, zc_X6_back_43, b_X6_back_43, zif, zdr, zkb, mK_wi, mN_wi, mJ_wi, mI_wi, sI_wi, beq_self_eq_true, Bool.true_or, Bool.or_true, Bool.or_false, Bool.and_self, Bool.and_true, Bool.true_and, ↓reduceIte, ble_up0, i_cl, i_succ, zix_of, zfl_k, zup_k, zup_q, w0, v0, v1, v2, v3]
      refine ev_tl zP_X6_back zk_X6_back_53 (lp_X6_back_a (J := I) hB hS hK 12 0 (by omega) _ (fun j hj => by constructor <;> simp (disch := omega) only [zfl_k, zfl_q, zup_k, zup_q]) _ ?_)
      refine zat_in zP_X6_back zk_X6_back_89 ?_
      simp only [b_X6_back_89]
      refine ev_tl zP_X6_back zk_X6_back_91 (lp_X6_back_b (J := I) hB hS hK 334 0 (by omega) _ (fun j hj => by simp (disch := omega) only [zfl_k, zfl_q, zup_k, zup_q]) _ ?_)
      refine zat_in zP_X6_back zk_X6_back_116 ?_
      simp only [b_X6_back_116]
      refine ev_tl zP_X6_back zk_X6_back_118 ?_
      exact hr
    case b =>
      refine wP.mk ?_ ?_ ?_ ?_ (fun j hj => ?_) (fun j hj => ?_) (fun j hj => ?_)
      · simp (disch := omega) only [zfl_k, zfl_q, zup_k, zup_q]
      · simp (disch := omega) only [zfl_k, zfl_q, zup_k, zup_q]
      · simp (disch := omega) only [zfl_k, zfl_q, zup_k, zup_q]
      · simp (disch := omega) only [zfl_k, zfl_q, zup_k, zup_q]
      · simp (disch := omega) only [zfl_k, zfl_q, zup_k, zup_q]
        rw [zfc_x 0 (by omega)]
        exact r1 j hj
      · simp (disch := omega) only [zfl_k, zfl_q, zup_k, zup_q]
        rw [zfc_x 1 (by omega)]
        exact r2 j hj
      · simp (disch := omega) only [zfl_k, zfl_q, zup_k, zup_q]
        rw [zfc_x 0 (by omega)]
        exact r3 j hj
    case e => simp (disch := omega) only [zfl_k, zfl_q, zup_k, zup_q]
    case c =>
      intro a i h1 h2
      simp (disch := omega) only [zfl_k, zfl_q, zup_k, zup_q]
  obtain ⟨I1, a1, b1, e1, c1⟩ := key
  have := hnt.2
  have hP1 := hP'.fr' (J := I1) hnt (fun a j h1 h2 h3 => c1 a j (by omega) (by omega))
  obtain ⟨I2, a2, b2, c2⟩ := lp_X6_back_c (E := E) (d := d) hB hS hK hnt.2 hT (nn (V 0 1)) 0 (by omega) I1 (b1.un.1.2.1.trans hnt.1) (fun j hj => hP1.2 j hj)
  have m1 : mW I2 w V TT := ⟨b1.fr (fun a k h1 h2 => c2 _ _ (by omega)), fun k hk => b2 k (by omega) hk⟩
  refine ⟨zup (zup I2 w 1 0) w 2 (-1), a1 _ (a2 _ ?_), m1.fr' hnt (fun a j h1 h2 h3 => by simp (disch := omega) only [zfl_k, zfl_q, zup_k, zup_q]), ⟨?_, ?_, ?_⟩, fun a i h1 h2 h3 => ?_⟩
  · refine zat_in zP_X6_back zk_X6_back_147 ?_; simp (disch := omega) only [b_X6_back_147, zif, zdr, zkb, mK_wi, mN_wi, mJ_wi, mI_wi, sI_wi, beq_self_eq_true, Bool.true_or, Bool.or_true, Bool.or_false, Bool.and_self, Bool.and_true, Bool.true_and, ↓reduceIte, w0]
    refine ev_ci (sp_X6_granted hB w0) ?_
    simp (disch := omega) only [zif, zdr, zkb, mK_wi, mN_wi, mJ_wi, mI_wi, sI_wi, beq_self_eq_true, Bool.true_or, Bool.or_true, Bool.or_false, Bool.and_self, Bool.and_true, Bool.true_and, ↓reduceIte]
    exact ev_r
  · simp (disch := omega) only [zfl_k, zfl_q, zup_k, zup_q]
    exact (c2 _ _ (by omega)).trans e1
  · simp (disch := omega) only [zfl_k, zfl_q, zup_k, zup_q]
  · simp (disch := omega) only [zfl_k, zfl_q, zup_k, zup_q]
  · simp (disch := omega) only [zfl_k, zfl_q, zup_k, zup_q]
    exact (c2 a i (by omega)).trans (c1 a i (by omega) h2)
theorem sp_X6_back0 (hB : E.1 ≤ w) (w0 : mK S w = 7) (h : I w 12 = -1) : zCl E (d + 1) 116 [zr (some w)] (zwi S I) (Sum.inl (some (zi 0)), zwi S (zup (zup (zup I w 0 0) w 1 1) w 2 (-1))) := by
  refine zcl_in' zP_X6_back ?_; rw [zn_1_2]
  refine zat_in zP_X6_back zk_X6_back_0 ?_; simp (disch := omega) only [b_X6_back_0, zif, zdr, zkb, mK_wi, mN_wi, mJ_wi, mI_wi, sI_wi, beq_self_eq_true, Bool.true_or, Bool.or_true, Bool.or_false, Bool.and_self, Bool.and_true, Bool.true_and, ↓reduceIte, ble_up0, i_cl, i_succ, zix_of, zfl_k, zup_k, zup_q, w0, h]
  refine ev_ci (sp_X6_denied hB w0) ?_
  simp (disch := omega) only [zif, zdr, zkb, mK_wi, mN_wi, mJ_wi, mI_wi, sI_wi, beq_self_eq_true, Bool.true_or, Bool.or_true, Bool.or_false, Bool.and_self, Bool.and_true, Bool.true_and, ↓reduceIte]
  exact ev_r
end
