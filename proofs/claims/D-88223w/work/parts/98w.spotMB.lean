/-! ===== spot (model) ===== -/
set_option maxRecDepth 100000
section
variable {E : zE} {d B w t nd ng n s : Nat} {S : zM} {I : Nat → Nat → Int32} {G : zGl} {V T : zT}
theorem X6_spot_138 {x1 m lo hi : Int32} {b : Nat} (w0 : mK S w = 7) (hW : mWS S w) (hV : wP I w V) (hl : sm (V 0 0) 12) (hS : mTS S t) (hP : mP I t nd ng T) (hSg : mSg I t T) (h12 : T 0 12 = Int32.ofNat (cS T 2000)) (hn : n ≤ 2000) (hb : tbh T n s = b) (hs : s < n) (hend : ∀ j, n ≤ j → j < 2000 → T 8 j = -1) : zAt E (d + 1) 173 138 [some (zr (some w)), some (zi x1), some (zi (Int32.ofNat s)), some (zi m), some (zr (some t)), some (zi (Int32.ofNat (cS T (s + 1)))), some (zi lo), none] [zi hi] (zwi S I) (Sum.inl (some (zi (if m = 0 then (if b < n then jmax lo (T 8 b - 60 * (Int32.ofNat b - Int32.ofNat s)) else lo) else jmin hi (if b < n then T 8 b else tway 0 V (nn (V 0 0)))))), zwi S I) := by
  have hS' := hS
  obtain ⟨p0, ⟨ps1, ps2, ps3⟩, ⟨pt1, pt2, pt3⟩, ⟨pl1, pl2, pl3⟩, ⟨pc1, pc2, pc3⟩, ⟨pw1, pw2, pw3⟩, ⟨pn1, pn2, pn3⟩, ⟨py1, py2, py3⟩, ⟨pf1, pf2, pf3⟩, ⟨pg1, pg2, pg3⟩⟩ := hS
  have e11 : I t 11 = Int32.ofNat (cS T 2000) := hP.un.2.1.2.2.2.2.2.1.trans h12
  have hle := cS_le (T := T) 2000
  have ct := sp_X6_trail (E := E) (d := d) hW hV hl
  obtain ⟨na1, na2, na3, na4⟩ := nextS_a (T := T) (n - (s + 1)) (s + 1)
  have hbb : nextS T (n - (s + 1)) (s + 1) = b := hb
  rw [hbb] at na1 na2 na3 na4
  have e206 : ∀ (a6 a7 b0 : Int32), zAt E (d + 1) 173 206 [some (zr (some w)), some (zi x1), some (zi (Int32.ofNat s)), some (zi m), some (zr (some t)), some (zi (Int32.ofNat (cS T (s + 1)))), some (zi a6), some (zi a7)] [zi b0, zi a7] (zwi S I) (Sum.inl (some (zi (if m = 0 then a6 else jmin a7 b0))), zwi S I) := by
    intro a6 a7 b0
    by_cases hm : m = 0
    · rw [if_pos hm]
      refine zat_in zP_X6_spot zk_X6_spot_206 ?_
      simp only [b_X6_spot_206]
      refine ev_ci (sp_min _ _) ?_
      simp (disch := omega) only [zif, zdr, zkb, mK_wi, mN_wi, mJ_wi, mI_wi, sI_wi, beq_self_eq_true, Bool.true_or, Bool.or_true, Bool.or_false, Bool.and_self, Bool.and_true, Bool.true_and, ↓reduceIte, ble_up0, i_cl, i_succ, zix_of, zfl_k, zup_k, zup_q, eq_true hm]
      refine ev_bk ?_
      have e220 := @b_X6_spot_220
      refine zat_in zP_X6_spot zk_X6_spot_220 ?_
      simp only [e220]
      refine ev_tl zP_X6_spot zk_X6_spot_222 ?_
      refine zat_in zP_X6_spot zk_X6_spot_222 ?_; simp (disch := omega) only [b_X6_spot_222, zif, zdr, zkb, mK_wi, mN_wi, mJ_wi, mI_wi, sI_wi, beq_self_eq_true, Bool.true_or, Bool.or_true, Bool.or_false, Bool.and_self, Bool.and_true, Bool.true_and, ↓reduceIte, ble_up0, i_cl, i_succ, zix_of, zfl_k, zup_k, zup_q]
      exact ev_r
    · rw [if_neg hm]
      refine zat_in zP_X6_spot zk_X6_spot_206 ?_
      simp only [b_X6_spot_206]
      refine ev_ci (sp_min _ _) ?_
      simp (disch := omega) only [zif, zdr, zkb, mK_wi, mN_wi, mJ_wi, mI_wi, sI_wi, beq_self_eq_true, Bool.true_or, Bool.or_true, Bool.or_false, Bool.and_self, Bool.and_true, Bool.true_and, ↓reduceIte, ble_up0, i_cl, i_succ, zix_of, zfl_k, zup_k, zup_q, eq_false hm]
      refine ev_bk ?_
      refine zat_in zP_X6_spot zk_X6_spot_222 ?_; simp (disch := omega) only [b_X6_spot_222, zif, zdr, zkb, mK_wi, mN_wi, mJ_wi, mI_wi, sI_wi, beq_self_eq_true, Bool.true_or, Bool.or_true, Bool.or_false, Bool.and_self, Bool.and_true, Bool.true_and, ↓reduceIte, ble_up0, i_cl, i_succ, zix_of, zfl_k, zup_k, zup_q]
      exact ev_r
  by_cases q : b < n
  · rw [if_pos q, if_pos q]
    have b2 := na4 (by omega)
    obtain ⟨g1, g2⟩ := hSg b (by omega) b2
    have hlt := cS_lt (T := T) (show b < 2000 by omega) b2
    rw [na3] at g1 g2 hlt
    have l : (cS T 2000 ≤ cS T (s + 1)) = False := eq_false (by omega)
    refine zat_in zP_X6_spot zk_X6_spot_138 ?_
    simp (disch := omega) only [b_X6_spot_138, zif, zdr, zkb, mK_wi, mN_wi, mJ_wi, mI_wi, sI_wi, beq_self_eq_true, Bool.true_or, Bool.or_true, Bool.or_false, Bool.and_self, Bool.and_true, Bool.true_and, ↓reduceIte, ble_up0, i_cl, i_succ, zix_of, zfl_k, zup_k, zup_q, p0, ps1, ps2, ps3, pt1, pt2, pt3, pl1, pl2, pl3, pc1, pc2, pc3, pw1, pw2, pw3, pn1, pn2, pn3, py1, py2, py3, pf1, pf2, pf3, pg1, pg2, pg3, e11, i_le, l, g1, g2]
    refine ev_ci (sp_max _ _) ?_
    refine ev_tl zP_X6_spot zk_X6_spot_179 ?_
    refine zat_in zP_X6_spot zk_X6_spot_179 ?_
    simp (disch := omega) only [b_X6_spot_179, zif, zdr, zkb, mK_wi, mN_wi, mJ_wi, mI_wi, sI_wi, beq_self_eq_true, Bool.true_or, Bool.or_true, Bool.or_false, Bool.and_self, Bool.and_true, Bool.true_and, ↓reduceIte, ble_up0, i_cl, i_succ, zix_of, zfl_k, zup_k, zup_q, p0, ps1, ps2, ps3, pt1, pt2, pt3, pl1, pl2, pl3, pc1, pc2, pc3, pw1, pw2, pw3, pn1, pn2, pn3, py1, py2, py3, pf1, pf2, pf3, pg1, pg2, pg3, e11, i_le, l, g1, g2]
    exact ev_bk (e206 _ _ _)
  · rw [if_neg q, if_neg q]
    have hbn : b = n := by omega
    have he := cS_end hend (2000 - n) (by omega)
    rw [show n + (2000 - n) = 2000 by omega] at he
    rw [hbn] at na3
    have l : (cS T 2000 ≤ cS T (s + 1)) = True := eq_true (by omega)
    refine zat_in zP_X6_spot zk_X6_spot_138 ?_
    simp (disch := omega) only [b_X6_spot_138, zif, zdr, zkb, mK_wi, mN_wi, mJ_wi, mI_wi, sI_wi, beq_self_eq_true, Bool.true_or, Bool.or_true, Bool.or_false, Bool.and_self, Bool.and_true, Bool.true_and, ↓reduceIte, ble_up0, i_cl, i_succ, zix_of, zfl_k, zup_k, zup_q, p0, ps1, ps2, ps3, pt1, pt2, pt3, pl1, pl2, pl3, pc1, pc2, pc3, pw1, pw2, pw3, pn1, pn2, pn3, py1, py2, py3, pf1, pf2, pf3, pg1, pg2, pg3, e11, i_le, l]
    refine ev_bk ?_
    refine zat_in zP_X6_spot zk_X6_spot_179 ?_
    simp (disch := omega) only [b_X6_spot_179, zif, zdr, zkb, mK_wi, mN_wi, mJ_wi, mI_wi, sI_wi, beq_self_eq_true, Bool.true_or, Bool.or_true, Bool.or_false, Bool.and_self, Bool.and_true, Bool.true_and, ↓reduceIte, ble_up0, i_cl, i_succ, zix_of, zfl_k, zup_k, zup_q, p0, ps1, ps2, ps3, pt1, pt2, pt3, pl1, pl2, pl3, pc1, pc2, pc3, pw1, pw2, pw3, pn1, pn2, pn3, py1, py2, py3, pf1, pf2, pf3, pg1, pg2, pg3, e11, i_le, l]
    refine ev_bk ?_
    refine zat_in zP_X6_spot zk_X6_spot_202 ?_
    simp (disch := omega) only [b_X6_spot_202, zif, zdr, zkb, mK_wi, mN_wi, mJ_wi, mI_wi, sI_wi, beq_self_eq_true, Bool.true_or, Bool.or_true, Bool.or_false, Bool.and_self, Bool.and_true, Bool.true_and, ↓reduceIte, ble_up0, i_cl, i_succ, zix_of, zfl_k, zup_k, zup_q, w0]
    refine ev_ci ct ?_
    refine ev_tl zP_X6_spot zk_X6_spot_206 ?_
    exact e206 _ _ _
theorem X6_spot_66 {x1 m : Int32} (w0 : mK S w = 7) (hW : mWS S w) (hV : wP I w V) (hl : sm (V 0 0) 12) (hS : mTS S t) (hP : mP I t nd ng T) (hSg : mSg I t T) (h12 : T 0 12 = Int32.ofNat (cS T 2000)) (hn : n ≤ 2000) (hs : s < n) (hend : ∀ j, n ≤ j → j < 2000 → T 8 j = -1) (hst : sm (T 0 3) 100) (hge : ∀ j, j < 2000 → T 8 j ≠ -1 → nn (T 0 3) ≤ j ∧ sm (T 8 j) (60 * (j - nn (T 0 3) + 1))) (htr : 0 ≤ tway 0 V (nn (V 0 0))) : zAt E (d + 1) 173 66 [some (zr (some w)), some (zi x1), some (zi (Int32.ofNat s)), some (zi m), some (zr (some t)), some (zi (Int32.ofNat (cS T (s + 1)))), none, none] [] (zwi S I) (Sum.inl (some (zi (tspot V T n s m))), zwi S I) := by
  have h138 := fun (lo hi : Int32) => X6_spot_138 (E := E) (d := d) (x1 := x1) (m := m) (lo := lo) (hi := hi) w0 hW hV hl hS hP hSg h12 hn rfl hs hend
  have hle := cS_le (T := T) (s + 1)
  have x3 := hP.un.1.2.2.2.1.trans hst.1
  have hst2 := hst.2
  obtain ⟨p0, ⟨ps1, ps2, ps3⟩, ⟨pt1, pt2, pt3⟩, ⟨pl1, pl2, pl3⟩, ⟨pc1, pc2, pc3⟩, ⟨pw1, pw2, pw3⟩, ⟨pn1, pn2, pn3⟩, ⟨py1, py2, py3⟩, ⟨pf1, pf2, pf3⟩, ⟨pg1, pg2, pg3⟩⟩ := hS
  obtain ⟨na1, na2, na3, na4⟩ := nextS_a (T := T) (n - (s + 1)) (s + 1)
  unfold tspot
  cases hp : prevS T (s + 1) with
  | none =>
    have h0 := prevS_n _ hp
    have l : (Int32.ofNat (cS T (s + 1)) ≤ 0) = True := by rw [h0]; exact eq_true (by decide)
    have f113 : ∀ r, zAt E (d + 1) 173 113 [some (zr (some w)), some (zi x1), some (zi (Int32.ofNat s)), some (zi m), some (zr (some t)), some (zi (Int32.ofNat (cS T (s + 1)))), some (zi 0), none] [] (zwi S I) r → zAt E (d + 1) 173 66 [some (zr (some w)), some (zi x1), some (zi (Int32.ofNat s)), some (zi m), some (zr (some t)), some (zi (Int32.ofNat (cS T (s + 1)))), none, none] [] (zwi S I) r := by
      intro r hr
      refine zat_in zP_X6_spot zk_X6_spot_66 ?_
      simp (disch := omega) only [b_X6_spot_66, zif, zdr, zkb, mK_wi, mN_wi, mJ_wi, mI_wi, sI_wi, beq_self_eq_true, Bool.true_or, Bool.or_true, Bool.or_false, Bool.and_self, Bool.and_true, Bool.true_and, ↓reduceIte, ble_up0, i_cl, i_succ, zix_of, zfl_k, zup_k, zup_q, l]
      refine ev_bk ?_
      have e84 := @b_X6_spot_84
      refine zat_in zP_X6_spot zk_X6_spot_84 ?_
      simp only [e84]
      refine ev_tl zP_X6_spot zk_X6_spot_85 ?_
      refine zat_in zP_X6_spot zk_X6_spot_85 ?_
      simp (disch := omega) only [b_X6_spot_85, zif, zdr, zkb, mK_wi, mN_wi, mJ_wi, mI_wi, sI_wi, beq_self_eq_true, Bool.true_or, Bool.or_true, Bool.or_false, Bool.and_self, Bool.and_true, Bool.true_and, ↓reduceIte, ble_up0, i_cl, i_succ, zix_of, zfl_k, zup_k, zup_q, l]
      exact ev_bk hr
    refine f113 _ ?_
    by_cases c3 : s < nn (T 0 3)
    · rw [if_pos c3]
      have l2 : (Int32.ofNat (nn (T 0 3)) ≤ Int32.ofNat s) = False := by rw [i_le (by omega) (by omega)]; exact eq_false (by omega)
      have hz := h138 0 0
      have key : (if m = 0 then (if tbh T n s < n then jmax 0 (T 8 (tbh T n s) - 60 * (Int32.ofNat (tbh T n s) - Int32.ofNat s)) else 0) else jmin 0 (if tbh T n s < n then T 8 (tbh T n s) else tway 0 V (nn (V 0 0)))) = 0 := by
        have hbb : nextS T (n - (s + 1)) (s + 1) = tbh T n s := rfl
        rw [hbb] at na1 na2 na3 na4
        generalize tbh T n s = b at *
        have jm : ∀ v : Int32, 0 ≤ v → jmin 0 v = 0 := fun v hv => by
          unfold jmin
          split
          · next z =>
            rw [i_nle] at z
            exact absurd hv z
          · rfl
        by_cases q : b < n
        · rw [if_pos q, if_pos q]
          have b2 := na4 (by omega)
          obtain ⟨g1, g2⟩ := hge b (by omega) b2
          have hv0 : 0 ≤ T 8 b := by
            rw [g2.1, show (0 : Int32) = Int32.ofNat 0 from rfl, i_le (by omega) (by have := g2.2; omega)]
            omega
          rw [jm _ hv0]
          have e60 : (60 : Int32) * (Int32.ofNat b - Int32.ofNat s) = Int32.ofNat (60 * (b - s)) := by
            have e1 : Int32.ofNat b - Int32.ofNat s = Int32.ofNat (b - s) := by
              rw [← Int32.toInt_inj, Int32.toInt_sub, i_int (by omega), i_int (by omega), i_int (by omega), Int.bmod_eq_of_le (by omega) (by omega)]
              omega
            rw [e1]
            exact i_mulN (a := 60)
          have ej : jmax 0 (T 8 b - 60 * (Int32.ofNat b - Int32.ofNat s)) = 0 := by
            have h22 := g2.2
            have h21 := g2.1
            generalize nn (T 8 b) = v at *
            rw [e60, h21, jmax_n (by omega) (by omega), show v - 60 * (b - s) = 0 by omega]
            rfl
          rw [ej]
          split <;> rfl
        · rw [if_neg q, if_neg q, jm _ htr]
          split <;> rfl
      rw [key] at hz
      refine zat_in zP_X6_spot zk_X6_spot_113 ?_
      simp (disch := omega) only [b_X6_spot_113, zif, zdr, zkb, mK_wi, mN_wi, mJ_wi, mI_wi, sI_wi, beq_self_eq_true, Bool.true_or, Bool.or_true, Bool.or_false, Bool.and_self, Bool.and_true, Bool.true_and, ↓reduceIte, ble_up0, i_cl, i_succ, zix_of, zfl_k, zup_k, zup_q, p0, ps1, ps2, ps3, pt1, pt2, pt3, pl1, pl2, pl3, pc1, pc2, pc3, pw1, pw2, pw3, pn1, pn2, pn3, py1, py2, py3, pf1, pf2, pf3, pg1, pg2, pg3, x3, l2]
      exact ev_bk hz
    · rw [if_neg c3]
      have l2 : (Int32.ofNat (nn (T 0 3)) ≤ Int32.ofNat s) = True := by rw [i_le (by omega) (by omega)]; exact eq_true (by omega)
      unfold tfar tnear
      rw [hp]
      have hz := h138 0 (60 * ((Int32.ofNat s - T 0 3) + 1))
      rw [hst.1] at hz ⊢
      refine zat_in zP_X6_spot zk_X6_spot_113 ?_
      simp (disch := omega) only [b_X6_spot_113, zif, zdr, zkb, mK_wi, mN_wi, mJ_wi, mI_wi, sI_wi, beq_self_eq_true, Bool.true_or, Bool.or_true, Bool.or_false, Bool.and_self, Bool.and_true, Bool.true_and, ↓reduceIte, ble_up0, i_cl, i_succ, zix_of, zfl_k, zup_k, zup_q, p0, ps1, ps2, ps3, pt1, pt2, pt3, pl1, pl2, pl3, pc1, pc2, pc3, pw1, pw2, pw3, pn1, pn2, pn3, py1, py2, py3, pf1, pf2, pf3, pg1, pg2, pg3, x3, l2]
      refine ev_bk ?_
      refine zat_in zP_X6_spot zk_X6_spot_126 ?_
      simp (disch := omega) only [b_X6_spot_126, zif, zdr, zkb, mK_wi, mN_wi, mJ_wi, mI_wi, sI_wi, beq_self_eq_true, Bool.true_or, Bool.or_true, Bool.or_false, Bool.and_self, Bool.and_true, Bool.true_and, ↓reduceIte, ble_up0, i_cl, i_succ, zix_of, zfl_k, zup_k, zup_q, p0, ps1, ps2, ps3, pt1, pt2, pt3, pl1, pl2, pl3, pc1, pc2, pc3, pw1, pw2, pw3, pn1, pn2, pn3, py1, py2, py3, pf1, pf2, pf3, pg1, pg2, pg3, x3]
      refine ev_tl zP_X6_spot zk_X6_spot_138 ?_
      exact hz
  | some q =>
    obtain ⟨h1, h2, h3⟩ := prevS_s _ _ hp
    obtain ⟨g1, g2⟩ := hSg q (by omega) h2
    have hge1 := (hge q (by omega) h2).1
    rw [if_neg (by omega)]
    unfold tfar tnear
    rw [hp]
    have hz := h138 (T 8 q) (T 8 q + 60 * (Int32.ofNat s - Int32.ofNat q))
    have l : (Int32.ofNat (cS T (s + 1)) ≤ 0) = False := by
      rw [h3, show (0 : Int32) = Int32.ofNat 0 from rfl, i_le (by omega) (by omega)]
      exact eq_false (by omega)
    rw [h3] at l hz ⊢
    refine zat_in zP_X6_spot zk_X6_spot_66 ?_
    simp (disch := omega) only [b_X6_spot_66, zif, zdr, zkb, mK_wi, mN_wi, mJ_wi, mI_wi, sI_wi, beq_self_eq_true, Bool.true_or, Bool.or_true, Bool.or_false, Bool.and_self, Bool.and_true, Bool.true_and, ↓reduceIte, ble_up0, i_cl, i_succ, zix_of, zfl_k, zup_k, zup_q, p0, ps1, ps2, ps3, pt1, pt2, pt3, pl1, pl2, pl3, pc1, pc2, pc3, pw1, pw2, pw3, pn1, pn2, pn3, py1, py2, py3, pf1, pf2, pf3, pg1, pg2, pg3, l, i_p1, g2]
    refine ev_bk ?_
    refine zat_in zP_X6_spot zk_X6_spot_85 ?_
    simp (disch := omega) only [b_X6_spot_85, zif, zdr, zkb, mK_wi, mN_wi, mJ_wi, mI_wi, sI_wi, beq_self_eq_true, Bool.true_or, Bool.or_true, Bool.or_false, Bool.and_self, Bool.and_true, Bool.true_and, ↓reduceIte, ble_up0, i_cl, i_succ, zix_of, zfl_k, zup_k, zup_q, p0, ps1, ps2, ps3, pt1, pt2, pt3, pl1, pl2, pl3, pc1, pc2, pc3, pw1, pw2, pw3, pn1, pn2, pn3, py1, py2, py3, pf1, pf2, pf3, pg1, pg2, pg3, l, i_p1, g1]
    exact ev_bk hz
theorem mq_spot (hB : E.1 ≤ w) (h : MG S I w G) (hi : IG G) (x y m : Int32) : zCl E (d + 2) 173 [zr (some w), zi x, zi y, zi m] (zwi S I) (Sum.inl (some (zi (qSpot G x y m))), zwi S (zup I w 0 0)) := by
  have hwn := h.1.1
  obtain ⟨⟨w0, ⟨wa1, wa2, wa3⟩, ⟨wb1, wb2, wb3⟩, ⟨wc1, wc2, wc3⟩⟩, ⟨w1, w2, w3⟩, w4⟩ := id hwn
  have hs2 := hi.1.2.1
  have hs22 := hi.1.1.2.2.1.2
  have e6 : I w 6 = Int32.ofNat (nn (gV G 0 2)) := h.2.2.1.1.un.1.2.2.1.trans hs2
  unfold qSpot
  by_cases c1 : isT G x = 0
  · rw [if_pos c1]
    refine zcl_in' zP_X6_spot ?_; rw [zn_4_8]
    (first | refine zat_in zP_X6_spot zk_X6_spot_0 ?_ | refine zat_in zP_X6_spot zk_X6_spot_25 ?_ | refine zat_in zP_X6_spot zk_X6_spot_27 ?_ | refine zat_in zP_X6_spot zk_X6_spot_38 ?_ | refine zat_in zP_X6_spot zk_X6_spot_66 ?_ | refine zat_in zP_X6_spot zk_X6_spot_84 ?_ | refine zat_in zP_X6_spot zk_X6_spot_85 ?_ | refine zat_in zP_X6_spot zk_X6_spot_113 ?_ | refine zat_in zP_X6_spot zk_X6_spot_126 ?_ | refine zat_in zP_X6_spot zk_X6_spot_138 ?_ | refine zat_in zP_X6_spot zk_X6_spot_179 ?_ | refine zat_in zP_X6_spot zk_X6_spot_202 ?_ | refine zat_in zP_X6_spot zk_X6_spot_206 ?_ | refine zat_in zP_X6_spot zk_X6_spot_220 ?_ | refine zat_in zP_X6_spot zk_X6_spot_222 ?_) <;> simp (disch := omega) only [b_X6_spot_0, b_X6_spot_25, b_X6_spot_27, b_X6_spot_38, b_X6_spot_66, b_X6_spot_84, b_X6_spot_85, b_X6_spot_113, b_X6_spot_126, b_X6_spot_138, b_X6_spot_179, b_X6_spot_202, b_X6_spot_206, b_X6_spot_220, b_X6_spot_222, zc_X6_spot_25, zc_X6_spot_27, zc_X6_spot_38, zc_X6_spot_66, zc_X6_spot_84, zc_X6_spot_85, zc_X6_spot_113, zc_X6_spot_126, zc_X6_spot_138, zc_X6_spot_179, zc_X6_spot_202, zc_X6_spot_206, zc_X6_spot_220, zc_X6_spot_222, zif, zdr, zkb, mK_wi, mN_wi, mJ_wi, mI_wi, sI_wi, beq_self_eq_true, Bool.true_or, Bool.or_true, Bool.or_false, Bool.and_self, Bool.and_true, Bool.true_and, ↓reduceIte, ble_up0, i_cl, i_succ, zix_of, zfl_k, zup_k, zup_q, w0, wa1, wa2, wa3, wb1, wb2, wb3, wc1, wc2, wc3, w1, w2, w3, eq_true c1]; repeat (first | exact ev_r | (refine ev_bk ?_; ((first | refine zat_in zP_X6_spot zk_X6_spot_0 ?_ | refine zat_in zP_X6_spot zk_X6_spot_25 ?_ | refine zat_in zP_X6_spot zk_X6_spot_27 ?_ | refine zat_in zP_X6_spot zk_X6_spot_38 ?_ | refine zat_in zP_X6_spot zk_X6_spot_66 ?_ | refine zat_in zP_X6_spot zk_X6_spot_84 ?_ | refine zat_in zP_X6_spot zk_X6_spot_85 ?_ | refine zat_in zP_X6_spot zk_X6_spot_113 ?_ | refine zat_in zP_X6_spot zk_X6_spot_126 ?_ | refine zat_in zP_X6_spot zk_X6_spot_138 ?_ | refine zat_in zP_X6_spot zk_X6_spot_179 ?_ | refine zat_in zP_X6_spot zk_X6_spot_202 ?_ | refine zat_in zP_X6_spot zk_X6_spot_206 ?_ | refine zat_in zP_X6_spot zk_X6_spot_220 ?_ | refine zat_in zP_X6_spot zk_X6_spot_222 ?_) <;> simp (disch := omega) only [b_X6_spot_0, b_X6_spot_25, b_X6_spot_27, b_X6_spot_38, b_X6_spot_66, b_X6_spot_84, b_X6_spot_85, b_X6_spot_113, b_X6_spot_126, b_X6_spot_138, b_X6_spot_179, b_X6_spot_202, b_X6_spot_206, b_X6_spot_220, b_X6_spot_222, zc_X6_spot_25, zc_X6_spot_27, zc_X6_spot_38, zc_X6_spot_66, zc_X6_spot_84, zc_X6_spot_85, zc_X6_spot_113, zc_X6_spot_126, zc_X6_spot_138, zc_X6_spot_179, zc_X6_spot_202, zc_X6_spot_206, zc_X6_spot_220, zc_X6_spot_222, zif, zdr, zkb, mK_wi, mN_wi, mJ_wi, mI_wi, sI_wi, beq_self_eq_true, Bool.true_or, Bool.or_true, Bool.or_false, Bool.and_self, Bool.and_true, Bool.true_and, ↓reduceIte, ble_up0, i_cl, i_succ, zix_of, zfl_k, zup_k, zup_q, w0, wa1, wa2, wa3, wb1, wb2, wb3, wc1, wc2, wc3, w1, w2, w3, eq_true c1])) | (refine ev_cv (mq_team h hi x) ?_; try simp (disch := omega) only [b_X6_spot_0, b_X6_spot_25, b_X6_spot_27, b_X6_spot_38, b_X6_spot_66, b_X6_spot_84, b_X6_spot_85, b_X6_spot_113, b_X6_spot_126, b_X6_spot_138, b_X6_spot_179, b_X6_spot_202, b_X6_spot_206, b_X6_spot_220, b_X6_spot_222, zc_X6_spot_25, zc_X6_spot_27, zc_X6_spot_38, zc_X6_spot_66, zc_X6_spot_84, zc_X6_spot_85, zc_X6_spot_113, zc_X6_spot_126, zc_X6_spot_138, zc_X6_spot_179, zc_X6_spot_202, zc_X6_spot_206, zc_X6_spot_220, zc_X6_spot_222, zif, zdr, zkb, mK_wi, mN_wi, mJ_wi, mI_wi, sI_wi, beq_self_eq_true, Bool.true_or, Bool.or_true, Bool.or_false, Bool.and_self, Bool.and_true, Bool.true_and, ↓reduceIte, ble_up0, i_cl, i_succ, zix_of, zfl_k, zup_k, zup_q, w0, wa1, wa2, wa3, wb1, wb2, wb3, wc1, wc2, wc3, w1, w2, w3, eq_true c1]) | (refine ev_ci (mq_team h hi x) ?_; try simp (disch := omega) only [b_X6_spot_0, b_X6_spot_25, b_X6_spot_27, b_X6_spot_38, b_X6_spot_66, b_X6_spot_84, b_X6_spot_85, b_X6_spot_113, b_X6_spot_126, b_X6_spot_138, b_X6_spot_179, b_X6_spot_202, b_X6_spot_206, b_X6_spot_220, b_X6_spot_222, zc_X6_spot_25, zc_X6_spot_27, zc_X6_spot_38, zc_X6_spot_66, zc_X6_spot_84, zc_X6_spot_85, zc_X6_spot_113, zc_X6_spot_126, zc_X6_spot_138, zc_X6_spot_179, zc_X6_spot_202, zc_X6_spot_206, zc_X6_spot_220, zc_X6_spot_222, zif, zdr, zkb, mK_wi, mN_wi, mJ_wi, mI_wi, sI_wi, beq_self_eq_true, Bool.true_or, Bool.or_true, Bool.or_false, Bool.and_self, Bool.and_true, Bool.true_and, ↓reduceIte, ble_up0, i_cl, i_succ, zix_of, zfl_k, zup_k, zup_q, w0, wa1, wa2, wa3, wb1, wb2, wb3, wc1, wc2, wc3, w1, w2, w3, eq_true c1]) | (refine ev_cr (mq_team h hi x) ?_; try simp (disch := omega) only [b_X6_spot_0, b_X6_spot_25, b_X6_spot_27, b_X6_spot_38, b_X6_spot_66, b_X6_spot_84, b_X6_spot_85, b_X6_spot_113, b_X6_spot_126, b_X6_spot_138, b_X6_spot_179, b_X6_spot_202, b_X6_spot_206, b_X6_spot_220, b_X6_spot_222, zc_X6_spot_25, zc_X6_spot_27, zc_X6_spot_38, zc_X6_spot_66, zc_X6_spot_84, zc_X6_spot_85, zc_X6_spot_113, zc_X6_spot_126, zc_X6_spot_138, zc_X6_spot_179, zc_X6_spot_202, zc_X6_spot_206, zc_X6_spot_220, zc_X6_spot_222, zif, zdr, zkb, mK_wi, mN_wi, mJ_wi, mI_wi, sI_wi, beq_self_eq_true, Bool.true_or, Bool.or_true, Bool.or_false, Bool.and_self, Bool.and_true, Bool.true_and, ↓reduceIte, ble_up0, i_cl, i_succ, zix_of, zfl_k, zup_k, zup_q, w0, wa1, wa2, wa3, wb1, wb2, wb3, wc1, wc2, wc3, w1, w2, w3, eq_true c1]) | (refine ev_cg (mq_team h hi x) ?_; try simp (disch := omega) only [b_X6_spot_0, b_X6_spot_25, b_X6_spot_27, b_X6_spot_38, b_X6_spot_66, b_X6_spot_84, b_X6_spot_85, b_X6_spot_113, b_X6_spot_126, b_X6_spot_138, b_X6_spot_179, b_X6_spot_202, b_X6_spot_206, b_X6_spot_220, b_X6_spot_222, zc_X6_spot_25, zc_X6_spot_27, zc_X6_spot_38, zc_X6_spot_66, zc_X6_spot_84, zc_X6_spot_85, zc_X6_spot_113, zc_X6_spot_126, zc_X6_spot_138, zc_X6_spot_179, zc_X6_spot_202, zc_X6_spot_206, zc_X6_spot_220, zc_X6_spot_222, zif, zdr, zkb, mK_wi, mN_wi, mJ_wi, mI_wi, sI_wi, beq_self_eq_true, Bool.true_or, Bool.or_true, Bool.or_false, Bool.and_self, Bool.and_true, Bool.true_and, ↓reduceIte, ble_up0, i_cl, i_succ, zix_of, zfl_k, zup_k, zup_q, w0, wa1, wa2, wa3, wb1, wb2, wb3, wc1, wc2, wc3, w1, w2, w3, eq_true c1]))
  rw [if_neg c1]
  obtain ⟨ht, hk⟩ := isT_k hi c1
  have hnt := hi.1.1.2.1.2
  obtain ⟨g1, g2⟩ := w4 (nn x) (by omega)
  have q1 := g1.1
  have hz : zix x 6 = true := by rw [ht]; exact zix_of (by omega) (by omega)
  have hc : x.toNatClampNeg = nn x := rfl
  by_cases c2 : tin y 0 (Int32.ofNat (nn (gV G 0 2)) - 1) = 0
  · rw [if_pos c2]
    by_cases c4 : y < 0
    · refine zcl_in' zP_X6_spot ?_; rw [zn_4_8]
      (first | refine zat_in zP_X6_spot zk_X6_spot_0 ?_ | refine zat_in zP_X6_spot zk_X6_spot_25 ?_ | refine zat_in zP_X6_spot zk_X6_spot_27 ?_ | refine zat_in zP_X6_spot zk_X6_spot_38 ?_ | refine zat_in zP_X6_spot zk_X6_spot_66 ?_ | refine zat_in zP_X6_spot zk_X6_spot_84 ?_ | refine zat_in zP_X6_spot zk_X6_spot_85 ?_ | refine zat_in zP_X6_spot zk_X6_spot_113 ?_ | refine zat_in zP_X6_spot zk_X6_spot_126 ?_ | refine zat_in zP_X6_spot zk_X6_spot_138 ?_ | refine zat_in zP_X6_spot zk_X6_spot_179 ?_ | refine zat_in zP_X6_spot zk_X6_spot_202 ?_ | refine zat_in zP_X6_spot zk_X6_spot_206 ?_ | refine zat_in zP_X6_spot zk_X6_spot_220 ?_ | refine zat_in zP_X6_spot zk_X6_spot_222 ?_) <;> simp (disch := omega) only [b_X6_spot_0, b_X6_spot_25, b_X6_spot_27, b_X6_spot_38, b_X6_spot_66, b_X6_spot_84, b_X6_spot_85, b_X6_spot_113, b_X6_spot_126, b_X6_spot_138, b_X6_spot_179, b_X6_spot_202, b_X6_spot_206, b_X6_spot_220, b_X6_spot_222, zc_X6_spot_25, zc_X6_spot_27, zc_X6_spot_38, zc_X6_spot_66, zc_X6_spot_84, zc_X6_spot_85, zc_X6_spot_113, zc_X6_spot_126, zc_X6_spot_138, zc_X6_spot_179, zc_X6_spot_202, zc_X6_spot_206, zc_X6_spot_220, zc_X6_spot_222, zif, zdr, zkb, mK_wi, mN_wi, mJ_wi, mI_wi, sI_wi, beq_self_eq_true, Bool.true_or, Bool.or_true, Bool.or_false, Bool.and_self, Bool.and_true, Bool.true_and, ↓reduceIte, ble_up0, i_cl, i_succ, zix_of, zfl_k, zup_k, zup_q, w0, wa1, wa2, wa3, wb1, wb2, wb3, wc1, wc2, wc3, w1, w2, w3, e6, eq_false c1, eq_true c4]; repeat (first | exact ev_r | (refine ev_bk ?_; ((first | refine zat_in zP_X6_spot zk_X6_spot_0 ?_ | refine zat_in zP_X6_spot zk_X6_spot_25 ?_ | refine zat_in zP_X6_spot zk_X6_spot_27 ?_ | refine zat_in zP_X6_spot zk_X6_spot_38 ?_ | refine zat_in zP_X6_spot zk_X6_spot_66 ?_ | refine zat_in zP_X6_spot zk_X6_spot_84 ?_ | refine zat_in zP_X6_spot zk_X6_spot_85 ?_ | refine zat_in zP_X6_spot zk_X6_spot_113 ?_ | refine zat_in zP_X6_spot zk_X6_spot_126 ?_ | refine zat_in zP_X6_spot zk_X6_spot_138 ?_ | refine zat_in zP_X6_spot zk_X6_spot_179 ?_ | refine zat_in zP_X6_spot zk_X6_spot_202 ?_ | refine zat_in zP_X6_spot zk_X6_spot_206 ?_ | refine zat_in zP_X6_spot zk_X6_spot_220 ?_ | refine zat_in zP_X6_spot zk_X6_spot_222 ?_) <;> simp (disch := omega) only [b_X6_spot_0, b_X6_spot_25, b_X6_spot_27, b_X6_spot_38, b_X6_spot_66, b_X6_spot_84, b_X6_spot_85, b_X6_spot_113, b_X6_spot_126, b_X6_spot_138, b_X6_spot_179, b_X6_spot_202, b_X6_spot_206, b_X6_spot_220, b_X6_spot_222, zc_X6_spot_25, zc_X6_spot_27, zc_X6_spot_38, zc_X6_spot_66, zc_X6_spot_84, zc_X6_spot_85, zc_X6_spot_113, zc_X6_spot_126, zc_X6_spot_138, zc_X6_spot_179, zc_X6_spot_202, zc_X6_spot_206, zc_X6_spot_220, zc_X6_spot_222, zif, zdr, zkb, mK_wi, mN_wi, mJ_wi, mI_wi, sI_wi, beq_self_eq_true, Bool.true_or, Bool.or_true, Bool.or_false, Bool.and_self, Bool.and_true, Bool.true_and, ↓reduceIte, ble_up0, i_cl, i_succ, zix_of, zfl_k, zup_k, zup_q, w0, wa1, wa2, wa3, wb1, wb2, wb3, wc1, wc2, wc3, w1, w2, w3, e6, eq_false c1, eq_true c4])) | (refine ev_cv (mq_team h hi x) ?_; try simp (disch := omega) only [b_X6_spot_0, b_X6_spot_25, b_X6_spot_27, b_X6_spot_38, b_X6_spot_66, b_X6_spot_84, b_X6_spot_85, b_X6_spot_113, b_X6_spot_126, b_X6_spot_138, b_X6_spot_179, b_X6_spot_202, b_X6_spot_206, b_X6_spot_220, b_X6_spot_222, zc_X6_spot_25, zc_X6_spot_27, zc_X6_spot_38, zc_X6_spot_66, zc_X6_spot_84, zc_X6_spot_85, zc_X6_spot_113, zc_X6_spot_126, zc_X6_spot_138, zc_X6_spot_179, zc_X6_spot_202, zc_X6_spot_206, zc_X6_spot_220, zc_X6_spot_222, zif, zdr, zkb, mK_wi, mN_wi, mJ_wi, mI_wi, sI_wi, beq_self_eq_true, Bool.true_or, Bool.or_true, Bool.or_false, Bool.and_self, Bool.and_true, Bool.true_and, ↓reduceIte, ble_up0, i_cl, i_succ, zix_of, zfl_k, zup_k, zup_q, w0, wa1, wa2, wa3, wb1, wb2, wb3, wc1, wc2, wc3, w1, w2, w3, e6, eq_false c1, eq_true c4]) | (refine ev_ci (mq_team h hi x) ?_; try simp (disch := omega) only [b_X6_spot_0, b_X6_spot_25, b_X6_spot_27, b_X6_spot_38, b_X6_spot_66, b_X6_spot_84, b_X6_spot_85, b_X6_spot_113, b_X6_spot_126, b_X6_spot_138, b_X6_spot_179, b_X6_spot_202, b_X6_spot_206, b_X6_spot_220, b_X6_spot_222, zc_X6_spot_25, zc_X6_spot_27, zc_X6_spot_38, zc_X6_spot_66, zc_X6_spot_84, zc_X6_spot_85, zc_X6_spot_113, zc_X6_spot_126, zc_X6_spot_138, zc_X6_spot_179, zc_X6_spot_202, zc_X6_spot_206, zc_X6_spot_220, zc_X6_spot_222, zif, zdr, zkb, mK_wi, mN_wi, mJ_wi, mI_wi, sI_wi, beq_self_eq_true, Bool.true_or, Bool.or_true, Bool.or_false, Bool.and_self, Bool.and_true, Bool.true_and, ↓reduceIte, ble_up0, i_cl, i_succ, zix_of, zfl_k, zup_k, zup_q, w0, wa1, wa2, wa3, wb1, wb2, wb3, wc1, wc2, wc3, w1, w2, w3, e6, eq_false c1, eq_true c4]) | (refine ev_cr (mq_team h hi x) ?_; try simp (disch := omega) only [b_X6_spot_0, b_X6_spot_25, b_X6_spot_27, b_X6_spot_38, b_X6_spot_66, b_X6_spot_84, b_X6_spot_85, b_X6_spot_113, b_X6_spot_126, b_X6_spot_138, b_X6_spot_179, b_X6_spot_202, b_X6_spot_206, b_X6_spot_220, b_X6_spot_222, zc_X6_spot_25, zc_X6_spot_27, zc_X6_spot_38, zc_X6_spot_66, zc_X6_spot_84, zc_X6_spot_85, zc_X6_spot_113, zc_X6_spot_126, zc_X6_spot_138, zc_X6_spot_179, zc_X6_spot_202, zc_X6_spot_206, zc_X6_spot_220, zc_X6_spot_222, zif, zdr, zkb, mK_wi, mN_wi, mJ_wi, mI_wi, sI_wi, beq_self_eq_true, Bool.true_or, Bool.or_true, Bool.or_false, Bool.and_self, Bool.and_true, Bool.true_and, ↓reduceIte, ble_up0, i_cl, i_succ, zix_of, zfl_k, zup_k, zup_q, w0, wa1, wa2, wa3, wb1, wb2, wb3, wc1, wc2, wc3, w1, w2, w3, e6, eq_false c1, eq_true c4]) | (refine ev_cg (mq_team h hi x) ?_; try simp (disch := omega) only [b_X6_spot_0, b_X6_spot_25, b_X6_spot_27, b_X6_spot_38, b_X6_spot_66, b_X6_spot_84, b_X6_spot_85, b_X6_spot_113, b_X6_spot_126, b_X6_spot_138, b_X6_spot_179, b_X6_spot_202, b_X6_spot_206, b_X6_spot_220, b_X6_spot_222, zc_X6_spot_25, zc_X6_spot_27, zc_X6_spot_38, zc_X6_spot_66, zc_X6_spot_84, zc_X6_spot_85, zc_X6_spot_113, zc_X6_spot_126, zc_X6_spot_138, zc_X6_spot_179, zc_X6_spot_202, zc_X6_spot_206, zc_X6_spot_220, zc_X6_spot_222, zif, zdr, zkb, mK_wi, mN_wi, mJ_wi, mI_wi, sI_wi, beq_self_eq_true, Bool.true_or, Bool.or_true, Bool.or_false, Bool.and_self, Bool.and_true, Bool.true_and, ↓reduceIte, ble_up0, i_cl, i_succ, zix_of, zfl_k, zup_k, zup_q, w0, wa1, wa2, wa3, wb1, wb2, wb3, wc1, wc2, wc3, w1, w2, w3, e6, eq_false c1, eq_true c4]))
    · have c5 : ¬ y < Int32.ofNat (nn (gV G 0 2)) := by
        have := (tin_iff.1 c2).resolve_left c4
        rw [i_prd (by omega)] at this
        rw [i_nle, Decidable.not_not]
        exact this
      refine zcl_in' zP_X6_spot ?_; rw [zn_4_8]
      (first | refine zat_in zP_X6_spot zk_X6_spot_0 ?_ | refine zat_in zP_X6_spot zk_X6_spot_25 ?_ | refine zat_in zP_X6_spot zk_X6_spot_27 ?_ | refine zat_in zP_X6_spot zk_X6_spot_38 ?_ | refine zat_in zP_X6_spot zk_X6_spot_66 ?_ | refine zat_in zP_X6_spot zk_X6_spot_84 ?_ | refine zat_in zP_X6_spot zk_X6_spot_85 ?_ | refine zat_in zP_X6_spot zk_X6_spot_113 ?_ | refine zat_in zP_X6_spot zk_X6_spot_126 ?_ | refine zat_in zP_X6_spot zk_X6_spot_138 ?_ | refine zat_in zP_X6_spot zk_X6_spot_179 ?_ | refine zat_in zP_X6_spot zk_X6_spot_202 ?_ | refine zat_in zP_X6_spot zk_X6_spot_206 ?_ | refine zat_in zP_X6_spot zk_X6_spot_220 ?_ | refine zat_in zP_X6_spot zk_X6_spot_222 ?_) <;> simp (disch := omega) only [b_X6_spot_0, b_X6_spot_25, b_X6_spot_27, b_X6_spot_38, b_X6_spot_66, b_X6_spot_84, b_X6_spot_85, b_X6_spot_113, b_X6_spot_126, b_X6_spot_138, b_X6_spot_179, b_X6_spot_202, b_X6_spot_206, b_X6_spot_220, b_X6_spot_222, zc_X6_spot_25, zc_X6_spot_27, zc_X6_spot_38, zc_X6_spot_66, zc_X6_spot_84, zc_X6_spot_85, zc_X6_spot_113, zc_X6_spot_126, zc_X6_spot_138, zc_X6_spot_179, zc_X6_spot_202, zc_X6_spot_206, zc_X6_spot_220, zc_X6_spot_222, zif, zdr, zkb, mK_wi, mN_wi, mJ_wi, mI_wi, sI_wi, beq_self_eq_true, Bool.true_or, Bool.or_true, Bool.or_false, Bool.and_self, Bool.and_true, Bool.true_and, ↓reduceIte, ble_up0, i_cl, i_succ, zix_of, zfl_k, zup_k, zup_q, w0, wa1, wa2, wa3, wb1, wb2, wb3, wc1, wc2, wc3, w1, w2, w3, e6, eq_false c1, eq_false c4, eq_false c5]; repeat (first | exact ev_r | (refine ev_bk ?_; ((first | refine zat_in zP_X6_spot zk_X6_spot_0 ?_ | refine zat_in zP_X6_spot zk_X6_spot_25 ?_ | refine zat_in zP_X6_spot zk_X6_spot_27 ?_ | refine zat_in zP_X6_spot zk_X6_spot_38 ?_ | refine zat_in zP_X6_spot zk_X6_spot_66 ?_ | refine zat_in zP_X6_spot zk_X6_spot_84 ?_ | refine zat_in zP_X6_spot zk_X6_spot_85 ?_ | refine zat_in zP_X6_spot zk_X6_spot_113 ?_ | refine zat_in zP_X6_spot zk_X6_spot_126 ?_ | refine zat_in zP_X6_spot zk_X6_spot_138 ?_ | refine zat_in zP_X6_spot zk_X6_spot_179 ?_ | refine zat_in zP_X6_spot zk_X6_spot_202 ?_ | refine zat_in zP_X6_spot zk_X6_spot_206 ?_ | refine zat_in zP_X6_spot zk_X6_spot_220 ?_ | refine zat_in zP_X6_spot zk_X6_spot_222 ?_) <;> simp (disch := omega) only [b_X6_spot_0, b_X6_spot_25, b_X6_spot_27, b_X6_spot_38, b_X6_spot_66, b_X6_spot_84, b_X6_spot_85, b_X6_spot_113, b_X6_spot_126, b_X6_spot_138, b_X6_spot_179, b_X6_spot_202, b_X6_spot_206, b_X6_spot_220, b_X6_spot_222, zc_X6_spot_25, zc_X6_spot_27, zc_X6_spot_38, zc_X6_spot_66, zc_X6_spot_84, zc_X6_spot_85, zc_X6_spot_113, zc_X6_spot_126, zc_X6_spot_138, zc_X6_spot_179, zc_X6_spot_202, zc_X6_spot_206, zc_X6_spot_220, zc_X6_spot_222, zif, zdr, zkb, mK_wi, mN_wi, mJ_wi, mI_wi, sI_wi, beq_self_eq_true, Bool.true_or, Bool.or_true, Bool.or_false, Bool.and_self, Bool.and_true, Bool.true_and, ↓reduceIte, ble_up0, i_cl, i_succ, zix_of, zfl_k, zup_k, zup_q, w0, wa1, wa2, wa3, wb1, wb2, wb3, wc1, wc2, wc3, w1, w2, w3, e6, eq_false c1, eq_false c4, eq_false c5])) | (refine ev_cv (mq_team h hi x) ?_; try simp (disch := omega) only [b_X6_spot_0, b_X6_spot_25, b_X6_spot_27, b_X6_spot_38, b_X6_spot_66, b_X6_spot_84, b_X6_spot_85, b_X6_spot_113, b_X6_spot_126, b_X6_spot_138, b_X6_spot_179, b_X6_spot_202, b_X6_spot_206, b_X6_spot_220, b_X6_spot_222, zc_X6_spot_25, zc_X6_spot_27, zc_X6_spot_38, zc_X6_spot_66, zc_X6_spot_84, zc_X6_spot_85, zc_X6_spot_113, zc_X6_spot_126, zc_X6_spot_138, zc_X6_spot_179, zc_X6_spot_202, zc_X6_spot_206, zc_X6_spot_220, zc_X6_spot_222, zif, zdr, zkb, mK_wi, mN_wi, mJ_wi, mI_wi, sI_wi, beq_self_eq_true, Bool.true_or, Bool.or_true, Bool.or_false, Bool.and_self, Bool.and_true, Bool.true_and, ↓reduceIte, ble_up0, i_cl, i_succ, zix_of, zfl_k, zup_k, zup_q, w0, wa1, wa2, wa3, wb1, wb2, wb3, wc1, wc2, wc3, w1, w2, w3, e6, eq_false c1, eq_false c4, eq_false c5]) | (refine ev_ci (mq_team h hi x) ?_; try simp (disch := omega) only [b_X6_spot_0, b_X6_spot_25, b_X6_spot_27, b_X6_spot_38, b_X6_spot_66, b_X6_spot_84, b_X6_spot_85, b_X6_spot_113, b_X6_spot_126, b_X6_spot_138, b_X6_spot_179, b_X6_spot_202, b_X6_spot_206, b_X6_spot_220, b_X6_spot_222, zc_X6_spot_25, zc_X6_spot_27, zc_X6_spot_38, zc_X6_spot_66, zc_X6_spot_84, zc_X6_spot_85, zc_X6_spot_113, zc_X6_spot_126, zc_X6_spot_138, zc_X6_spot_179, zc_X6_spot_202, zc_X6_spot_206, zc_X6_spot_220, zc_X6_spot_222, zif, zdr, zkb, mK_wi, mN_wi, mJ_wi, mI_wi, sI_wi, beq_self_eq_true, Bool.true_or, Bool.or_true, Bool.or_false, Bool.and_self, Bool.and_true, Bool.true_and, ↓reduceIte, ble_up0, i_cl, i_succ, zix_of, zfl_k, zup_k, zup_q, w0, wa1, wa2, wa3, wb1, wb2, wb3, wc1, wc2, wc3, w1, w2, w3, e6, eq_false c1, eq_false c4, eq_false c5]) | (refine ev_cr (mq_team h hi x) ?_; try simp (disch := omega) only [b_X6_spot_0, b_X6_spot_25, b_X6_spot_27, b_X6_spot_38, b_X6_spot_66, b_X6_spot_84, b_X6_spot_85, b_X6_spot_113, b_X6_spot_126, b_X6_spot_138, b_X6_spot_179, b_X6_spot_202, b_X6_spot_206, b_X6_spot_220, b_X6_spot_222, zc_X6_spot_25, zc_X6_spot_27, zc_X6_spot_38, zc_X6_spot_66, zc_X6_spot_84, zc_X6_spot_85, zc_X6_spot_113, zc_X6_spot_126, zc_X6_spot_138, zc_X6_spot_179, zc_X6_spot_202, zc_X6_spot_206, zc_X6_spot_220, zc_X6_spot_222, zif, zdr, zkb, mK_wi, mN_wi, mJ_wi, mI_wi, sI_wi, beq_self_eq_true, Bool.true_or, Bool.or_true, Bool.or_false, Bool.and_self, Bool.and_true, Bool.true_and, ↓reduceIte, ble_up0, i_cl, i_succ, zix_of, zfl_k, zup_k, zup_q, w0, wa1, wa2, wa3, wb1, wb2, wb3, wc1, wc2, wc3, w1, w2, w3, e6, eq_false c1, eq_false c4, eq_false c5]) | (refine ev_cg (mq_team h hi x) ?_; try simp (disch := omega) only [b_X6_spot_0, b_X6_spot_25, b_X6_spot_27, b_X6_spot_38, b_X6_spot_66, b_X6_spot_84, b_X6_spot_85, b_X6_spot_113, b_X6_spot_126, b_X6_spot_138, b_X6_spot_179, b_X6_spot_202, b_X6_spot_206, b_X6_spot_220, b_X6_spot_222, zc_X6_spot_25, zc_X6_spot_27, zc_X6_spot_38, zc_X6_spot_66, zc_X6_spot_84, zc_X6_spot_85, zc_X6_spot_113, zc_X6_spot_126, zc_X6_spot_138, zc_X6_spot_179, zc_X6_spot_202, zc_X6_spot_206, zc_X6_spot_220, zc_X6_spot_222, zif, zdr, zkb, mK_wi, mN_wi, mJ_wi, mI_wi, sI_wi, beq_self_eq_true, Bool.true_or, Bool.or_true, Bool.or_false, Bool.and_self, Bool.and_true, Bool.true_and, ↓reduceIte, ble_up0, i_cl, i_succ, zix_of, zfl_k, zup_k, zup_q, w0, wa1, wa2, wa3, wb1, wb2, wb3, wc1, wc2, wc3, w1, w2, w3, e6, eq_false c1, eq_false c4, eq_false c5]))
  rw [if_neg c2]
  have c4 : ¬ y < 0 := fun q => c2 (tin_iff.2 (Or.inl q))
  have c5 : y < Int32.ofNat (nn (gV G 0 2)) := by
    rw [i_nle, ← i_prd (by omega)]
    exact fun q => c2 (tin_iff.2 (Or.inr q))
  obtain ⟨hy, hyl⟩ := tin_t (by omega) c2
  have hh := h.q0 hi
  obtain ⟨t1, tsi, -⟩ := hi.1.2.2 _ hk
  obtain ⟨hP, -, hSg⟩ := hh.2.2.1.2 _ hk
  have htr : 0 ≤ tway 0 (gV G) (nn (gV G 0 0)) := by
    have e := tway_n (V := gV G) (f := 0) (nn (gV G 0 0)) (fun j hj => (hi.1.1.2.2.2.2.1 j (by have := hi.1.1.1.2; omega)).1)
    have hb : ∀ k, k ≤ 12 → nway (gV G) 0 k ≤ 2000 * k := by
      intro k
      induction k with
      | zero => intro _; exact Nat.le_refl 0
      | succ k ih =>
        intro hk
        have := (hi.1.1.2.2.2.2.1 k (by omega)).2
        show nway (gV G) 0 k + nn (gV G 1 k) ≤ _
        have := ih (by omega)
        omega
    have hb2 := hb (nn (gV G 0 0)) hi.1.1.1.2
    have hl := hi.1.1.1.2
    rw [show (0 : Int32) = Int32.ofNat 0 from rfl, e, i_le (by omega) (by omega)]
    omega
  have h66 := X6_spot_66 (E := E) (d := d + 1) (x1 := x) (m := m) (n := nn (gV G 0 2)) (s := nn y) w0 hwn.1 hh.2.2.1.1 hi.1.1.1 g1 hP hSg tsi.1 hs22 hyl (SI_none tsi) t1.1.2.2.2.1 (fun j h1 h2 => ⟨(tsi.2 j h1 h2).1, (tsi.2 j h1 h2).2.2⟩) htr
  have h38 := lp_X6_spot (E := E) (d := d + 2) (w := w) (x1 := x) (x3 := m) g1 hP hSg tsi.1 (show nn y < 2000 by omega) (cS (gT G (nn x)) (nn y + 1)) 0 (Nat.zero_add _) _ h66
  rw [← hy] at h38
  refine zcl_in' zP_X6_spot ?_; rw [zn_4_8]
  refine zat_in zP_X6_spot zk_X6_spot_0 ?_
  simp (disch := omega) only [b_X6_spot_0, zif, zdr, zkb, mK_wi, mN_wi, mJ_wi, mI_wi, sI_wi, beq_self_eq_true, Bool.true_or, Bool.or_true, Bool.or_false, Bool.and_self, Bool.and_true, Bool.true_and, ↓reduceIte, ble_up0, i_cl, i_succ, zix_of, zfl_k, zup_k, zup_q, w0]
  refine ev_ci (mq_team h hi x) ?_
  simp (disch := omega) only [zif, zdr, zkb, mK_wi, mN_wi, mJ_wi, mI_wi, sI_wi, beq_self_eq_true, Bool.true_or, Bool.or_true, Bool.or_false, Bool.and_self, Bool.and_true, Bool.true_and, ↓reduceIte, ble_up0, i_cl, i_succ, zix_of, zfl_k, zup_k, zup_q, w0, wa1, wa2, wa3, wb1, wb2, wb3, wc1, wc2, wc3, w1, w2, w3, e6, eq_false c1, eq_false c4, eq_true c5]
  refine ev_bk ?_
  refine zat_in zP_X6_spot zk_X6_spot_27 ?_
  simp (disch := omega) only [b_X6_spot_27, zif, zdr, zkb, mK_wi, mN_wi, mJ_wi, mI_wi, sI_wi, beq_self_eq_true, Bool.true_or, Bool.or_true, Bool.or_false, Bool.and_self, Bool.and_true, Bool.true_and, ↓reduceIte, ble_up0, i_cl, i_succ, zix_of, zfl_k, zup_k, zup_q, w0, wa1, wa2, wa3, wb1, wb2, wb3, wc1, wc2, wc3, w1, w2, w3, hz, hc, g2]
  refine ev_tl zP_X6_spot zk_X6_spot_38 ?_
  exact h38
end
