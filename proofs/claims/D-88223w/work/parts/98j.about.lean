/-! ===== about, dog, time, did, signs, count and the like ===== -/
set_option maxRecDepth 100000
def tAbout (V T : zT) (k : Int32) : Int32 := if k = 0 then T 0 5 else if k = 1 then T 0 6 else if k = 2 then T 0 7 else if k = 3 then tway (T 0 7) V (nn (T 0 6)) else if k = 4 then tcnt T 0 (nn (T 0 0)) else if k = 5 then tcnt T 1 (nn (T 0 0)) else if k = 6 then tcnt T 2 (nn (T 0 0)) else if k = 7 then tload T (nn (T 0 0)) else if k = 8 then T 0 8 else if k = 9 then T 0 9 else if k = 10 then T 0 10 else if k = 11 then T 0 4 else if k = 12 then T 0 3 else -1
def isT (G : zGl) (t : Int32) : Int32 := tin t 0 (Int32.ofNat (nn (gV G 0 1)) - 1)
def qAbout (G : zGl) (t k : Int32) : Int32 := if isT G t = 0 then -1 else tAbout (gV G) (gT G (nn t)) k
def tCount (G : zGl) (k : Int32) : Int32 := if k = 0 then gV G 0 0 else if k = 1 then gV G 0 1 else if k = 2 then Int32.ofNat (gp G) else if k = 3 then Int32.ofNat (gn G) else if k = 4 then gV G 0 2 else if k = 5 then tway 0 (gV G) (nn (gV G 0 0)) else if k = 6 then gU G 0 0 else -1
theorem ev_zif {b : Bool} {f : Nat → Option zR} {r : zR} (h : b = true) (h2 : zEv f r) : zEv (fun n => zif b (f n)) r := by
  subst h
  exact h2
theorem ev_zdr {o : Option Nat} {a : Nat} {g : Nat → Nat → Option zR} {r : zR} (h : o = some a) (h2 : zEv (fun n => g n a) r) : zEv (fun n => zdr o (g n)) r := by
  subst h
  exact h2
section
variable {E : zE} {d B w : Nat} {S : zM} {I : Nat → Nat → Int32} {G : zGl}
theorem isT_k (hi : IG G) {t : Int32} (h : ¬ isT G t = 0) : t = Int32.ofNat (nn t) ∧ nn t < nn (gV G 0 1) := tin_t (by have := hi.1.1.2.1.2; omega) h
theorem xp_team (h : XG S I B G) (hi : IG G) (t : Int32) : zCl E (d + 1) 47 [zr (some B), zi t] (zwi S I) (Sum.inl (some (zi (isT G t))), zwi S I) := sp_X0_isTeam h.1.1 h.1.2.1.1 h.1.2.2.1.1.1 (h.2.2.1.1.un.1.2.1.trans hi.1.1.2.1.1)
theorem mq_team (h : MG S I w G) (hi : IG G) (t : Int32) : zCl E d 151 [zr (some w), zi t] (zwi S (zup I w 0 0)) (Sum.inl (some (zi (isT G t))), zwi S (zup I w 0 0)) := sp_X6_isTeam (by have := hi.1.1.2.1.2; omega) h.1.1.1.1 ((zup_k (by omega)).trans (h.2.2.1.1.un.1.2.1.trans hi.1.1.2.1.1))
theorem MG.q0 (h : MG S I w G) (hi : IG G) : MG S (zup I w 0 0) w G := h.q hi (fun a k h1 h2 h3 => zup_k (by omega))
theorem xq_about (h : XG S I B G) (hi : IG G) (t k : Int32) : zCl E (d + 2) 51 [zr (some B), zi t, zi k] (zwi S I) (Sum.inl (some (zi (qAbout G t k))), zwi S I) := by
  have hcs := h.1
  obtain ⟨b0, ⟨b3, b4, b5⟩, hwn, hwk, hal, ⟨b7, bk7, bn7⟩, ⟨b8, bk8, bn8⟩, ⟨b9, bk9, bn9⟩, ⟨b12, bk12⟩, ⟨ba0, bka0, bna0⟩, b2, bk2, ⟨br0, brk0⟩, br1, br2, brk2, brn2⟩ := id hcs
  obtain ⟨⟨w0, ⟨wa1, wa2, wa3⟩, ⟨wb1, wb2, wb3⟩, ⟨wc1, wc2, wc3⟩⟩, ⟨w1, w2, w3⟩, w4⟩ := id hwn
  unfold qAbout
  by_cases c1 : isT G t = 0
  · rw [if_pos c1]
    refine zcl_in' zP_X0_about ?_; rw [zn_3_4]
    (first | refine zat_in zP_X0_about zk_X0_about_0 ?_ | refine zat_in zP_X0_about zk_X0_about_10 ?_ | refine zat_in zP_X0_about zk_X0_about_88 ?_ | refine zat_in zP_X0_about zk_X0_about_93 ?_ | refine zat_in zP_X0_about zk_X0_about_98 ?_ | refine zat_in zP_X0_about zk_X0_about_103 ?_ | refine zat_in zP_X0_about zk_X0_about_112 ?_ | refine zat_in zP_X0_about zk_X0_about_120 ?_ | refine zat_in zP_X0_about zk_X0_about_125 ?_ | refine zat_in zP_X0_about zk_X0_about_130 ?_ | refine zat_in zP_X0_about zk_X0_about_135 ?_ | refine zat_in zP_X0_about zk_X0_about_140 ?_ | refine zat_in zP_X0_about zk_X0_about_145 ?_ | refine zat_in zP_X0_about zk_X0_about_150 ?_) <;> simp (disch := omega) only [b_X0_about_0, b_X0_about_10, b_X0_about_88, b_X0_about_93, b_X0_about_98, b_X0_about_103, b_X0_about_112, b_X0_about_120, b_X0_about_125, b_X0_about_130, b_X0_about_135, b_X0_about_140, b_X0_about_145, b_X0_about_150, zc_X0_about_10, zc_X0_about_88, zc_X0_about_93, zc_X0_about_98, zc_X0_about_103, zc_X0_about_112, zc_X0_about_120, zc_X0_about_125, zc_X0_about_130, zc_X0_about_135, zc_X0_about_140, zc_X0_about_145, zc_X0_about_150, zif, zdr, zkb, mK_wi, mN_wi, mJ_wi, mI_wi, sI_wi, beq_self_eq_true, Bool.true_or, Bool.or_true, Bool.or_false, Bool.and_self, Bool.and_true, Bool.true_and, ↓reduceIte, ble_up0, i_cl, i_succ, zix_of, zfl_k, zup_k, zup_q, b0, b3, b4, b5, b7, bk7, bn7, b8, bk8, bn8, b9, bk9, bn9, b12, bk12, ba0, bka0, bna0, b2, bk2, br0, brk0, br1, br2, brk2, brn2, w0, wa1, wa2, wa3, wb1, wb2, wb3, wc1, wc2, wc3, w1, w2, w3, eq_true c1]; repeat (first | exact ev_r | (refine ev_bk ?_; ((first | refine zat_in zP_X0_about zk_X0_about_0 ?_ | refine zat_in zP_X0_about zk_X0_about_10 ?_ | refine zat_in zP_X0_about zk_X0_about_88 ?_ | refine zat_in zP_X0_about zk_X0_about_93 ?_ | refine zat_in zP_X0_about zk_X0_about_98 ?_ | refine zat_in zP_X0_about zk_X0_about_103 ?_ | refine zat_in zP_X0_about zk_X0_about_112 ?_ | refine zat_in zP_X0_about zk_X0_about_120 ?_ | refine zat_in zP_X0_about zk_X0_about_125 ?_ | refine zat_in zP_X0_about zk_X0_about_130 ?_ | refine zat_in zP_X0_about zk_X0_about_135 ?_ | refine zat_in zP_X0_about zk_X0_about_140 ?_ | refine zat_in zP_X0_about zk_X0_about_145 ?_ | refine zat_in zP_X0_about zk_X0_about_150 ?_) <;> simp (disch := omega) only [b_X0_about_0, b_X0_about_10, b_X0_about_88, b_X0_about_93, b_X0_about_98, b_X0_about_103, b_X0_about_112, b_X0_about_120, b_X0_about_125, b_X0_about_130, b_X0_about_135, b_X0_about_140, b_X0_about_145, b_X0_about_150, zc_X0_about_10, zc_X0_about_88, zc_X0_about_93, zc_X0_about_98, zc_X0_about_103, zc_X0_about_112, zc_X0_about_120, zc_X0_about_125, zc_X0_about_130, zc_X0_about_135, zc_X0_about_140, zc_X0_about_145, zc_X0_about_150, zif, zdr, zkb, mK_wi, mN_wi, mJ_wi, mI_wi, sI_wi, beq_self_eq_true, Bool.true_or, Bool.or_true, Bool.or_false, Bool.and_self, Bool.and_true, Bool.true_and, ↓reduceIte, ble_up0, i_cl, i_succ, zix_of, zfl_k, zup_k, zup_q, b0, b3, b4, b5, b7, bk7, bn7, b8, bk8, bn8, b9, bk9, bn9, b12, bk12, ba0, bka0, bna0, b2, bk2, br0, brk0, br1, br2, brk2, brn2, w0, wa1, wa2, wa3, wb1, wb2, wb3, wc1, wc2, wc3, w1, w2, w3, eq_true c1])) | (refine ev_cv (xp_team h hi t) ?_; try simp (disch := omega) only [b_X0_about_0, b_X0_about_10, b_X0_about_88, b_X0_about_93, b_X0_about_98, b_X0_about_103, b_X0_about_112, b_X0_about_120, b_X0_about_125, b_X0_about_130, b_X0_about_135, b_X0_about_140, b_X0_about_145, b_X0_about_150, zc_X0_about_10, zc_X0_about_88, zc_X0_about_93, zc_X0_about_98, zc_X0_about_103, zc_X0_about_112, zc_X0_about_120, zc_X0_about_125, zc_X0_about_130, zc_X0_about_135, zc_X0_about_140, zc_X0_about_145, zc_X0_about_150, zif, zdr, zkb, mK_wi, mN_wi, mJ_wi, mI_wi, sI_wi, beq_self_eq_true, Bool.true_or, Bool.or_true, Bool.or_false, Bool.and_self, Bool.and_true, Bool.true_and, ↓reduceIte, ble_up0, i_cl, i_succ, zix_of, zfl_k, zup_k, zup_q, b0, b3, b4, b5, b7, bk7, bn7, b8, bk8, bn8, b9, bk9, bn9, b12, bk12, ba0, bka0, bna0, b2, bk2, br0, brk0, br1, br2, brk2, brn2, w0, wa1, wa2, wa3, wb1, wb2, wb3, wc1, wc2, wc3, w1, w2, w3, eq_true c1]) | (refine ev_ci (xp_team h hi t) ?_; try simp (disch := omega) only [b_X0_about_0, b_X0_about_10, b_X0_about_88, b_X0_about_93, b_X0_about_98, b_X0_about_103, b_X0_about_112, b_X0_about_120, b_X0_about_125, b_X0_about_130, b_X0_about_135, b_X0_about_140, b_X0_about_145, b_X0_about_150, zc_X0_about_10, zc_X0_about_88, zc_X0_about_93, zc_X0_about_98, zc_X0_about_103, zc_X0_about_112, zc_X0_about_120, zc_X0_about_125, zc_X0_about_130, zc_X0_about_135, zc_X0_about_140, zc_X0_about_145, zc_X0_about_150, zif, zdr, zkb, mK_wi, mN_wi, mJ_wi, mI_wi, sI_wi, beq_self_eq_true, Bool.true_or, Bool.or_true, Bool.or_false, Bool.and_self, Bool.and_true, Bool.true_and, ↓reduceIte, ble_up0, i_cl, i_succ, zix_of, zfl_k, zup_k, zup_q, b0, b3, b4, b5, b7, bk7, bn7, b8, bk8, bn8, b9, bk9, bn9, b12, bk12, ba0, bka0, bna0, b2, bk2, br0, brk0, br1, br2, brk2, brn2, w0, wa1, wa2, wa3, wb1, wb2, wb3, wc1, wc2, wc3, w1, w2, w3, eq_true c1]) | (refine ev_cr (xp_team h hi t) ?_; try simp (disch := omega) only [b_X0_about_0, b_X0_about_10, b_X0_about_88, b_X0_about_93, b_X0_about_98, b_X0_about_103, b_X0_about_112, b_X0_about_120, b_X0_about_125, b_X0_about_130, b_X0_about_135, b_X0_about_140, b_X0_about_145, b_X0_about_150, zc_X0_about_10, zc_X0_about_88, zc_X0_about_93, zc_X0_about_98, zc_X0_about_103, zc_X0_about_112, zc_X0_about_120, zc_X0_about_125, zc_X0_about_130, zc_X0_about_135, zc_X0_about_140, zc_X0_about_145, zc_X0_about_150, zif, zdr, zkb, mK_wi, mN_wi, mJ_wi, mI_wi, sI_wi, beq_self_eq_true, Bool.true_or, Bool.or_true, Bool.or_false, Bool.and_self, Bool.and_true, Bool.true_and, ↓reduceIte, ble_up0, i_cl, i_succ, zix_of, zfl_k, zup_k, zup_q, b0, b3, b4, b5, b7, bk7, bn7, b8, bk8, bn8, b9, bk9, bn9, b12, bk12, ba0, bka0, bna0, b2, bk2, br0, brk0, br1, br2, brk2, brn2, w0, wa1, wa2, wa3, wb1, wb2, wb3, wc1, wc2, wc3, w1, w2, w3, eq_true c1]) | (refine ev_cg (xp_team h hi t) ?_; try simp (disch := omega) only [b_X0_about_0, b_X0_about_10, b_X0_about_88, b_X0_about_93, b_X0_about_98, b_X0_about_103, b_X0_about_112, b_X0_about_120, b_X0_about_125, b_X0_about_130, b_X0_about_135, b_X0_about_140, b_X0_about_145, b_X0_about_150, zc_X0_about_10, zc_X0_about_88, zc_X0_about_93, zc_X0_about_98, zc_X0_about_103, zc_X0_about_112, zc_X0_about_120, zc_X0_about_125, zc_X0_about_130, zc_X0_about_135, zc_X0_about_140, zc_X0_about_145, zc_X0_about_150, zif, zdr, zkb, mK_wi, mN_wi, mJ_wi, mI_wi, sI_wi, beq_self_eq_true, Bool.true_or, Bool.or_true, Bool.or_false, Bool.and_self, Bool.and_true, Bool.true_and, ↓reduceIte, ble_up0, i_cl, i_succ, zix_of, zfl_k, zup_k, zup_q, b0, b3, b4, b5, b7, bk7, bn7, b8, bk8, bn8, b9, bk9, bn9, b12, bk12, ba0, bka0, bna0, b2, bk2, br0, brk0, br1, br2, brk2, brn2, w0, wa1, wa2, wa3, wb1, wb2, wb3, wc1, wc2, wc3, w1, w2, w3, eq_true c1]))
  rw [if_neg c1]
  obtain ⟨ht, hk⟩ := isT_k hi c1
  have hnt := hi.1.1.2.1.2
  obtain ⟨g1, g2⟩ := w4 (nn t) (by omega)
  have g1' := g1
  obtain ⟨⟨q1, q2, q3, q4⟩, ⟨qi1, qi2, qi3⟩, ⟨qa1, qa2, qa3⟩, ⟨qs1, qs2, qs3⟩, ⟨qf1, qf2, qf3⟩, ⟨qt1, qt2, qt3⟩, q5⟩ := g1
  have hz : zix t 6 = true := by rw [ht]; exact zix_of (by omega) (by omega)
  have hc : t.toNatClampNeg = nn t := rfl
  have hT : xP I (B + 5 + 5 + 23 * nn t) (nn (gT G (nn t) 0 0)) (nn (gT G (nn t) 0 13)) (gT G (nn t)) := h.2.2.1.2 _ hk
  obtain ⟨t1, t2, t3⟩ := hi.1.2.2 _ hk
  have t0 := t1.1.1
  have t6 := t1.2.1
  have hV := h.2.2.1.1
  obtain ⟨⟨x0, x1, x2, x3, x4, x5, x6⟩, ⟨x7, x8, x9, x10, x11, x12, x13⟩, -⟩ := hT.un
  have ci := fun (s : Int32) => sp_X4_inState (E := E) (d := d + 1) (s := s) g1' t0.2 hT t0.1
  have cw := sp_X4_way (E := E) (d := d + 1) g1' hwn.1 hT hV t6.1 t6.2
  have cl := sp_X4_load (E := E) (d := d) g1' t0.2 hT t0.1
  generalize gT G (nn t) = T at *
  refine zcl_in' zP_X0_about ?_; rw [zn_3_4]
  refine zat_in zP_X0_about zk_X0_about_0 ?_
  simp (disch := omega) only [b_X0_about_0, zif, zdr, zkb, mK_wi, mN_wi, mJ_wi, mI_wi, sI_wi, beq_self_eq_true, Bool.true_or, Bool.or_true, Bool.or_false, Bool.and_self, Bool.and_true, Bool.true_and, ↓reduceIte, ble_up0, i_cl, i_succ, zix_of, zfl_k, zup_k, zup_q, b0, b3, b4, b5, b7, bk7, bn7, b8, bk8, bn8, b9, bk9, bn9, b12, bk12, ba0, bka0, bna0, b2, bk2, br0, brk0, br1, br2, brk2, brn2]
  refine ev_ci (xp_team h hi t) ?_
  simp (disch := omega) only [zif, zdr, zkb, mK_wi, mN_wi, mJ_wi, mI_wi, sI_wi, beq_self_eq_true, Bool.true_or, Bool.or_true, Bool.or_false, Bool.and_self, Bool.and_true, Bool.true_and, ↓reduceIte, ble_up0, i_cl, i_succ, zix_of, zfl_k, zup_k, zup_q, eq_false c1]
  refine ev_bk ?_
  refine zat_in zP_X0_about zk_X0_about_10 ?_
  simp only [b_X0_about_10]
  refine ev_zif (by simp (disch := omega) only [zif, zdr, zkb, mK_wi, mN_wi, mJ_wi, mI_wi, sI_wi, beq_self_eq_true, Bool.true_or, Bool.or_true, Bool.or_false, Bool.and_self, Bool.and_true, Bool.true_and, ↓reduceIte, ble_up0, i_cl, i_succ, zix_of, zfl_k, zup_k, zup_q, b0, b3, b4, b5, b7, bk7, bn7, b8, bk8, bn8, b9, bk9, bn9, b12, bk12, ba0, bka0, bna0, b2, bk2, br0, brk0, br1, br2, brk2, brn2, w0, wa1, wa2, wa3, wb1, wb2, wb3, wc1, wc2, wc3, w1, w2, w3, q1, q2, q3, q4, qi1, qi2, qi3, qa1, qa2, qa3, qs1, qs2, qs3, qf1, qf2, qf3, qt1, qt2, qt3, x0, x1, x2, x3, x4, x5, x6, x7, x8, x9, x10, x11, x12, x13, g2, hz, hc]; try rfl) (ev_zdr (a := B + 5) (by simp (disch := omega) only [zif, zdr, zkb, mK_wi, mN_wi, mJ_wi, mI_wi, sI_wi, beq_self_eq_true, Bool.true_or, Bool.or_true, Bool.or_false, Bool.and_self, Bool.and_true, Bool.true_and, ↓reduceIte, ble_up0, i_cl, i_succ, zix_of, zfl_k, zup_k, zup_q, b0, b3, b4, b5, b7, bk7, bn7, b8, bk8, bn8, b9, bk9, bn9, b12, bk12, ba0, bka0, bna0, b2, bk2, br0, brk0, br1, br2, brk2, brn2, w0, wa1, wa2, wa3, wb1, wb2, wb3, wc1, wc2, wc3, w1, w2, w3, q1, q2, q3, q4, qi1, qi2, qi3, qa1, qa2, qa3, qs1, qs2, qs3, qf1, qf2, qf3, qt1, qt2, qt3, x0, x1, x2, x3, x4, x5, x6, x7, x8, x9, x10, x11, x12, x13, g2, hz, hc]) (ev_zif (by simp (disch := omega) only [zif, zdr, zkb, mK_wi, mN_wi, mJ_wi, mI_wi, sI_wi, beq_self_eq_true, Bool.true_or, Bool.or_true, Bool.or_false, Bool.and_self, Bool.and_true, Bool.true_and, ↓reduceIte, ble_up0, i_cl, i_succ, zix_of, zfl_k, zup_k, zup_q, b0, b3, b4, b5, b7, bk7, bn7, b8, bk8, bn8, b9, bk9, bn9, b12, bk12, ba0, bka0, bna0, b2, bk2, br0, brk0, br1, br2, brk2, brn2, w0, wa1, wa2, wa3, wb1, wb2, wb3, wc1, wc2, wc3, w1, w2, w3, q1, q2, q3, q4, qi1, qi2, qi3, qa1, qa2, qa3, qs1, qs2, qs3, qf1, qf2, qf3, qt1, qt2, qt3, x0, x1, x2, x3, x4, x5, x6, x7, x8, x9, x10, x11, x12, x13, g2, hz, hc]; try rfl) (ev_zdr (a := B + 5 + 4) (by simp (disch := omega) only [zif, zdr, zkb, mK_wi, mN_wi, mJ_wi, mI_wi, sI_wi, beq_self_eq_true, Bool.true_or, Bool.or_true, Bool.or_false, Bool.and_self, Bool.and_true, Bool.true_and, ↓reduceIte, ble_up0, i_cl, i_succ, zix_of, zfl_k, zup_k, zup_q, b0, b3, b4, b5, b7, bk7, bn7, b8, bk8, bn8, b9, bk9, bn9, b12, bk12, ba0, bka0, bna0, b2, bk2, br0, brk0, br1, br2, brk2, brn2, w0, wa1, wa2, wa3, wb1, wb2, wb3, wc1, wc2, wc3, w1, w2, w3, q1, q2, q3, q4, qi1, qi2, qi3, qa1, qa2, qa3, qs1, qs2, qs3, qf1, qf2, qf3, qt1, qt2, qt3, x0, x1, x2, x3, x4, x5, x6, x7, x8, x9, x10, x11, x12, x13, g2, hz, hc]) (ev_zif (by simp (disch := omega) only [zif, zdr, zkb, mK_wi, mN_wi, mJ_wi, mI_wi, sI_wi, beq_self_eq_true, Bool.true_or, Bool.or_true, Bool.or_false, Bool.and_self, Bool.and_true, Bool.true_and, ↓reduceIte, ble_up0, i_cl, i_succ, zix_of, zfl_k, zup_k, zup_q, b0, b3, b4, b5, b7, bk7, bn7, b8, bk8, bn8, b9, bk9, bn9, b12, bk12, ba0, bka0, bna0, b2, bk2, br0, brk0, br1, br2, brk2, brn2, w0, wa1, wa2, wa3, wb1, wb2, wb3, wc1, wc2, wc3, w1, w2, w3, q1, q2, q3, q4, qi1, qi2, qi3, qa1, qa2, qa3, qs1, qs2, qs3, qf1, qf2, qf3, qt1, qt2, qt3, x0, x1, x2, x3, x4, x5, x6, x7, x8, x9, x10, x11, x12, x13, g2, hz, hc]; try rfl) (ev_zif (by simp (disch := omega) only [zif, zdr, zkb, mK_wi, mN_wi, mJ_wi, mI_wi, sI_wi, beq_self_eq_true, Bool.true_or, Bool.or_true, Bool.or_false, Bool.and_self, Bool.and_true, Bool.true_and, ↓reduceIte, ble_up0, i_cl, i_succ, zix_of, zfl_k, zup_k, zup_q, b0, b3, b4, b5, b7, bk7, bn7, b8, bk8, bn8, b9, bk9, bn9, b12, bk12, ba0, bka0, bna0, b2, bk2, br0, brk0, br1, br2, brk2, brn2, w0, wa1, wa2, wa3, wb1, wb2, wb3, wc1, wc2, wc3, w1, w2, w3, q1, q2, q3, q4, qi1, qi2, qi3, qa1, qa2, qa3, qs1, qs2, qs3, qf1, qf2, qf3, qt1, qt2, qt3, x0, x1, x2, x3, x4, x5, x6, x7, x8, x9, x10, x11, x12, x13, g2, hz, hc]; try rfl) ?_)))))
  unfold tAbout
  refine ev_th _ (fun h => ?_) (fun h => ?_)
  · rw [if_pos h]
    refine ev_bk ?_
    refine zat_in zP_X0_about zk_X0_about_88 ?_; simp (disch := omega) only [b_X0_about_88, zif, zdr, zkb, mK_wi, mN_wi, mJ_wi, mI_wi, sI_wi, beq_self_eq_true, Bool.true_or, Bool.or_true, Bool.or_false, Bool.and_self, Bool.and_true, Bool.true_and, ↓reduceIte, ble_up0, i_cl, i_succ, zix_of, zfl_k, zup_k, zup_q, b0, b3, b4, b5, b7, bk7, bn7, b8, bk8, bn8, b9, bk9, bn9, b12, bk12, ba0, bka0, bna0, b2, bk2, br0, brk0, br1, br2, brk2, brn2, w0, wa1, wa2, wa3, wb1, wb2, wb3, wc1, wc2, wc3, w1, w2, w3, q1, q2, q3, q4, qi1, qi2, qi3, qa1, qa2, qa3, qs1, qs2, qs3, qf1, qf2, qf3, qt1, qt2, qt3, x0, x1, x2, x3, x4, x5, x6, x7, x8, x9, x10, x11, x12, x13, g2, hz, hc]
    exact ev_r
  rw [if_neg h]
  refine ev_th _ (fun h => ?_) (fun h => ?_)
  · rw [if_pos h]
    refine ev_bk ?_
    refine zat_in zP_X0_about zk_X0_about_93 ?_; simp (disch := omega) only [b_X0_about_93, zif, zdr, zkb, mK_wi, mN_wi, mJ_wi, mI_wi, sI_wi, beq_self_eq_true, Bool.true_or, Bool.or_true, Bool.or_false, Bool.and_self, Bool.and_true, Bool.true_and, ↓reduceIte, ble_up0, i_cl, i_succ, zix_of, zfl_k, zup_k, zup_q, b0, b3, b4, b5, b7, bk7, bn7, b8, bk8, bn8, b9, bk9, bn9, b12, bk12, ba0, bka0, bna0, b2, bk2, br0, brk0, br1, br2, brk2, brn2, w0, wa1, wa2, wa3, wb1, wb2, wb3, wc1, wc2, wc3, w1, w2, w3, q1, q2, q3, q4, qi1, qi2, qi3, qa1, qa2, qa3, qs1, qs2, qs3, qf1, qf2, qf3, qt1, qt2, qt3, x0, x1, x2, x3, x4, x5, x6, x7, x8, x9, x10, x11, x12, x13, g2, hz, hc]
    exact ev_r
  rw [if_neg h]
  refine ev_th _ (fun h => ?_) (fun h => ?_)
  · rw [if_pos h]
    refine ev_bk ?_
    refine zat_in zP_X0_about zk_X0_about_98 ?_; simp (disch := omega) only [b_X0_about_98, zif, zdr, zkb, mK_wi, mN_wi, mJ_wi, mI_wi, sI_wi, beq_self_eq_true, Bool.true_or, Bool.or_true, Bool.or_false, Bool.and_self, Bool.and_true, Bool.true_and, ↓reduceIte, ble_up0, i_cl, i_succ, zix_of, zfl_k, zup_k, zup_q, b0, b3, b4, b5, b7, bk7, bn7, b8, bk8, bn8, b9, bk9, bn9, b12, bk12, ba0, bka0, bna0, b2, bk2, br0, brk0, br1, br2, brk2, brn2, w0, wa1, wa2, wa3, wb1, wb2, wb3, wc1, wc2, wc3, w1, w2, w3, q1, q2, q3, q4, qi1, qi2, qi3, qa1, qa2, qa3, qs1, qs2, qs3, qf1, qf2, qf3, qt1, qt2, qt3, x0, x1, x2, x3, x4, x5, x6, x7, x8, x9, x10, x11, x12, x13, g2, hz, hc]
    exact ev_r
  rw [if_neg h]
  refine ev_th _ (fun h => ?_) (fun h => ?_)
  · rw [if_pos h]
    refine ev_bk ?_
    refine zat_in zP_X0_about zk_X0_about_103 ?_; simp (disch := omega) only [b_X0_about_103, zif, zdr, zkb, mK_wi, mN_wi, mJ_wi, mI_wi, sI_wi, beq_self_eq_true, Bool.true_or, Bool.or_true, Bool.or_false, Bool.and_self, Bool.and_true, Bool.true_and, ↓reduceIte, ble_up0, i_cl, i_succ, zix_of, zfl_k, zup_k, zup_q, b0, b3, b4, b5, b7, bk7, bn7, b8, bk8, bn8, b9, bk9, bn9, b12, bk12, ba0, bka0, bna0, b2, bk2, br0, brk0, br1, br2, brk2, brn2, w0, wa1, wa2, wa3, wb1, wb2, wb3, wc1, wc2, wc3, w1, w2, w3, q1, q2, q3, q4, qi1, qi2, qi3, qa1, qa2, qa3, qs1, qs2, qs3, qf1, qf2, qf3, qt1, qt2, qt3, x0, x1, x2, x3, x4, x5, x6, x7, x8, x9, x10, x11, x12, x13, g2, hz, hc]
    exact ev_ci cw ev_r
  rw [if_neg h]
  refine ev_th _ (fun h => ?_) (fun h => ?_)
  · rw [if_pos h]
    refine ev_bk ?_
    refine zat_in zP_X0_about zk_X0_about_112 ?_; simp (disch := omega) only [b_X0_about_112, zif, zdr, zkb, mK_wi, mN_wi, mJ_wi, mI_wi, sI_wi, beq_self_eq_true, Bool.true_or, Bool.or_true, Bool.or_false, Bool.and_self, Bool.and_true, Bool.true_and, ↓reduceIte, ble_up0, i_cl, i_succ, zix_of, zfl_k, zup_k, zup_q, b0, b3, b4, b5, b7, bk7, bn7, b8, bk8, bn8, b9, bk9, bn9, b12, bk12, ba0, bka0, bna0, b2, bk2, br0, brk0, br1, br2, brk2, brn2, w0, wa1, wa2, wa3, wb1, wb2, wb3, wc1, wc2, wc3, w1, w2, w3, q1, q2, q3, q4, qi1, qi2, qi3, qa1, qa2, qa3, qs1, qs2, qs3, qf1, qf2, qf3, qt1, qt2, qt3, x0, x1, x2, x3, x4, x5, x6, x7, x8, x9, x10, x11, x12, x13, g2, hz, hc]
    rw [h]; exact ev_ci (ci (4 - 4)) ev_r
  rw [if_neg h]
  refine ev_th _ (fun h => ?_) (fun h => ?_)
  · rw [if_pos h]
    refine ev_bk ?_
    refine zat_in zP_X0_about zk_X0_about_112 ?_; simp (disch := omega) only [b_X0_about_112, zif, zdr, zkb, mK_wi, mN_wi, mJ_wi, mI_wi, sI_wi, beq_self_eq_true, Bool.true_or, Bool.or_true, Bool.or_false, Bool.and_self, Bool.and_true, Bool.true_and, ↓reduceIte, ble_up0, i_cl, i_succ, zix_of, zfl_k, zup_k, zup_q, b0, b3, b4, b5, b7, bk7, bn7, b8, bk8, bn8, b9, bk9, bn9, b12, bk12, ba0, bka0, bna0, b2, bk2, br0, brk0, br1, br2, brk2, brn2, w0, wa1, wa2, wa3, wb1, wb2, wb3, wc1, wc2, wc3, w1, w2, w3, q1, q2, q3, q4, qi1, qi2, qi3, qa1, qa2, qa3, qs1, qs2, qs3, qf1, qf2, qf3, qt1, qt2, qt3, x0, x1, x2, x3, x4, x5, x6, x7, x8, x9, x10, x11, x12, x13, g2, hz, hc]
    rw [h]; exact ev_ci (ci (5 - 4)) ev_r
  rw [if_neg h]
  refine ev_th _ (fun h => ?_) (fun h => ?_)
  · rw [if_pos h]
    refine ev_bk ?_
    refine zat_in zP_X0_about zk_X0_about_112 ?_; simp (disch := omega) only [b_X0_about_112, zif, zdr, zkb, mK_wi, mN_wi, mJ_wi, mI_wi, sI_wi, beq_self_eq_true, Bool.true_or, Bool.or_true, Bool.or_false, Bool.and_self, Bool.and_true, Bool.true_and, ↓reduceIte, ble_up0, i_cl, i_succ, zix_of, zfl_k, zup_k, zup_q, b0, b3, b4, b5, b7, bk7, bn7, b8, bk8, bn8, b9, bk9, bn9, b12, bk12, ba0, bka0, bna0, b2, bk2, br0, brk0, br1, br2, brk2, brn2, w0, wa1, wa2, wa3, wb1, wb2, wb3, wc1, wc2, wc3, w1, w2, w3, q1, q2, q3, q4, qi1, qi2, qi3, qa1, qa2, qa3, qs1, qs2, qs3, qf1, qf2, qf3, qt1, qt2, qt3, x0, x1, x2, x3, x4, x5, x6, x7, x8, x9, x10, x11, x12, x13, g2, hz, hc]
    rw [h]; exact ev_ci (ci (6 - 4)) ev_r
  rw [if_neg h]
  refine ev_th _ (fun h => ?_) (fun h => ?_)
  · rw [if_pos h]
    refine ev_bk ?_
    refine zat_in zP_X0_about zk_X0_about_120 ?_; simp (disch := omega) only [b_X0_about_120, zif, zdr, zkb, mK_wi, mN_wi, mJ_wi, mI_wi, sI_wi, beq_self_eq_true, Bool.true_or, Bool.or_true, Bool.or_false, Bool.and_self, Bool.and_true, Bool.true_and, ↓reduceIte, ble_up0, i_cl, i_succ, zix_of, zfl_k, zup_k, zup_q, b0, b3, b4, b5, b7, bk7, bn7, b8, bk8, bn8, b9, bk9, bn9, b12, bk12, ba0, bka0, bna0, b2, bk2, br0, brk0, br1, br2, brk2, brn2, w0, wa1, wa2, wa3, wb1, wb2, wb3, wc1, wc2, wc3, w1, w2, w3, q1, q2, q3, q4, qi1, qi2, qi3, qa1, qa2, qa3, qs1, qs2, qs3, qf1, qf2, qf3, qt1, qt2, qt3, x0, x1, x2, x3, x4, x5, x6, x7, x8, x9, x10, x11, x12, x13, g2, hz, hc]
    exact ev_ci cl ev_r
  rw [if_neg h]
  refine ev_th _ (fun h => ?_) (fun h => ?_)
  · rw [if_pos h]
    refine ev_bk ?_
    refine zat_in zP_X0_about zk_X0_about_125 ?_; simp (disch := omega) only [b_X0_about_125, zif, zdr, zkb, mK_wi, mN_wi, mJ_wi, mI_wi, sI_wi, beq_self_eq_true, Bool.true_or, Bool.or_true, Bool.or_false, Bool.and_self, Bool.and_true, Bool.true_and, ↓reduceIte, ble_up0, i_cl, i_succ, zix_of, zfl_k, zup_k, zup_q, b0, b3, b4, b5, b7, bk7, bn7, b8, bk8, bn8, b9, bk9, bn9, b12, bk12, ba0, bka0, bna0, b2, bk2, br0, brk0, br1, br2, brk2, brn2, w0, wa1, wa2, wa3, wb1, wb2, wb3, wc1, wc2, wc3, w1, w2, w3, q1, q2, q3, q4, qi1, qi2, qi3, qa1, qa2, qa3, qs1, qs2, qs3, qf1, qf2, qf3, qt1, qt2, qt3, x0, x1, x2, x3, x4, x5, x6, x7, x8, x9, x10, x11, x12, x13, g2, hz, hc]
    exact ev_r
  rw [if_neg h]
  refine ev_th _ (fun h => ?_) (fun h => ?_)
  · rw [if_pos h]
    refine ev_bk ?_
    refine zat_in zP_X0_about zk_X0_about_130 ?_; simp (disch := omega) only [b_X0_about_130, zif, zdr, zkb, mK_wi, mN_wi, mJ_wi, mI_wi, sI_wi, beq_self_eq_true, Bool.true_or, Bool.or_true, Bool.or_false, Bool.and_self, Bool.and_true, Bool.true_and, ↓reduceIte, ble_up0, i_cl, i_succ, zix_of, zfl_k, zup_k, zup_q, b0, b3, b4, b5, b7, bk7, bn7, b8, bk8, bn8, b9, bk9, bn9, b12, bk12, ba0, bka0, bna0, b2, bk2, br0, brk0, br1, br2, brk2, brn2, w0, wa1, wa2, wa3, wb1, wb2, wb3, wc1, wc2, wc3, w1, w2, w3, q1, q2, q3, q4, qi1, qi2, qi3, qa1, qa2, qa3, qs1, qs2, qs3, qf1, qf2, qf3, qt1, qt2, qt3, x0, x1, x2, x3, x4, x5, x6, x7, x8, x9, x10, x11, x12, x13, g2, hz, hc]
    exact ev_r
  rw [if_neg h]
  refine ev_th _ (fun h => ?_) (fun h => ?_)
  · rw [if_pos h]
    refine ev_bk ?_
    refine zat_in zP_X0_about zk_X0_about_135 ?_; simp (disch := omega) only [b_X0_about_135, zif, zdr, zkb, mK_wi, mN_wi, mJ_wi, mI_wi, sI_wi, beq_self_eq_true, Bool.true_or, Bool.or_true, Bool.or_false, Bool.and_self, Bool.and_true, Bool.true_and, ↓reduceIte, ble_up0, i_cl, i_succ, zix_of, zfl_k, zup_k, zup_q, b0, b3, b4, b5, b7, bk7, bn7, b8, bk8, bn8, b9, bk9, bn9, b12, bk12, ba0, bka0, bna0, b2, bk2, br0, brk0, br1, br2, brk2, brn2, w0, wa1, wa2, wa3, wb1, wb2, wb3, wc1, wc2, wc3, w1, w2, w3, q1, q2, q3, q4, qi1, qi2, qi3, qa1, qa2, qa3, qs1, qs2, qs3, qf1, qf2, qf3, qt1, qt2, qt3, x0, x1, x2, x3, x4, x5, x6, x7, x8, x9, x10, x11, x12, x13, g2, hz, hc]
    exact ev_r
  rw [if_neg h]
  refine ev_th _ (fun h => ?_) (fun h => ?_)
  · rw [if_pos h]
    refine ev_bk ?_
    refine zat_in zP_X0_about zk_X0_about_140 ?_; simp (disch := omega) only [b_X0_about_140, zif, zdr, zkb, mK_wi, mN_wi, mJ_wi, mI_wi, sI_wi, beq_self_eq_true, Bool.true_or, Bool.or_true, Bool.or_false, Bool.and_self, Bool.and_true, Bool.true_and, ↓reduceIte, ble_up0, i_cl, i_succ, zix_of, zfl_k, zup_k, zup_q, b0, b3, b4, b5, b7, bk7, bn7, b8, bk8, bn8, b9, bk9, bn9, b12, bk12, ba0, bka0, bna0, b2, bk2, br0, brk0, br1, br2, brk2, brn2, w0, wa1, wa2, wa3, wb1, wb2, wb3, wc1, wc2, wc3, w1, w2, w3, q1, q2, q3, q4, qi1, qi2, qi3, qa1, qa2, qa3, qs1, qs2, qs3, qf1, qf2, qf3, qt1, qt2, qt3, x0, x1, x2, x3, x4, x5, x6, x7, x8, x9, x10, x11, x12, x13, g2, hz, hc]
    exact ev_r
  rw [if_neg h]
  refine ev_th _ (fun h => ?_) (fun h => ?_)
  · rw [if_pos h]
    refine ev_bk ?_
    refine zat_in zP_X0_about zk_X0_about_145 ?_; simp (disch := omega) only [b_X0_about_145, zif, zdr, zkb, mK_wi, mN_wi, mJ_wi, mI_wi, sI_wi, beq_self_eq_true, Bool.true_or, Bool.or_true, Bool.or_false, Bool.and_self, Bool.and_true, Bool.true_and, ↓reduceIte, ble_up0, i_cl, i_succ, zix_of, zfl_k, zup_k, zup_q, b0, b3, b4, b5, b7, bk7, bn7, b8, bk8, bn8, b9, bk9, bn9, b12, bk12, ba0, bka0, bna0, b2, bk2, br0, brk0, br1, br2, brk2, brn2, w0, wa1, wa2, wa3, wb1, wb2, wb3, wc1, wc2, wc3, w1, w2, w3, q1, q2, q3, q4, qi1, qi2, qi3, qa1, qa2, qa3, qs1, qs2, qs3, qf1, qf2, qf3, qt1, qt2, qt3, x0, x1, x2, x3, x4, x5, x6, x7, x8, x9, x10, x11, x12, x13, g2, hz, hc]
    exact ev_r
  rw [if_neg h]
  refine ev_bk ?_
  refine zat_in zP_X0_about zk_X0_about_150 ?_; simp (disch := omega) only [b_X0_about_150, zif, zdr, zkb, mK_wi, mN_wi, mJ_wi, mI_wi, sI_wi, beq_self_eq_true, Bool.true_or, Bool.or_true, Bool.or_false, Bool.and_self, Bool.and_true, Bool.true_and, ↓reduceIte, ble_up0, i_cl, i_succ, zix_of, zfl_k, zup_k, zup_q]
  exact ev_r
theorem mq_about (hB : E.1 ≤ w) (h : MG S I w G) (hi : IG G) (t k : Int32) : zCl E (d + 2) 161 [zr (some w), zi t, zi k] (zwi S I) (Sum.inl (some (zi (qAbout G t k))), zwi S (zup I w 0 0)) := by
  have hwn := h.1.1
  obtain ⟨⟨w0, ⟨wa1, wa2, wa3⟩, ⟨wb1, wb2, wb3⟩, ⟨wc1, wc2, wc3⟩⟩, ⟨w1, w2, w3⟩, w4⟩ := id hwn
  have hh := h.q0 hi
  unfold qAbout
  by_cases c1 : isT G t = 0
  · rw [if_pos c1]
    refine zcl_in' zP_X6_about ?_; rw [zn_3_4]
    (first | refine zat_in zP_X6_about zk_X6_about_0 ?_ | refine zat_in zP_X6_about zk_X6_about_15 ?_ | refine zat_in zP_X6_about zk_X6_about_88 ?_ | refine zat_in zP_X6_about zk_X6_about_93 ?_ | refine zat_in zP_X6_about zk_X6_about_98 ?_ | refine zat_in zP_X6_about zk_X6_about_103 ?_ | refine zat_in zP_X6_about zk_X6_about_109 ?_ | refine zat_in zP_X6_about zk_X6_about_115 ?_ | refine zat_in zP_X6_about zk_X6_about_121 ?_ | refine zat_in zP_X6_about zk_X6_about_127 ?_ | refine zat_in zP_X6_about zk_X6_about_132 ?_ | refine zat_in zP_X6_about zk_X6_about_137 ?_ | refine zat_in zP_X6_about zk_X6_about_142 ?_ | refine zat_in zP_X6_about zk_X6_about_147 ?_ | refine zat_in zP_X6_about zk_X6_about_152 ?_ | refine zat_in zP_X6_about zk_X6_about_157 ?_) <;> simp (disch := omega) only [b_X6_about_0, b_X6_about_15, b_X6_about_88, b_X6_about_93, b_X6_about_98, b_X6_about_103, b_X6_about_109, b_X6_about_115, b_X6_about_121, b_X6_about_127, b_X6_about_132, b_X6_about_137, b_X6_about_142, b_X6_about_147, b_X6_about_152, b_X6_about_157, zc_X6_about_15, zc_X6_about_88, zc_X6_about_93, zc_X6_about_98, zc_X6_about_103, zc_X6_about_109, zc_X6_about_115, zc_X6_about_121, zc_X6_about_127, zc_X6_about_132, zc_X6_about_137, zc_X6_about_142, zc_X6_about_147, zc_X6_about_152, zc_X6_about_157, zif, zdr, zkb, mK_wi, mN_wi, mJ_wi, mI_wi, sI_wi, beq_self_eq_true, Bool.true_or, Bool.or_true, Bool.or_false, Bool.and_self, Bool.and_true, Bool.true_and, ↓reduceIte, ble_up0, i_cl, i_succ, zix_of, zfl_k, zup_k, zup_q, w0, wa1, wa2, wa3, wb1, wb2, wb3, wc1, wc2, wc3, w1, w2, w3, eq_true c1]; repeat (first | exact ev_r | (refine ev_bk ?_; ((first | refine zat_in zP_X6_about zk_X6_about_0 ?_ | refine zat_in zP_X6_about zk_X6_about_15 ?_ | refine zat_in zP_X6_about zk_X6_about_88 ?_ | refine zat_in zP_X6_about zk_X6_about_93 ?_ | refine zat_in zP_X6_about zk_X6_about_98 ?_ | refine zat_in zP_X6_about zk_X6_about_103 ?_ | refine zat_in zP_X6_about zk_X6_about_109 ?_ | refine zat_in zP_X6_about zk_X6_about_115 ?_ | refine zat_in zP_X6_about zk_X6_about_121 ?_ | refine zat_in zP_X6_about zk_X6_about_127 ?_ | refine zat_in zP_X6_about zk_X6_about_132 ?_ | refine zat_in zP_X6_about zk_X6_about_137 ?_ | refine zat_in zP_X6_about zk_X6_about_142 ?_ | refine zat_in zP_X6_about zk_X6_about_147 ?_ | refine zat_in zP_X6_about zk_X6_about_152 ?_ | refine zat_in zP_X6_about zk_X6_about_157 ?_) <;> simp (disch := omega) only [b_X6_about_0, b_X6_about_15, b_X6_about_88, b_X6_about_93, b_X6_about_98, b_X6_about_103, b_X6_about_109, b_X6_about_115, b_X6_about_121, b_X6_about_127, b_X6_about_132, b_X6_about_137, b_X6_about_142, b_X6_about_147, b_X6_about_152, b_X6_about_157, zc_X6_about_15, zc_X6_about_88, zc_X6_about_93, zc_X6_about_98, zc_X6_about_103, zc_X6_about_109, zc_X6_about_115, zc_X6_about_121, zc_X6_about_127, zc_X6_about_132, zc_X6_about_137, zc_X6_about_142, zc_X6_about_147, zc_X6_about_152, zc_X6_about_157, zif, zdr, zkb, mK_wi, mN_wi, mJ_wi, mI_wi, sI_wi, beq_self_eq_true, Bool.true_or, Bool.or_true, Bool.or_false, Bool.and_self, Bool.and_true, Bool.true_and, ↓reduceIte, ble_up0, i_cl, i_succ, zix_of, zfl_k, zup_k, zup_q, w0, wa1, wa2, wa3, wb1, wb2, wb3, wc1, wc2, wc3, w1, w2, w3, eq_true c1])) | (refine ev_cv (mq_team h hi t) ?_; try simp (disch := omega) only [b_X6_about_0, b_X6_about_15, b_X6_about_88, b_X6_about_93, b_X6_about_98, b_X6_about_103, b_X6_about_109, b_X6_about_115, b_X6_about_121, b_X6_about_127, b_X6_about_132, b_X6_about_137, b_X6_about_142, b_X6_about_147, b_X6_about_152, b_X6_about_157, zc_X6_about_15, zc_X6_about_88, zc_X6_about_93, zc_X6_about_98, zc_X6_about_103, zc_X6_about_109, zc_X6_about_115, zc_X6_about_121, zc_X6_about_127, zc_X6_about_132, zc_X6_about_137, zc_X6_about_142, zc_X6_about_147, zc_X6_about_152, zc_X6_about_157, zif, zdr, zkb, mK_wi, mN_wi, mJ_wi, mI_wi, sI_wi, beq_self_eq_true, Bool.true_or, Bool.or_true, Bool.or_false, Bool.and_self, Bool.and_true, Bool.true_and, ↓reduceIte, ble_up0, i_cl, i_succ, zix_of, zfl_k, zup_k, zup_q, w0, wa1, wa2, wa3, wb1, wb2, wb3, wc1, wc2, wc3, w1, w2, w3, eq_true c1]) | (refine ev_ci (mq_team h hi t) ?_; try simp (disch := omega) only [b_X6_about_0, b_X6_about_15, b_X6_about_88, b_X6_about_93, b_X6_about_98, b_X6_about_103, b_X6_about_109, b_X6_about_115, b_X6_about_121, b_X6_about_127, b_X6_about_132, b_X6_about_137, b_X6_about_142, b_X6_about_147, b_X6_about_152, b_X6_about_157, zc_X6_about_15, zc_X6_about_88, zc_X6_about_93, zc_X6_about_98, zc_X6_about_103, zc_X6_about_109, zc_X6_about_115, zc_X6_about_121, zc_X6_about_127, zc_X6_about_132, zc_X6_about_137, zc_X6_about_142, zc_X6_about_147, zc_X6_about_152, zc_X6_about_157, zif, zdr, zkb, mK_wi, mN_wi, mJ_wi, mI_wi, sI_wi, beq_self_eq_true, Bool.true_or, Bool.or_true, Bool.or_false, Bool.and_self, Bool.and_true, Bool.true_and, ↓reduceIte, ble_up0, i_cl, i_succ, zix_of, zfl_k, zup_k, zup_q, w0, wa1, wa2, wa3, wb1, wb2, wb3, wc1, wc2, wc3, w1, w2, w3, eq_true c1]) | (refine ev_cr (mq_team h hi t) ?_; try simp (disch := omega) only [b_X6_about_0, b_X6_about_15, b_X6_about_88, b_X6_about_93, b_X6_about_98, b_X6_about_103, b_X6_about_109, b_X6_about_115, b_X6_about_121, b_X6_about_127, b_X6_about_132, b_X6_about_137, b_X6_about_142, b_X6_about_147, b_X6_about_152, b_X6_about_157, zc_X6_about_15, zc_X6_about_88, zc_X6_about_93, zc_X6_about_98, zc_X6_about_103, zc_X6_about_109, zc_X6_about_115, zc_X6_about_121, zc_X6_about_127, zc_X6_about_132, zc_X6_about_137, zc_X6_about_142, zc_X6_about_147, zc_X6_about_152, zc_X6_about_157, zif, zdr, zkb, mK_wi, mN_wi, mJ_wi, mI_wi, sI_wi, beq_self_eq_true, Bool.true_or, Bool.or_true, Bool.or_false, Bool.and_self, Bool.and_true, Bool.true_and, ↓reduceIte, ble_up0, i_cl, i_succ, zix_of, zfl_k, zup_k, zup_q, w0, wa1, wa2, wa3, wb1, wb2, wb3, wc1, wc2, wc3, w1, w2, w3, eq_true c1]) | (refine ev_cg (mq_team h hi t) ?_; try simp (disch := omega) only [b_X6_about_0, b_X6_about_15, b_X6_about_88, b_X6_about_93, b_X6_about_98, b_X6_about_103, b_X6_about_109, b_X6_about_115, b_X6_about_121, b_X6_about_127, b_X6_about_132, b_X6_about_137, b_X6_about_142, b_X6_about_147, b_X6_about_152, b_X6_about_157, zc_X6_about_15, zc_X6_about_88, zc_X6_about_93, zc_X6_about_98, zc_X6_about_103, zc_X6_about_109, zc_X6_about_115, zc_X6_about_121, zc_X6_about_127, zc_X6_about_132, zc_X6_about_137, zc_X6_about_142, zc_X6_about_147, zc_X6_about_152, zc_X6_about_157, zif, zdr, zkb, mK_wi, mN_wi, mJ_wi, mI_wi, sI_wi, beq_self_eq_true, Bool.true_or, Bool.or_true, Bool.or_false, Bool.and_self, Bool.and_true, Bool.true_and, ↓reduceIte, ble_up0, i_cl, i_succ, zix_of, zfl_k, zup_k, zup_q, w0, wa1, wa2, wa3, wb1, wb2, wb3, wc1, wc2, wc3, w1, w2, w3, eq_true c1]))
  rw [if_neg c1]
  obtain ⟨ht, hk⟩ := isT_k hi c1
  have hnt := hi.1.1.2.1.2
  obtain ⟨g1, g2⟩ := w4 (nn t) (by omega)
  have g1' := g1
  obtain ⟨p0, ⟨ps1, ps2, ps3⟩, ⟨pt1, pt2, pt3⟩, ⟨pl1, pl2, pl3⟩, ⟨pc1, pc2, pc3⟩, ⟨pw1, pw2, pw3⟩, ⟨pn1, pn2, pn3⟩, ⟨py1, py2, py3⟩, ⟨pf1, pf2, pf3⟩, ⟨pg1, pg2, pg3⟩⟩ := g1
  have hz : zix t 6 = true := by rw [ht]; exact zix_of (by omega) (by omega)
  have hc : t.toNatClampNeg = nn t := rfl
  obtain ⟨hT0, hLd, -⟩ := h.2.2.1.2 _ hk
  have hT : mP (zup I w 0 0) (w + 28 + 20 * nn t) (nn (gT G (nn t) 0 0)) (nn (gT G (nn t) 0 13)) (gT G (nn t)) := (hh.2.2.1.2 _ hk).1
  obtain ⟨t1, t2, t3⟩ := hi.1.2.2 _ hk
  have t0 := t1.1.1
  have t6 := t1.2.1
  have hV := hh.2.2.1.1
  obtain ⟨⟨x0, x1, x2, x3, x4, x5, x6⟩, ⟨x7, x8, x9, x10, x11, x12, x13⟩, -⟩ := hT0.un
  have ci := fun (s : Int32) => sp_X7_of (E := E) (d := d + 1) (s := s) g1' t0.2 hT t0.1
  have cw := sp_X6_way (E := E) (d := d + 1) g1' hwn.1 hT hV t6.1 t6.2
  generalize gT G (nn t) = T at *
  refine zcl_in' zP_X6_about ?_; rw [zn_3_4]
  refine zat_in zP_X6_about zk_X6_about_0 ?_
  simp (disch := omega) only [b_X6_about_0, zif, zdr, zkb, mK_wi, mN_wi, mJ_wi, mI_wi, sI_wi, beq_self_eq_true, Bool.true_or, Bool.or_true, Bool.or_false, Bool.and_self, Bool.and_true, Bool.true_and, ↓reduceIte, ble_up0, i_cl, i_succ, zix_of, zfl_k, zup_k, zup_q, w0, wa1, wa2, wa3, wb1, wb2, wb3, wc1, wc2, wc3, w1, w2, w3]
  refine ev_ci (mq_team h hi t) ?_
  simp (disch := omega) only [zif, zdr, zkb, mK_wi, mN_wi, mJ_wi, mI_wi, sI_wi, beq_self_eq_true, Bool.true_or, Bool.or_true, Bool.or_false, Bool.and_self, Bool.and_true, Bool.true_and, ↓reduceIte, ble_up0, i_cl, i_succ, zix_of, zfl_k, zup_k, zup_q, eq_false c1]
  refine ev_bk ?_
  refine zat_in zP_X6_about zk_X6_about_15 ?_
  simp only [b_X6_about_15]
  refine ev_zif (by simp (disch := omega) only [zif, zdr, zkb, mK_wi, mN_wi, mJ_wi, mI_wi, sI_wi, beq_self_eq_true, Bool.true_or, Bool.or_true, Bool.or_false, Bool.and_self, Bool.and_true, Bool.true_and, ↓reduceIte, ble_up0, i_cl, i_succ, zix_of, zfl_k, zup_k, zup_q, w0, wa1, wa2, wa3, wb1, wb2, wb3, wc1, wc2, wc3, w1, w2, w3, p0, ps1, ps2, ps3, pt1, pt2, pt3, pl1, pl2, pl3, pc1, pc2, pc3, pw1, pw2, pw3, pn1, pn2, pn3, py1, py2, py3, pf1, pf2, pf3, pg1, pg2, pg3, x0, x1, x2, x3, x4, x5, x6, x7, x8, x9, x10, x11, x12, x13, hLd, g2, hz, hc]; try rfl) (ev_zdr (a := w + 4) (by simp (disch := omega) only [zif, zdr, zkb, mK_wi, mN_wi, mJ_wi, mI_wi, sI_wi, beq_self_eq_true, Bool.true_or, Bool.or_true, Bool.or_false, Bool.and_self, Bool.and_true, Bool.true_and, ↓reduceIte, ble_up0, i_cl, i_succ, zix_of, zfl_k, zup_k, zup_q, w0, wa1, wa2, wa3, wb1, wb2, wb3, wc1, wc2, wc3, w1, w2, w3, p0, ps1, ps2, ps3, pt1, pt2, pt3, pl1, pl2, pl3, pc1, pc2, pc3, pw1, pw2, pw3, pn1, pn2, pn3, py1, py2, py3, pf1, pf2, pf3, pg1, pg2, pg3, x0, x1, x2, x3, x4, x5, x6, x7, x8, x9, x10, x11, x12, x13, hLd, g2, hz, hc]) (ev_zif (by simp (disch := omega) only [zif, zdr, zkb, mK_wi, mN_wi, mJ_wi, mI_wi, sI_wi, beq_self_eq_true, Bool.true_or, Bool.or_true, Bool.or_false, Bool.and_self, Bool.and_true, Bool.true_and, ↓reduceIte, ble_up0, i_cl, i_succ, zix_of, zfl_k, zup_k, zup_q, w0, wa1, wa2, wa3, wb1, wb2, wb3, wc1, wc2, wc3, w1, w2, w3, p0, ps1, ps2, ps3, pt1, pt2, pt3, pl1, pl2, pl3, pc1, pc2, pc3, pw1, pw2, pw3, pn1, pn2, pn3, py1, py2, py3, pf1, pf2, pf3, pg1, pg2, pg3, x0, x1, x2, x3, x4, x5, x6, x7, x8, x9, x10, x11, x12, x13, hLd, g2, hz, hc]; try rfl) (ev_zif (by simp (disch := omega) only [zif, zdr, zkb, mK_wi, mN_wi, mJ_wi, mI_wi, sI_wi, beq_self_eq_true, Bool.true_or, Bool.or_true, Bool.or_false, Bool.and_self, Bool.and_true, Bool.true_and, ↓reduceIte, ble_up0, i_cl, i_succ, zix_of, zfl_k, zup_k, zup_q, w0, wa1, wa2, wa3, wb1, wb2, wb3, wc1, wc2, wc3, w1, w2, w3, p0, ps1, ps2, ps3, pt1, pt2, pt3, pl1, pl2, pl3, pc1, pc2, pc3, pw1, pw2, pw3, pn1, pn2, pn3, py1, py2, py3, pf1, pf2, pf3, pg1, pg2, pg3, x0, x1, x2, x3, x4, x5, x6, x7, x8, x9, x10, x11, x12, x13, hLd, g2, hz, hc]; try rfl) ?_)))
  unfold tAbout
  refine ev_th _ (fun h => ?_) (fun h => ?_)
  · rw [if_pos h]
    refine ev_bk ?_
    refine zat_in zP_X6_about zk_X6_about_88 ?_; simp (disch := omega) only [b_X6_about_88, zif, zdr, zkb, mK_wi, mN_wi, mJ_wi, mI_wi, sI_wi, beq_self_eq_true, Bool.true_or, Bool.or_true, Bool.or_false, Bool.and_self, Bool.and_true, Bool.true_and, ↓reduceIte, ble_up0, i_cl, i_succ, zix_of, zfl_k, zup_k, zup_q, w0, wa1, wa2, wa3, wb1, wb2, wb3, wc1, wc2, wc3, w1, w2, w3, p0, ps1, ps2, ps3, pt1, pt2, pt3, pl1, pl2, pl3, pc1, pc2, pc3, pw1, pw2, pw3, pn1, pn2, pn3, py1, py2, py3, pf1, pf2, pf3, pg1, pg2, pg3, x0, x1, x2, x3, x4, x5, x6, x7, x8, x9, x10, x11, x12, x13, hLd, g2, hz, hc]
    exact ev_r
  rw [if_neg h]
  refine ev_th _ (fun h => ?_) (fun h => ?_)
  · rw [if_pos h]
    refine ev_bk ?_
    refine zat_in zP_X6_about zk_X6_about_93 ?_; simp (disch := omega) only [b_X6_about_93, zif, zdr, zkb, mK_wi, mN_wi, mJ_wi, mI_wi, sI_wi, beq_self_eq_true, Bool.true_or, Bool.or_true, Bool.or_false, Bool.and_self, Bool.and_true, Bool.true_and, ↓reduceIte, ble_up0, i_cl, i_succ, zix_of, zfl_k, zup_k, zup_q, w0, wa1, wa2, wa3, wb1, wb2, wb3, wc1, wc2, wc3, w1, w2, w3, p0, ps1, ps2, ps3, pt1, pt2, pt3, pl1, pl2, pl3, pc1, pc2, pc3, pw1, pw2, pw3, pn1, pn2, pn3, py1, py2, py3, pf1, pf2, pf3, pg1, pg2, pg3, x0, x1, x2, x3, x4, x5, x6, x7, x8, x9, x10, x11, x12, x13, hLd, g2, hz, hc]
    exact ev_r
  rw [if_neg h]
  refine ev_th _ (fun h => ?_) (fun h => ?_)
  · rw [if_pos h]
    refine ev_bk ?_
    refine zat_in zP_X6_about zk_X6_about_98 ?_; simp (disch := omega) only [b_X6_about_98, zif, zdr, zkb, mK_wi, mN_wi, mJ_wi, mI_wi, sI_wi, beq_self_eq_true, Bool.true_or, Bool.or_true, Bool.or_false, Bool.and_self, Bool.and_true, Bool.true_and, ↓reduceIte, ble_up0, i_cl, i_succ, zix_of, zfl_k, zup_k, zup_q, w0, wa1, wa2, wa3, wb1, wb2, wb3, wc1, wc2, wc3, w1, w2, w3, p0, ps1, ps2, ps3, pt1, pt2, pt3, pl1, pl2, pl3, pc1, pc2, pc3, pw1, pw2, pw3, pn1, pn2, pn3, py1, py2, py3, pf1, pf2, pf3, pg1, pg2, pg3, x0, x1, x2, x3, x4, x5, x6, x7, x8, x9, x10, x11, x12, x13, hLd, g2, hz, hc]
    exact ev_r
  rw [if_neg h]
  refine ev_th _ (fun h => ?_) (fun h => ?_)
  · rw [if_pos h]
    refine ev_bk ?_
    refine zat_in zP_X6_about zk_X6_about_103 ?_; simp (disch := omega) only [b_X6_about_103, zif, zdr, zkb, mK_wi, mN_wi, mJ_wi, mI_wi, sI_wi, beq_self_eq_true, Bool.true_or, Bool.or_true, Bool.or_false, Bool.and_self, Bool.and_true, Bool.true_and, ↓reduceIte, ble_up0, i_cl, i_succ, zix_of, zfl_k, zup_k, zup_q, w0, wa1, wa2, wa3, wb1, wb2, wb3, wc1, wc2, wc3, w1, w2, w3, p0, ps1, ps2, ps3, pt1, pt2, pt3, pl1, pl2, pl3, pc1, pc2, pc3, pw1, pw2, pw3, pn1, pn2, pn3, py1, py2, py3, pf1, pf2, pf3, pg1, pg2, pg3, x0, x1, x2, x3, x4, x5, x6, x7, x8, x9, x10, x11, x12, x13, hLd, g2, hz, hc]
    exact ev_ci cw ev_r
  rw [if_neg h]
  refine ev_th _ (fun h => ?_) (fun h => ?_)
  · rw [if_pos h]
    refine ev_bk ?_
    refine zat_in zP_X6_about zk_X6_about_109 ?_; simp (disch := omega) only [b_X6_about_109, zif, zdr, zkb, mK_wi, mN_wi, mJ_wi, mI_wi, sI_wi, beq_self_eq_true, Bool.true_or, Bool.or_true, Bool.or_false, Bool.and_self, Bool.and_true, Bool.true_and, ↓reduceIte, ble_up0, i_cl, i_succ, zix_of, zfl_k, zup_k, zup_q, w0, wa1, wa2, wa3, wb1, wb2, wb3, wc1, wc2, wc3, w1, w2, w3, p0, ps1, ps2, ps3, pt1, pt2, pt3, pl1, pl2, pl3, pc1, pc2, pc3, pw1, pw2, pw3, pn1, pn2, pn3, py1, py2, py3, pf1, pf2, pf3, pg1, pg2, pg3, x0, x1, x2, x3, x4, x5, x6, x7, x8, x9, x10, x11, x12, x13, hLd, g2, hz, hc]
    exact ev_ci (ci 0) ev_r
  rw [if_neg h]
  refine ev_th _ (fun h => ?_) (fun h => ?_)
  · rw [if_pos h]
    refine ev_bk ?_
    refine zat_in zP_X6_about zk_X6_about_115 ?_; simp (disch := omega) only [b_X6_about_115, zif, zdr, zkb, mK_wi, mN_wi, mJ_wi, mI_wi, sI_wi, beq_self_eq_true, Bool.true_or, Bool.or_true, Bool.or_false, Bool.and_self, Bool.and_true, Bool.true_and, ↓reduceIte, ble_up0, i_cl, i_succ, zix_of, zfl_k, zup_k, zup_q, w0, wa1, wa2, wa3, wb1, wb2, wb3, wc1, wc2, wc3, w1, w2, w3, p0, ps1, ps2, ps3, pt1, pt2, pt3, pl1, pl2, pl3, pc1, pc2, pc3, pw1, pw2, pw3, pn1, pn2, pn3, py1, py2, py3, pf1, pf2, pf3, pg1, pg2, pg3, x0, x1, x2, x3, x4, x5, x6, x7, x8, x9, x10, x11, x12, x13, hLd, g2, hz, hc]
    exact ev_ci (ci 1) ev_r
  rw [if_neg h]
  refine ev_th _ (fun h => ?_) (fun h => ?_)
  · rw [if_pos h]
    refine ev_bk ?_
    refine zat_in zP_X6_about zk_X6_about_121 ?_; simp (disch := omega) only [b_X6_about_121, zif, zdr, zkb, mK_wi, mN_wi, mJ_wi, mI_wi, sI_wi, beq_self_eq_true, Bool.true_or, Bool.or_true, Bool.or_false, Bool.and_self, Bool.and_true, Bool.true_and, ↓reduceIte, ble_up0, i_cl, i_succ, zix_of, zfl_k, zup_k, zup_q, w0, wa1, wa2, wa3, wb1, wb2, wb3, wc1, wc2, wc3, w1, w2, w3, p0, ps1, ps2, ps3, pt1, pt2, pt3, pl1, pl2, pl3, pc1, pc2, pc3, pw1, pw2, pw3, pn1, pn2, pn3, py1, py2, py3, pf1, pf2, pf3, pg1, pg2, pg3, x0, x1, x2, x3, x4, x5, x6, x7, x8, x9, x10, x11, x12, x13, hLd, g2, hz, hc]
    exact ev_ci (ci 2) ev_r
  rw [if_neg h]
  refine ev_th _ (fun h => ?_) (fun h => ?_)
  · rw [if_pos h]
    refine ev_bk ?_
    refine zat_in zP_X6_about zk_X6_about_127 ?_; simp (disch := omega) only [b_X6_about_127, zif, zdr, zkb, mK_wi, mN_wi, mJ_wi, mI_wi, sI_wi, beq_self_eq_true, Bool.true_or, Bool.or_true, Bool.or_false, Bool.and_self, Bool.and_true, Bool.true_and, ↓reduceIte, ble_up0, i_cl, i_succ, zix_of, zfl_k, zup_k, zup_q, w0, wa1, wa2, wa3, wb1, wb2, wb3, wc1, wc2, wc3, w1, w2, w3, p0, ps1, ps2, ps3, pt1, pt2, pt3, pl1, pl2, pl3, pc1, pc2, pc3, pw1, pw2, pw3, pn1, pn2, pn3, py1, py2, py3, pf1, pf2, pf3, pg1, pg2, pg3, x0, x1, x2, x3, x4, x5, x6, x7, x8, x9, x10, x11, x12, x13, hLd, g2, hz, hc]
    exact ev_r
  rw [if_neg h]
  refine ev_th _ (fun h => ?_) (fun h => ?_)
  · rw [if_pos h]
    refine ev_bk ?_
    refine zat_in zP_X6_about zk_X6_about_132 ?_; simp (disch := omega) only [b_X6_about_132, zif, zdr, zkb, mK_wi, mN_wi, mJ_wi, mI_wi, sI_wi, beq_self_eq_true, Bool.true_or, Bool.or_true, Bool.or_false, Bool.and_self, Bool.and_true, Bool.true_and, ↓reduceIte, ble_up0, i_cl, i_succ, zix_of, zfl_k, zup_k, zup_q, w0, wa1, wa2, wa3, wb1, wb2, wb3, wc1, wc2, wc3, w1, w2, w3, p0, ps1, ps2, ps3, pt1, pt2, pt3, pl1, pl2, pl3, pc1, pc2, pc3, pw1, pw2, pw3, pn1, pn2, pn3, py1, py2, py3, pf1, pf2, pf3, pg1, pg2, pg3, x0, x1, x2, x3, x4, x5, x6, x7, x8, x9, x10, x11, x12, x13, hLd, g2, hz, hc]
    exact ev_r
  rw [if_neg h]
  refine ev_th _ (fun h => ?_) (fun h => ?_)
  · rw [if_pos h]
    refine ev_bk ?_
    refine zat_in zP_X6_about zk_X6_about_137 ?_; simp (disch := omega) only [b_X6_about_137, zif, zdr, zkb, mK_wi, mN_wi, mJ_wi, mI_wi, sI_wi, beq_self_eq_true, Bool.true_or, Bool.or_true, Bool.or_false, Bool.and_self, Bool.and_true, Bool.true_and, ↓reduceIte, ble_up0, i_cl, i_succ, zix_of, zfl_k, zup_k, zup_q, w0, wa1, wa2, wa3, wb1, wb2, wb3, wc1, wc2, wc3, w1, w2, w3, p0, ps1, ps2, ps3, pt1, pt2, pt3, pl1, pl2, pl3, pc1, pc2, pc3, pw1, pw2, pw3, pn1, pn2, pn3, py1, py2, py3, pf1, pf2, pf3, pg1, pg2, pg3, x0, x1, x2, x3, x4, x5, x6, x7, x8, x9, x10, x11, x12, x13, hLd, g2, hz, hc]
    exact ev_r
  rw [if_neg h]
  refine ev_th _ (fun h => ?_) (fun h => ?_)
  · rw [if_pos h]
    refine ev_bk ?_
    refine zat_in zP_X6_about zk_X6_about_142 ?_; simp (disch := omega) only [b_X6_about_142, zif, zdr, zkb, mK_wi, mN_wi, mJ_wi, mI_wi, sI_wi, beq_self_eq_true, Bool.true_or, Bool.or_true, Bool.or_false, Bool.and_self, Bool.and_true, Bool.true_and, ↓reduceIte, ble_up0, i_cl, i_succ, zix_of, zfl_k, zup_k, zup_q, w0, wa1, wa2, wa3, wb1, wb2, wb3, wc1, wc2, wc3, w1, w2, w3, p0, ps1, ps2, ps3, pt1, pt2, pt3, pl1, pl2, pl3, pc1, pc2, pc3, pw1, pw2, pw3, pn1, pn2, pn3, py1, py2, py3, pf1, pf2, pf3, pg1, pg2, pg3, x0, x1, x2, x3, x4, x5, x6, x7, x8, x9, x10, x11, x12, x13, hLd, g2, hz, hc]
    exact ev_r
  rw [if_neg h]
  refine ev_th _ (fun h => ?_) (fun h => ?_)
  · rw [if_pos h]
    refine ev_bk ?_
    refine zat_in zP_X6_about zk_X6_about_147 ?_; simp (disch := omega) only [b_X6_about_147, zif, zdr, zkb, mK_wi, mN_wi, mJ_wi, mI_wi, sI_wi, beq_self_eq_true, Bool.true_or, Bool.or_true, Bool.or_false, Bool.and_self, Bool.and_true, Bool.true_and, ↓reduceIte, ble_up0, i_cl, i_succ, zix_of, zfl_k, zup_k, zup_q, w0, wa1, wa2, wa3, wb1, wb2, wb3, wc1, wc2, wc3, w1, w2, w3, p0, ps1, ps2, ps3, pt1, pt2, pt3, pl1, pl2, pl3, pc1, pc2, pc3, pw1, pw2, pw3, pn1, pn2, pn3, py1, py2, py3, pf1, pf2, pf3, pg1, pg2, pg3, x0, x1, x2, x3, x4, x5, x6, x7, x8, x9, x10, x11, x12, x13, hLd, g2, hz, hc]
    exact ev_r
  rw [if_neg h]
  refine ev_th _ (fun h => ?_) (fun h => ?_)
  · rw [if_pos h]
    refine ev_bk ?_
    refine zat_in zP_X6_about zk_X6_about_152 ?_; simp (disch := omega) only [b_X6_about_152, zif, zdr, zkb, mK_wi, mN_wi, mJ_wi, mI_wi, sI_wi, beq_self_eq_true, Bool.true_or, Bool.or_true, Bool.or_false, Bool.and_self, Bool.and_true, Bool.true_and, ↓reduceIte, ble_up0, i_cl, i_succ, zix_of, zfl_k, zup_k, zup_q, w0, wa1, wa2, wa3, wb1, wb2, wb3, wc1, wc2, wc3, w1, w2, w3, p0, ps1, ps2, ps3, pt1, pt2, pt3, pl1, pl2, pl3, pc1, pc2, pc3, pw1, pw2, pw3, pn1, pn2, pn3, py1, py2, py3, pf1, pf2, pf3, pg1, pg2, pg3, x0, x1, x2, x3, x4, x5, x6, x7, x8, x9, x10, x11, x12, x13, hLd, g2, hz, hc]
    exact ev_r
  rw [if_neg h]
  refine ev_bk ?_
  refine zat_in zP_X6_about zk_X6_about_157 ?_; simp (disch := omega) only [b_X6_about_157, zif, zdr, zkb, mK_wi, mN_wi, mJ_wi, mI_wi, sI_wi, beq_self_eq_true, Bool.true_or, Bool.or_true, Bool.or_false, Bool.and_self, Bool.and_true, Bool.true_and, ↓reduceIte, ble_up0, i_cl, i_succ, zix_of, zfl_k, zup_k, zup_q]
  exact ev_r
theorem xq_count (h : XG S I B G) (hi : IG G) (k : Int32) : zCl E (d + 2) 69 [zr (some B), zi k] (zwi S I) (Sum.inl (some (zi (tCount G k))), zwi S I) := by
  have hcs := h.1
  obtain ⟨b0, ⟨b3, b4, b5⟩, hwn, hwk, hal, ⟨b7, bk7, bn7⟩, ⟨b8, bk8, bn8⟩, ⟨b9, bk9, bn9⟩, ⟨b12, bk12⟩, ⟨ba0, bka0, bna0⟩, b2, bk2, ⟨br0, brk0⟩, br1, br2, brk2, brn2⟩ := id hcs
  have w0 := hwn.1.1
  obtain ⟨⟨v0, v1, v2, v3⟩, -⟩ := h.2.2.1.1.un
  obtain ⟨⟨s1, s2, s3, s4⟩, s5, s6, s7, s8⟩ := h.2.1
  have ct := sp_X3_trail (E := E) (d := d + 1) hwn.1 h.2.2.1.1 hi.1.1.1
  refine zcl_in' zP_X0_count ?_; rw [zn_2_2]
  refine zat_in zP_X0_count zk_X0_count_0 ?_
  simp (disch := omega) only [b_X0_count_0, zif, zdr, zkb, mK_wi, mN_wi, mJ_wi, mI_wi, sI_wi, beq_self_eq_true, Bool.true_or, Bool.or_true, Bool.or_false, Bool.and_self, Bool.and_true, Bool.true_and, ↓reduceIte, ble_up0, i_cl, i_succ, zix_of, zfl_k, zup_k, zup_q, b0, b3, b4, b5, b7, bk7, bn7, b8, bk8, bn8, b9, bk9, bn9, b12, bk12, ba0, bka0, bna0, b2, bk2, br0, brk0, br1, br2, brk2, brn2]
  unfold tCount
  refine ev_th _ (fun h => ?_) (fun h => ?_)
  · rw [if_pos h]
    refine ev_bk ?_
    refine zat_in zP_X0_count zk_X0_count_44 ?_; simp (disch := omega) only [b_X0_count_44, zif, zdr, zkb, mK_wi, mN_wi, mJ_wi, mI_wi, sI_wi, beq_self_eq_true, Bool.true_or, Bool.or_true, Bool.or_false, Bool.and_self, Bool.and_true, Bool.true_and, ↓reduceIte, ble_up0, i_cl, i_succ, zix_of, zfl_k, zup_k, zup_q, b0, b3, b4, b5, b7, bk7, bn7, b8, bk8, bn8, b9, bk9, bn9, b12, bk12, ba0, bka0, bna0, b2, bk2, br0, brk0, br1, br2, brk2, brn2, w0, v0, v1, v2, s1, s6, s7]
    exact ev_r
  rw [if_neg h]
  refine ev_th _ (fun h => ?_) (fun h => ?_)
  · rw [if_pos h]
    refine ev_bk ?_
    refine zat_in zP_X0_count zk_X0_count_52 ?_; simp (disch := omega) only [b_X0_count_52, zif, zdr, zkb, mK_wi, mN_wi, mJ_wi, mI_wi, sI_wi, beq_self_eq_true, Bool.true_or, Bool.or_true, Bool.or_false, Bool.and_self, Bool.and_true, Bool.true_and, ↓reduceIte, ble_up0, i_cl, i_succ, zix_of, zfl_k, zup_k, zup_q, b0, b3, b4, b5, b7, bk7, bn7, b8, bk8, bn8, b9, bk9, bn9, b12, bk12, ba0, bka0, bna0, b2, bk2, br0, brk0, br1, br2, brk2, brn2, w0, v0, v1, v2, s1, s6, s7]
    exact ev_r
  rw [if_neg h]
  refine ev_th _ (fun h => ?_) (fun h => ?_)
  · rw [if_pos h]
    refine ev_bk ?_
    refine zat_in zP_X0_count zk_X0_count_60 ?_; simp (disch := omega) only [b_X0_count_60, zif, zdr, zkb, mK_wi, mN_wi, mJ_wi, mI_wi, sI_wi, beq_self_eq_true, Bool.true_or, Bool.or_true, Bool.or_false, Bool.and_self, Bool.and_true, Bool.true_and, ↓reduceIte, ble_up0, i_cl, i_succ, zix_of, zfl_k, zup_k, zup_q, b0, b3, b4, b5, b7, bk7, bn7, b8, bk8, bn8, b9, bk9, bn9, b12, bk12, ba0, bka0, bna0, b2, bk2, br0, brk0, br1, br2, brk2, brn2, w0, v0, v1, v2, s1, s6, s7]
    exact ev_r
  rw [if_neg h]
  refine ev_th _ (fun h => ?_) (fun h => ?_)
  · rw [if_pos h]
    refine ev_bk ?_
    refine zat_in zP_X0_count zk_X0_count_65 ?_; simp (disch := omega) only [b_X0_count_65, zif, zdr, zkb, mK_wi, mN_wi, mJ_wi, mI_wi, sI_wi, beq_self_eq_true, Bool.true_or, Bool.or_true, Bool.or_false, Bool.and_self, Bool.and_true, Bool.true_and, ↓reduceIte, ble_up0, i_cl, i_succ, zix_of, zfl_k, zup_k, zup_q, b0, b3, b4, b5, b7, bk7, bn7, b8, bk8, bn8, b9, bk9, bn9, b12, bk12, ba0, bka0, bna0, b2, bk2, br0, brk0, br1, br2, brk2, brn2, w0, v0, v1, v2, s1, s6, s7]
    exact ev_r
  rw [if_neg h]
  refine ev_th _ (fun h => ?_) (fun h => ?_)
  · rw [if_pos h]
    refine ev_bk ?_
    refine zat_in zP_X0_count zk_X0_count_70 ?_; simp (disch := omega) only [b_X0_count_70, zif, zdr, zkb, mK_wi, mN_wi, mJ_wi, mI_wi, sI_wi, beq_self_eq_true, Bool.true_or, Bool.or_true, Bool.or_false, Bool.and_self, Bool.and_true, Bool.true_and, ↓reduceIte, ble_up0, i_cl, i_succ, zix_of, zfl_k, zup_k, zup_q, b0, b3, b4, b5, b7, bk7, bn7, b8, bk8, bn8, b9, bk9, bn9, b12, bk12, ba0, bka0, bna0, b2, bk2, br0, brk0, br1, br2, brk2, brn2, w0, v0, v1, v2, s1, s6, s7]
    exact ev_r
  rw [if_neg h]
  refine ev_th _ (fun h => ?_) (fun h => ?_)
  · rw [if_pos h]
    refine ev_bk ?_
    refine zat_in zP_X0_count zk_X0_count_78 ?_; simp (disch := omega) only [b_X0_count_78, zif, zdr, zkb, mK_wi, mN_wi, mJ_wi, mI_wi, sI_wi, beq_self_eq_true, Bool.true_or, Bool.or_true, Bool.or_false, Bool.and_self, Bool.and_true, Bool.true_and, ↓reduceIte, ble_up0, i_cl, i_succ, zix_of, zfl_k, zup_k, zup_q, b0, b3, b4, b5, b7, bk7, bn7, b8, bk8, bn8, b9, bk9, bn9, b12, bk12, ba0, bka0, bna0, b2, bk2, br0, brk0, br1, br2, brk2, brn2, w0, v0, v1, v2, s1, s6, s7]
    exact ev_ci ct ev_r
  rw [if_neg h]
  refine ev_th _ (fun h => ?_) (fun h => ?_)
  · rw [if_pos h]
    refine ev_bk ?_
    refine zat_in zP_X0_count zk_X0_count_86 ?_; simp (disch := omega) only [b_X0_count_86, zif, zdr, zkb, mK_wi, mN_wi, mJ_wi, mI_wi, sI_wi, beq_self_eq_true, Bool.true_or, Bool.or_true, Bool.or_false, Bool.and_self, Bool.and_true, Bool.true_and, ↓reduceIte, ble_up0, i_cl, i_succ, zix_of, zfl_k, zup_k, zup_q, b0, b3, b4, b5, b7, bk7, bn7, b8, bk8, bn8, b9, bk9, bn9, b12, bk12, ba0, bka0, bna0, b2, bk2, br0, brk0, br1, br2, brk2, brn2, w0, v0, v1, v2, s1, s6, s7]
    exact ev_r
  rw [if_neg h]
  refine ev_bk ?_
  refine zat_in zP_X0_count zk_X0_count_91 ?_; simp (disch := omega) only [b_X0_count_91, zif, zdr, zkb, mK_wi, mN_wi, mJ_wi, mI_wi, sI_wi, beq_self_eq_true, Bool.true_or, Bool.or_true, Bool.or_false, Bool.and_self, Bool.and_true, Bool.true_and, ↓reduceIte, ble_up0, i_cl, i_succ, zix_of, zfl_k, zup_k, zup_q]
  exact ev_r
theorem mq_count (hB : E.1 ≤ w) (h : MG S I w G) (hi : IG G) (k : Int32) : zCl E (d + 2) 177 [zr (some w), zi k] (zwi S I) (Sum.inl (some (zi (tCount G k))), zwi S (zup I w 0 0)) := by
  have hwn := h.1.1
  have w0 := hwn.1.1
  have hh := h.q0 hi
  obtain ⟨⟨v0, v1, v2, v3⟩, -⟩ := h.2.2.1.1.un
  obtain ⟨⟨s1, s2, s3, s4⟩, s6, s7, s8⟩ := h.2.1
  have ct := sp_X6_trail (E := E) (d := d + 1) hwn.1 hh.2.2.1.1 hi.1.1.1
  refine zcl_in' zP_X6_count ?_; rw [zn_2_2]
  refine zat_in zP_X6_count zk_X6_count_0 ?_
  simp (disch := omega) only [b_X6_count_0, zif, zdr, zkb, mK_wi, mN_wi, mJ_wi, mI_wi, sI_wi, beq_self_eq_true, Bool.true_or, Bool.or_true, Bool.or_false, Bool.and_self, Bool.and_true, Bool.true_and, ↓reduceIte, ble_up0, i_cl, i_succ, zix_of, zfl_k, zup_k, zup_q, w0]
  unfold tCount
  refine ev_th _ (fun h => ?_) (fun h => ?_)
  · rw [if_pos h]
    refine ev_bk ?_
    refine zat_in zP_X6_count zk_X6_count_48 ?_; simp (disch := omega) only [b_X6_count_48, zif, zdr, zkb, mK_wi, mN_wi, mJ_wi, mI_wi, sI_wi, beq_self_eq_true, Bool.true_or, Bool.or_true, Bool.or_false, Bool.and_self, Bool.and_true, Bool.true_and, ↓reduceIte, ble_up0, i_cl, i_succ, zix_of, zfl_k, zup_k, zup_q, w0, v0, v1, v2, s1, s6, s7]
    exact ev_r
  rw [if_neg h]
  refine ev_th _ (fun h => ?_) (fun h => ?_)
  · rw [if_pos h]
    refine ev_bk ?_
    refine zat_in zP_X6_count zk_X6_count_53 ?_; simp (disch := omega) only [b_X6_count_53, zif, zdr, zkb, mK_wi, mN_wi, mJ_wi, mI_wi, sI_wi, beq_self_eq_true, Bool.true_or, Bool.or_true, Bool.or_false, Bool.and_self, Bool.and_true, Bool.true_and, ↓reduceIte, ble_up0, i_cl, i_succ, zix_of, zfl_k, zup_k, zup_q, w0, v0, v1, v2, s1, s6, s7]
    exact ev_r
  rw [if_neg h]
  refine ev_th _ (fun h => ?_) (fun h => ?_)
  · rw [if_pos h]
    refine ev_bk ?_
    refine zat_in zP_X6_count zk_X6_count_58 ?_; simp (disch := omega) only [b_X6_count_58, zif, zdr, zkb, mK_wi, mN_wi, mJ_wi, mI_wi, sI_wi, beq_self_eq_true, Bool.true_or, Bool.or_true, Bool.or_false, Bool.and_self, Bool.and_true, Bool.true_and, ↓reduceIte, ble_up0, i_cl, i_succ, zix_of, zfl_k, zup_k, zup_q, w0, v0, v1, v2, s1, s6, s7]
    exact ev_r
  rw [if_neg h]
  refine ev_th _ (fun h => ?_) (fun h => ?_)
  · rw [if_pos h]
    refine ev_bk ?_
    refine zat_in zP_X6_count zk_X6_count_63 ?_; simp (disch := omega) only [b_X6_count_63, zif, zdr, zkb, mK_wi, mN_wi, mJ_wi, mI_wi, sI_wi, beq_self_eq_true, Bool.true_or, Bool.or_true, Bool.or_false, Bool.and_self, Bool.and_true, Bool.true_and, ↓reduceIte, ble_up0, i_cl, i_succ, zix_of, zfl_k, zup_k, zup_q, w0, v0, v1, v2, s1, s6, s7]
    exact ev_r
  rw [if_neg h]
  refine ev_th _ (fun h => ?_) (fun h => ?_)
  · rw [if_pos h]
    refine ev_bk ?_
    refine zat_in zP_X6_count zk_X6_count_68 ?_; simp (disch := omega) only [b_X6_count_68, zif, zdr, zkb, mK_wi, mN_wi, mJ_wi, mI_wi, sI_wi, beq_self_eq_true, Bool.true_or, Bool.or_true, Bool.or_false, Bool.and_self, Bool.and_true, Bool.true_and, ↓reduceIte, ble_up0, i_cl, i_succ, zix_of, zfl_k, zup_k, zup_q, w0, v0, v1, v2, s1, s6, s7]
    exact ev_r
  rw [if_neg h]
  refine ev_th _ (fun h => ?_) (fun h => ?_)
  · rw [if_pos h]
    refine ev_bk ?_
    refine zat_in zP_X6_count zk_X6_count_73 ?_; simp (disch := omega) only [b_X6_count_73, zif, zdr, zkb, mK_wi, mN_wi, mJ_wi, mI_wi, sI_wi, beq_self_eq_true, Bool.true_or, Bool.or_true, Bool.or_false, Bool.and_self, Bool.and_true, Bool.true_and, ↓reduceIte, ble_up0, i_cl, i_succ, zix_of, zfl_k, zup_k, zup_q, w0, v0, v1, v2, s1, s6, s7]
    exact ev_ci ct ev_r
  rw [if_neg h]
  refine ev_th _ (fun h => ?_) (fun h => ?_)
  · rw [if_pos h]
    refine ev_bk ?_
    refine zat_in zP_X6_count zk_X6_count_78 ?_; simp (disch := omega) only [b_X6_count_78, zif, zdr, zkb, mK_wi, mN_wi, mJ_wi, mI_wi, sI_wi, beq_self_eq_true, Bool.true_or, Bool.or_true, Bool.or_false, Bool.and_self, Bool.and_true, Bool.true_and, ↓reduceIte, ble_up0, i_cl, i_succ, zix_of, zfl_k, zup_k, zup_q, w0, v0, v1, v2, s1, s6, s7]
    exact ev_r
  rw [if_neg h]
  refine ev_bk ?_
  refine zat_in zP_X6_count zk_X6_count_83 ?_; simp (disch := omega) only [b_X6_count_83, zif, zdr, zkb, mK_wi, mN_wi, mJ_wi, mI_wi, sI_wi, beq_self_eq_true, Bool.true_or, Bool.or_true, Bool.or_false, Bool.and_self, Bool.and_true, Bool.true_and, ↓reduceIte, ble_up0, i_cl, i_succ, zix_of, zfl_k, zup_k, zup_q]
  exact ev_r
end
