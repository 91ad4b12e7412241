/-! ===== a team goes (x), to its end ===== -/
set_option maxRecDepth 100000
theorem tcnt_eq {T U : zT} {s : Int32} : ∀ k, (∀ j, j < k → T 2 j = U 2 j) → tcnt T s k = tcnt U s k
  | 0, _ => rfl
  | k + 1, h => by
    unfold tcnt
    rw [tcnt_eq k (fun j hj => h j (by omega)), h k (by omega)]
theorem tsum_eq {T U : zT} : ∀ k, (∀ j, j < k → T 2 j = U 2 j ∧ T 1 j = U 1 j) → tsum T k = tsum U k
  | 0, _ => rfl
  | k + 1, h => by
    unfold tsum
    rw [tsum_eq k (fun j hj => h j (by omega)), (h k (by omega)).1, (h k (by omega)).2]
section
variable {E : zE} {d t w nd ng lg s : Nat} {S : zM} {I : Nat → Nat → Int32} {T V : zT}
theorem X4_go_c {cc n a5 : Int32} {u : Option zV} (hB : E.1 ≤ t) (hS : xTS S t) (hW : xWS S w) (hd : w + 3 < t ∨ t + 23 ≤ w) (hn : nd ≤ 16) (hP : xP I t nd ng T) (hV : wP I w V) (h0 : T 0 0 = Int32.ofNat nd) (hl : T 0 6 = Int32.ofNat lg) (hlg : lg < 12) (hh : (1000 * V 2 lg != 0) = true) (hq : (20 * tcnt T 0 nd + tload T nd != 0) = true) : ∃ I', zAt E (d + 3) 101 166 [some (zr (some t)), some (zr (some w)), some (zi (Int32.ofNat s)), some (zi cc), some (zi n), some (zi a5), u] [] (zwi S I) (Sum.inl none, zwi S I') ∧ xP I' t nd ng (if tcnt T 0 nd = 0 then zup T 0 5 3 else if tg4 T V nd lg 0 7 < V 1 lg then tg4 T V nd lg else tcome (tg4 T V nd lg) V nd lg (Int32.ofNat s + 1)) ∧ zfI t (t + 23) I I' := by
  have hS' := hS
  have hW' := hW
  obtain ⟨⟨q1, q2, q3, q4⟩, ⟨qi1, qi2, qi3⟩, ⟨qa1, qa2, qa3⟩, ⟨qs1, qs2, qs3⟩, ⟨qf1, qf2, qf3⟩, ⟨qt1, qt2, qt3⟩, q5⟩ := hS
  obtain ⟨w0, ⟨wa1, wa2, wa3⟩, ⟨wb1, wb2, wb3⟩, -⟩ := hW
  have v5 : zvl nd ng 0 5 := Or.inl ⟨rfl, by omega⟩
  have v7 : zvl nd ng 0 7 := Or.inl ⟨rfl, by omega⟩
  have e6 : I t 7 = Int32.ofNat lg := (hP 0 6 (Or.inl ⟨rfl, by omega⟩)).trans hl
  have e7 : I t 8 = T 0 7 := hP 0 7 v7
  have e12 : I (w + 2) lg = V 2 lg := hV.2.2.1 lg (by omega)
  have z1 : zix (Int32.ofNat lg) 12 = true := zix_of (by omega) (by omega)
  have hb0 : Nat.ble E.1 t = true := ble_up0 hB
  by_cases hc : tcnt T 0 nd = 0
  · rw [if_pos hc]
    refine ⟨zup I t 6 3, ?_, hP.put v5 hn 3, zfI.rf.put (by omega) (by omega)⟩
    refine zat_in zP_X4_go zk_X4_go_166 ?_; simp (disch := omega) only [b_X4_go_166, zif, zdr, zkb, mK_wi, mN_wi, mJ_wi, mI_wi, sI_wi, beq_self_eq_true, Bool.true_or, Bool.or_true, Bool.or_false, Bool.and_self, Bool.and_true, Bool.true_and, ↓reduceIte, q1, q2, q3, q4, qi1, qi2, qi3, qa1, qa2, qa3, qs1, qs2, qs3, qf1, qf2, qf3, qt1, qt2, qt3]
    refine ev_ci (sp_X4_pulling hS' hn hP h0) ?_
    simp only [zif, zdr, zkb, mK_wi, mN_wi, mJ_wi, mI_wi, sI_wi, beq_self_eq_true, Bool.true_or, Bool.or_true, Bool.or_false, Bool.and_self, Bool.and_true, Bool.true_and, ↓reduceIte, q1, q2, q3, q4, qi1, qi2, qi3, qa1, qa2, qa3, qs1, qs2, qs3, qf1, qf2, qf3, qt1, qt2, qt3, hb0, hc]
    exact ev_r
  · rw [if_neg hc]
    have hP4 : xP (zup I t 8 (T 0 7 + tspd T V nd lg)) t nd ng (tg4 T V nd lg) := hP.put v7 hn _
    have f4 : zfI t (t + 23) I (zup I t 8 (T 0 7 + tspd T V nd lg)) := zfI.rf.put (by omega) (by omega)
    have hV4 := hV.fr (J := zup I t 8 (T 0 7 + tspd T V nd lg)) (fun a k h1 h2 => f4 a k (by omega))
    have h04 : tg4 T V nd lg 0 0 = Int32.ofNat nd := by simpa [tg4, zup] using h0
    have hl4 : tg4 T V nd lg 0 6 = Int32.ofNat lg := by simpa [tg4, zup] using hl
    have e64 : zup I t 8 (T 0 7 + tspd T V nd lg) t 7 = Int32.ofNat lg := by rw [zup_k (by omega)]; exact e6
    have e74 : zup I t 8 (T 0 7 + tspd T V nd lg) t 8 = tg4 T V nd lg 0 7 := by rw [zup_q]; simp [tg4, zup]
    have e14 : zup I t 8 (T 0 7 + tspd T V nd lg) (w + 1) lg = V 1 lg := hV4.2.1 lg (by omega)
    have main : ∀ r, zAt E (d + 3) 101 233 [some (zr (some t)), some (zr (some w)), some (zi (Int32.ofNat s)), some (zi cc), some (zi n), some (zi (tcnt T 0 nd)), u] [] (zwi S (zup I t 8 (T 0 7 + tspd T V nd lg))) r → zAt E (d + 3) 101 166 [some (zr (some t)), some (zr (some w)), some (zi (Int32.ofNat s)), some (zi cc), some (zi n), some (zi a5), u] [] (zwi S I) r := by
      intro r hr
      refine zat_in zP_X4_go zk_X4_go_166 ?_; simp (disch := omega) only [b_X4_go_166, zif, zdr, zkb, mK_wi, mN_wi, mJ_wi, mI_wi, sI_wi, beq_self_eq_true, Bool.true_or, Bool.or_true, Bool.or_false, Bool.and_self, Bool.and_true, Bool.true_and, ↓reduceIte, q1, q2, q3, q4, qi1, qi2, qi3, qa1, qa2, qa3, qs1, qs2, qs3, qf1, qf2, qf3, qt1, qt2, qt3]
      refine ev_ci (sp_X4_pulling hS' hn hP h0) ?_
      simp only [hc, ↓reduceIte]
      refine ev_bk ?_
      refine zat_in zP_X4_go zk_X4_go_183 ?_
      simp (disch := omega) only [b_X4_go_183, zif, zdr, zkb, mK_wi, mN_wi, mJ_wi, mI_wi, sI_wi, beq_self_eq_true, Bool.true_or, Bool.or_true, Bool.or_false, Bool.and_self, Bool.and_true, Bool.true_and, ↓reduceIte, q1, q2, q3, q4, qi1, qi2, qi3, qa1, qa2, qa3, qs1, qs2, qs3, qf1, qf2, qf3, qt1, qt2, qt3]
      refine ev_ci (sp_X4_mean hS' hn hP h0) ?_
      simp (disch := omega) only [zif, zdr, zkb, mK_wi, mN_wi, mJ_wi, mI_wi, sI_wi, beq_self_eq_true, Bool.true_or, Bool.or_true, Bool.or_false, Bool.and_self, Bool.and_true, Bool.true_and, ↓reduceIte, q1, q2, q3, q4, qi1, qi2, qi3, qa1, qa2, qa3, qs1, qs2, qs3, qf1, qf2, qf3, qt1, qt2, qt3, w0, wb1, wb2, wb3, e6, z1, i_cl, e12, hh]
      refine ev_ci (sp_X4_load hS' hn hP h0) ?_
      have hq' : (20 * tcnt T 0 nd + (T 0 1 + 25 * tcnt T 1 nd) != 0) = true := hq
      simp (disch := omega) only [zif, zdr, zkb, mK_wi, mN_wi, mJ_wi, mI_wi, sI_wi, beq_self_eq_true, Bool.true_or, Bool.or_true, Bool.or_false, Bool.and_self, Bool.and_true, Bool.true_and, ↓reduceIte, q1, q2, q3, q4, qi1, qi2, qi3, qa1, qa2, qa3, qs1, qs2, qs3, qf1, qf2, qf3, qt1, qt2, qt3, hq', hb0, e7]
      exact ev_tl zP_X4_go zk_X4_go_233 hr
    generalize hI4 : zup I t 8 (T 0 7 + tspd T V nd lg) = I4 at *
    by_cases hx : tg4 T V nd lg 0 7 < V 1 lg
    · rw [if_pos hx]
      refine ⟨I4, main _ ?_, hP4, f4⟩
      refine zat_in zP_X4_go zk_X4_go_233 ?_
      simp (disch := omega) only [b_X4_go_233, zif, zdr, zkb, mK_wi, mN_wi, mJ_wi, mI_wi, sI_wi, beq_self_eq_true, Bool.true_or, Bool.or_true, Bool.or_false, Bool.and_self, Bool.and_true, Bool.true_and, ↓reduceIte, q1, q2, q3, q4, qi1, qi2, qi3, qa1, qa2, qa3, qs1, qs2, qs3, qf1, qf2, qf3, qt1, qt2, qt3, w0, wa1, wa2, wa3, e64, e74, z1, i_cl, e14, eq_true hx]
      refine ev_bk ?_
      refine zat_in zP_X4_go zk_X4_go_257 ?_; simp (disch := omega) only [b_X4_go_257, zif, zdr, zkb, mK_wi, mN_wi, mJ_wi, mI_wi, sI_wi, beq_self_eq_true, Bool.true_or, Bool.or_true, Bool.or_false, Bool.and_self, Bool.and_true, Bool.true_and, ↓reduceIte]
      exact ev_r
    · rw [if_neg hx]
      obtain ⟨I', a1, a2, a3⟩ := sp_X4_comes (E := E) (d := d + 1) (s1 := Int32.ofNat s + 1) hB hS' hW' hd hn hP4 hV4 h04 hl4 hlg
      refine ⟨I', main _ ?_, a2, f4.tr a3⟩
      refine zat_in zP_X4_go zk_X4_go_233 ?_
      simp (disch := omega) only [b_X4_go_233, zc_X4_go_257, b_X4_go_257, zif, zdr, zkb, mK_wi, mN_wi, mJ_wi, mI_wi, sI_wi, beq_self_eq_true, Bool.true_or, Bool.or_true, Bool.or_false, Bool.and_self, Bool.and_true, Bool.true_and, ↓reduceIte, q1, q2, q3, q4, qi1, qi2, qi3, qa1, qa2, qa3, qs1, qs2, qs3, qf1, qf2, qf3, qt1, qt2, qt3, w0, wa1, wa2, wa3, e64, e74, z1, i_cl, e14, eq_false hx]
      exact ev_cv a1 ev_r
/-- the step's going, whole -/
theorem sp_X4_go (hB : E.1 ≤ t) (hS : xTS S t) (hW : xWS S w) (hd : w + 3 < t ∨ t + 23 ≤ w) (hn : nd ≤ 16) (hP : xP I t nd ng T) (hV : wP I w V) (h0 : T 0 0 = Int32.ofNat nd) (hl : T 0 6 = Int32.ofNat lg) (hlg : lg < 12) (hs : s < 2000) (hh : (1000 * V 2 lg != 0) = true) (hq : (20 * tcnt (tg3 T V nd lg s) 0 nd + tload (tg3 T V nd lg s) nd != 0) = true) : ∃ I', zCl E (d + 3) 101 [zr (some t), zr (some w), zi (Int32.ofNat s)] (zwi S I) (Sum.inl none, zwi S I') ∧ xP I' t nd ng (tgo T V nd lg s) ∧ zfI t (t + 23) I I' := by
  obtain ⟨I1, a1, b1, c1⟩ := X4_go_a (E := E) (d := d + 3) (w := w) (s := Int32.ofNat s) hB hS hn hP hl hlg
  have hV1 := hV.fr (J := I1) (fun a k h1 h2 => c1 a k (by omega))
  obtain ⟨I2, a2, b2, c2⟩ := X4_go_b (E := E) (d := d + 1) (w := w) (s := s) (V := V) hB hS hW hd hn b1 hV1 (by rw [tg1_0]; exact h0) (by rw [tg1_0]; exact hl) hlg hs
  have hV2 := hV1.fr (J := I2) (fun a k h1 h2 => c2 a k (by omega))
  obtain ⟨I3, u3, a3, b3, c3⟩ := lp_X4_go (E := E) (d := d + 2) (w := w) (T := tg2 (tg1 T lg (Int32.ofNat s))) (s := Int32.ofNat s) (cc := V 3 (s / 6)) (n := tlost (tg2 (tg1 T lg (Int32.ofNat s))) V nd lg s) hB hS hn (by simpa [tg2, zup, tg1_0] using h0) nd 0 I2 none (by omega) (by rw [tlose_0]; exact b2)
  have hV3 := hV2.fr (J := I3) (fun a k h1 h2 => c3 a k (by omega))
  obtain ⟨I4, a4, b4, c4⟩ := X4_go_c (E := E) (d := d) (w := w) (s := s) (V := V) (T := tg3 T V nd lg s) (cc := V 3 (s / 6)) (n := tlost (tg2 (tg1 T lg (Int32.ofNat s))) V nd lg s) (a5 := Int32.ofNat nd) (u := u3) hB hS hW hd hn b3 hV3 ((tlose_i (by omega) (by omega)).trans (by simpa [tg2, zup, tg1_0] using h0)) ((tlose_i (by omega) (by omega)).trans (by simpa [tg2, zup, tg1_0] using hl)) hlg hh hq
  refine ⟨I4, ?_, b4, ((c1.tr c2).tr c3).tr c4⟩
  refine zcl_in' zP_X4_go ?_; rw [zn_3_7]
  exact a1 _ (a2 _ (a3 _ a4))
end
