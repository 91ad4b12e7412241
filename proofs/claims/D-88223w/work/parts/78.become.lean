/-! ===== a team becomes another one (x) ===== -/
set_option maxRecDepth 100000
def zfc (J : Nat → Nat → Int32) (t1 t0 : Nat) : Nat → Nat → Int32 := fun x j => J (t1 + (x - t0)) j
theorem zfc_e {J : Nat → Nat → Int32} {t1 t0 c j : Nat} : zfc J t1 t0 (t0 + c) j = J (t1 + c) j := by
  unfold zfc
  rw [Nat.add_sub_cancel_left]
theorem zfc_e2 {J : Nat → Nat → Int32} {t1 t0 c k j : Nat} : zfc J t1 t0 (t0 + c + k) j = J (t1 + c + k) j := by
  unfold zfc
  rw [show t0 + c + k - t0 = c + k by omega, show t1 + (c + k) = t1 + c + k by omega]
section
variable {E : zE} {d t u nd ng : Nat} {S : zM} {I J : Nat → Nat → Int32} {T : zT}
theorem sp_X5_become {a b : Nat} (hK : mK S a = 6) (hK2 : mK S b = 6) (hab : b ≠ a) (hB : Nat.ble E.1 a = true) : zCl E d 113 [zr (some a), zr (some b)] (zwi S I) (Sum.inl none, zwi S (zup (zup (zup I a 0 (I b 0)) a 1 (I b 1)) a 2 (I b 2))) := by
  refine zcl_in' zP_X5_become ?_; rw [zn_2_2]
  refine zat_in zP_X5_become zk_X5_become_0 ?_; simp (disch := omega) only [b_X5_become_0, zc_X5_become_24, b_X5_become_24, zif, zdr, zkb, mK_wi, mN_wi, mJ_wi, mI_wi, sI_wi, beq_self_eq_true, Bool.true_or, Bool.or_true, Bool.or_false, Bool.and_self, Bool.and_true, Bool.true_and, ↓reduceIte, hK, hK2, hB, zup_k]
  exact ev_r
theorem lp_X4_become (hB : E.1 ≤ t) (hS : xTS S t) (hU : xTS S u) (hn : nd ≤ 16) (hd : t + 23 ≤ u ∨ u + 23 ≤ t) : ∀ c k : Nat, k + c = nd → ∀ I : Nat → Nat → Int32, I t 1 = Int32.ofNat nd → (∀ a k, u ≤ a → a < u + 23 → I a k = J a k) → ∀ r, zAt E (d + 1) 108 55 [some (zr (some t)), some (zr (some u)), some (zi (Int32.ofNat nd))] [] (zwi S (zfl I (t + 7 + k) (t + 7 + nd) 0 3 (zfc J u t))) r → zAt E (d + 1) 108 26 [some (zr (some t)), some (zr (some u)), some (zi (Int32.ofNat k))] [] (zwi S I) r := by
  obtain ⟨⟨q1, q2, q3, q4⟩, ⟨qi1, qi2, qi3⟩, ⟨qa1, qa2, qa3⟩, ⟨qs1, qs2, qs3⟩, ⟨qf1, qf2, qf3⟩, ⟨qt1, qt2, qt3⟩, q5⟩ := hS
  obtain ⟨⟨vq1, vq2, vq3, vq4⟩, ⟨vqi1, vqi2, vqi3⟩, ⟨vqa1, vqa2, vqa3⟩, ⟨vqs1, vqs2, vqs3⟩, ⟨vqf1, vqf2, vqf3⟩, ⟨vqt1, vqt2, vqt3⟩, vq5⟩ := hU
  intro c
  induction c with
  | zero =>
    intro k hk I e0 hJ r hr
    obtain rfl : k = nd := hk
    rw [zfl_0 (by omega)] at hr
    refine zat_in zP_X4_become zk_X4_become_26 ?_
    simp (disch := omega) only [b_X4_become_26, zif, zdr, zkb, mK_wi, mN_wi, mJ_wi, mI_wi, sI_wi, beq_self_eq_true, Bool.true_or, Bool.or_true, Bool.or_false, Bool.and_self, Bool.and_true, Bool.true_and, ↓reduceIte, q1, q2, q3, q4, qi1, qi2, qi3, qa1, qa2, qa3, qs1, qs2, qs3, qf1, qf2, qf3, qt1, qt2, qt3, vq1, vq2, vq3, vq4, vqi1, vqi2, vqi3, vqa1, vqa2, vqa3, vqs1, vqs2, vqs3, vqf1, vqf2, vqf3, vqt1, vqt2, vqt3, e0, i_le, Nat.le_refl]
    exact ev_bk hr
  | succ c ih =>
    intro k hk I e0 hJ r hr
    have hl : (nd ≤ k) = False := eq_false (by omega)
    have hz : zix (Int32.ofNat k) 16 = true := zix_of (by omega) (by omega)
    obtain ⟨q6, q7⟩ := q5 k (by omega)
    obtain ⟨q8, q9⟩ := vq5 k (by omega)
    have hb : Nat.ble E.1 (t + 7 + k) = true := ble_up2 hB
    have := ih (k + 1) (by omega) (zup (zup (zup I (t + 7 + k) 0 (I (u + 7 + k) 0)) (t + 7 + k) 1 (I (u + 7 + k) 1)) (t + 7 + k) 2 (I (u + 7 + k) 2)) (by rw [zup_k (by omega), zup_k (by omega), zup_k (by omega)]; exact e0) (fun a j h1 h2 => by
      rw [zup_k (by omega), zup_k (by omega), zup_k (by omega)]; exact hJ a j h1 h2) r (by
      rw [show t + 7 + (k + 1) = t + 7 + k + 1 from rfl, zfl_d (by omega) (by rw [zfc_e2, hJ _ _ (by omega) (by omega)]) (by rw [zfc_e2, hJ _ _ (by omega) (by omega)]) (by rw [zfc_e2, hJ _ _ (by omega) (by omega)])]
      exact hr)
    refine zat_in zP_X4_become zk_X4_become_26 ?_
    simp (disch := omega) only [b_X4_become_26, zif, zdr, zkb, mK_wi, mN_wi, mJ_wi, mI_wi, sI_wi, beq_self_eq_true, Bool.true_or, Bool.or_true, Bool.or_false, Bool.and_self, Bool.and_true, Bool.true_and, ↓reduceIte, q1, q2, q3, q4, qi1, qi2, qi3, qa1, qa2, qa3, qs1, qs2, qs3, qf1, qf2, qf3, qt1, qt2, qt3, vq1, vq2, vq3, vq4, vqi1, vqi2, vqi3, vqa1, vqa2, vqa3, vqs1, vqs2, vqs3, vqf1, vqf2, vqf3, vqt1, vqt2, vqt3, e0, i_le, i_cl, hl, hz, q6, q7, q8, q9, i_succ, Nat.reduceLeDiff]
    exact ev_cv (sp_X5_become q6 q8 (by omega) hb) (ev_bk this)
theorem sp_X4_become (hB : E.1 ≤ t) (hBu : E.1 ≤ u) (hS : xTS S t) (hU : xTS S u) (hn : nd ≤ 16) (hg : ng ≤ 4) (hd : t + 23 ≤ u ∨ u + 23 ≤ t) (hP : xP I u nd ng T) (h0 : T 0 0 = Int32.ofNat nd) : ∃ I', zCl E (d + 3) 108 [zr (some t), zr (some u)] (zwi S I) (Sum.inl none, zwi S I') ∧ xP I' t nd ng T ∧ zfI t (t + 23) I I' := by
  obtain ⟨I1, a1, b1, c1⟩ := sp_X4_enter (E := E) (d := d) (I := I) (a2 := T 0 1) (a3 := T 0 2) (a4 := T 0 3) (a5 := T 0 4) hB hS hn
  have hP1 : xP I1 u nd ng T := hP.fr hn (fun a k h1 h2 => c1 a k (by omega))
  have e0 : I1 t 1 = Int32.ofNat nd := b1 0 0 (Or.inl ⟨rfl, by omega⟩)
  have hU' := hU
  have hS' := hS
  obtain ⟨⟨q1, q2, q3, q4⟩, ⟨qi1, qi2, qi3⟩, ⟨qa1, qa2, qa3⟩, ⟨qs1, qs2, qs3⟩, ⟨qf1, qf2, qf3⟩, ⟨qt1, qt2, qt3⟩, q5⟩ := hS
  obtain ⟨⟨vq1, vq2, vq3, vq4⟩, ⟨vqi1, vqi2, vqi3⟩, ⟨vqa1, vqa2, vqa3⟩, ⟨vqs1, vqs2, vqs3⟩, ⟨vqf1, vqf2, vqf3⟩, ⟨vqt1, vqt2, vqt3⟩, vq5⟩ := hU
  have g0 : ((0 : Int32) ≤ 0) = True := eq_true (by decide)
  have g1 : ((0 : Int32) ≤ Int32.ofNat 13) = True := eq_true (by decide)
  have g2 : ((0 : Int32) ≤ 2000) = True := eq_true (by decide)
  have g3 : ((0 : Int32) ≤ 4) = True := eq_true (by decide)
  have k0 : Int32.toNatClampNeg 0 = 0 := by decide
  have k1 : Int32.toNatClampNeg (Int32.ofNat 13) = 13 := by decide
  have k2 : Int32.toNatClampNeg 2000 = 2000 := by decide
  have k3 : Int32.toNatClampNeg 4 = 4 := by decide
  refine ⟨?w, ?a, ?b, ?c⟩
  case a =>
    have hu := hP.un
    obtain ⟨⟨x0, x1, x2, x3, x4, x5, x6⟩, ⟨x7, x8, x9, x10, x11, x12, x13⟩, xr1, xr2, xr3, xr4, xr5, xr6, xr7, xr8⟩ := hu
    refine zcl_in' zP_X4_become ?_; rw [zn_2_3]
    refine zat_in zP_X4_become zk_X4_become_0 ?_
    simp (disch := omega) only [b_X4_become_0, zif, zdr, zkb, mK_wi, mN_wi, mJ_wi, mI_wi, sI_wi, beq_self_eq_true, Bool.true_or, Bool.or_true, Bool.or_false, Bool.and_self, Bool.and_true, Bool.true_and, ↓reduceIte, q1, q2, q3, q4, qi1, qi2, qi3, qa1, qa2, qa3, qs1, qs2, qs3, qf1, qf2, qf3, qt1, qt2, qt3, vq1, vq2, vq3, vq4, vqi1, vqi2, vqi3, vqa1, vqa2, vqa3, vqs1, vqs2, vqs3, vqf1, vqf2, vqf3, vqt1, vqt2, vqt3, x0, x1, x2, x3, x4, h0]
    refine ev_cv a1 ?_
    refine ev_tl zP_X4_become zk_X4_become_26 (lp_X4_become (J := I1) hB hS' hU' hn hd nd 0 (by omega) I1 e0 (fun _ _ _ _ => rfl) _ ?_)
    refine zat_in zP_X4_become zk_X4_become_55 ?_; simp (disch := omega) only [b_X4_become_55, zc_X4_become_79, b_X4_become_79, zc_X4_become_103, b_X4_become_103, zc_X4_become_129, b_X4_become_129, zc_X4_become_147, b_X4_become_147, zc_X4_become_171, b_X4_become_171, zc_X4_become_199, b_X4_become_199, zif, zdr, zkb, mK_wi, mN_wi, mJ_wi, mI_wi, sI_wi, beq_self_eq_true, Bool.true_or, Bool.or_true, Bool.or_false, Bool.and_self, Bool.and_true, Bool.true_and, ↓reduceIte, ble_up0, i_cl, i_succ, zix_of, zfl_k, zup_k, zup_q, q1, q2, q3, q4, qi1, qi2, qi3, qa1, qa2, qa3, qs1, qs2, qs3, qf1, qf2, qf3, qt1, qt2, qt3, vq1, vq2, vq3, vq4, vqi1, vqi2, vqi3, vqa1, vqa2, vqa3, vqs1, vqs2, vqs3, vqf1, vqf2, vqf3, vqt1, vqt2, vqt3, g0, g1, g2, g3, k0, k1, k2, k3, zcI_wi, Nat.zero_add, Nat.sub_zero, Nat.le_refl, decide_true, zup_k, zfl_k, Nat.add_zero]
    exact ev_r
  case b =>
    obtain ⟨⟨x0, x1, x2, x3, x4, x5, x6⟩, ⟨x7, x8, x9, x10, x11, x12, x13⟩, xr1, xr2, xr3, xr4, xr5, xr6, xr7, xr8⟩ := hP1.un
    obtain ⟨⟨y0, y1, y2, y3, y4, y5, y6⟩, -⟩ := b1.un
    refine xP.mk ⟨?_, ?_, ?_, ?_, ?_, ?_, ?_⟩ ⟨?_, ?_, ?_, ?_, ?_, ?_, ?_⟩ (fun j hj => ?_) (fun j hj => ?_) (fun j hj => ?_) (fun j hj => ?_) (fun j hj => ?_) (fun j hj => ?_) (fun j hj => ?_) (fun j hj => ?_)
    all_goals (simp (disch := omega) only [zfl_k, zfl_q, zup_k, zup_q, zfc_e2, x0, x1, x2, x3, x4, x5, x6, x7, x8, x9, x10, x11, x12, x13, xr1, xr2, xr3, xr4, xr5, xr6, xr7, xr8])
    all_goals (first | exact e0.trans h0.symm | exact y1 | exact y2 | exact y3 | exact y4)
  case c =>
    repeat' (first | exact c1 | refine zfI.put ?_ (by omega) (by omega) | refine zfI.fl ?_ (by omega) (by omega))
end
