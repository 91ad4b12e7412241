/-! ===== dogs are left (x); both loops of the model ===== -/
set_option maxRecDepth 100000
theorem jmax_pos {x : Int32} : (jmax 0 x ≤ 0) = (jmax 0 x = 0) := by
  refine propext ⟨fun h => ?_, fun h => by rw [h]; decide⟩
  unfold jmax at h ⊢
  split at h
  · rename_i h2
    exact absurd h (Int32.not_le.mpr h2)
  · rw [if_neg (by assumption)]
section
variable {E : zE} {d t w nd ng : Nat} {S : zM} {I : Nat → Nat → Int32} {T V : zT}
theorem sp_X5_leave {p : Int32} (hK : mK S t = 6) (hB : Nat.ble E.1 t = true) : zCl E d 111 [zr (some t), zi p] (zwi S I) (Sum.inl none, zwi S (zup (zup I t 1 2) t 2 p)) := by
  refine zcl_in' zP_X5_leave ?_; rw [zn_2_2]
  refine zat_in zP_X5_leave zk_X5_leave_0 ?_; simp (disch := omega) only [b_X5_leave_0, zif, zdr, zkb, mK_wi, mN_wi, mJ_wi, mI_wi, sI_wi, beq_self_eq_true, Bool.true_or, Bool.or_true, Bool.or_false, Bool.and_self, Bool.and_true, Bool.true_and, ↓reduceIte, hK, hB]
  exact ev_r
theorem lp_X4_comes {s p : Int32} (hB : E.1 ≤ t) (hS : xTS S t) (hn : nd ≤ 16) (h0 : T 0 0 = Int32.ofNat nd) (h6 : T 0 6 = p) : ∀ (c k : Nat) (I : Nat → Nat → Int32), k + c = nd → xP I t nd ng (tlv p k T) → ∃ I' : Nat → Nat → Int32, (∀ r, zAt E (d + 1) 102 67 [some (zr (some t)), some (zr (some w)), some (zi s), some (zi (Int32.ofNat nd))] [] (zwi S I') r → zAt E (d + 1) 102 27 [some (zr (some t)), some (zr (some w)), some (zi s), some (zi (Int32.ofNat k))] [] (zwi S I) r) ∧ xP I' t nd ng (tlv p nd T) ∧ zfI t (t + 23) I I' := by
  obtain ⟨⟨q1, q2, q3, q4⟩, ⟨qi1, qi2, qi3⟩, ⟨qa1, qa2, qa3⟩, ⟨qs1, qs2, qs3⟩, ⟨qf1, qf2, qf3⟩, ⟨qt1, qt2, qt3⟩, q5⟩ := hS
  intro c
  induction c with
  | zero =>
    intro k I hk hP
    obtain rfl : k = nd := hk
    have e0 : I t 1 = Int32.ofNat k := (hP 0 0 (Or.inl ⟨rfl, by omega⟩)).trans ((tlv_i (by omega) (by omega)).trans h0)
    refine ⟨I, fun r hr => ?_, hP, zfI.rf⟩
    refine zat_in zP_X4_comes zk_X4_comes_27 ?_; simp (disch := omega) only [b_X4_comes_27, zc_X4_comes_61, b_X4_comes_61, zif, zdr, zkb, mK_wi, mN_wi, mJ_wi, mI_wi, sI_wi, beq_self_eq_true, Bool.true_or, Bool.or_true, Bool.or_false, Bool.and_self, Bool.and_true, Bool.true_and, ↓reduceIte, q1, q2, q3, q4, qi1, qi2, qi3, qa1, qa2, qa3, qs1, qs2, qs3, qf1, qf2, qf3, qt1, qt2, qt3, e0, i_le, Nat.le_refl]
    exact ev_bk hr
  | succ c ih =>
    intro k I hk hP
    have e0 : I t 1 = Int32.ofNat nd := (hP 0 0 (Or.inl ⟨rfl, by omega⟩)).trans ((tlv_i (by omega) (by omega)).trans h0)
    have e6 : I t 7 = p := (hP 0 6 (Or.inl ⟨rfl, by omega⟩)).trans ((tlv_i (by omega) (by omega)).trans h6)
    have hl : (nd ≤ k) = False := eq_false (by omega)
    obtain ⟨q6, q7⟩ := q5 k (by omega)
    have hv2 : zvl nd ng 2 k := Or.inr (Or.inr (Or.inl ⟨rfl, by omega⟩))
    have hv3 : zvl nd ng 3 k := Or.inr (Or.inr (Or.inr (Or.inl ⟨rfl, by omega⟩)))
    have e1 : I (t + 7 + k) 1 = T 2 k := (hP 2 k hv2).trans tlv_2
    have hz : zix (Int32.ofNat k) 16 = true := zix_of (by omega) (by omega)
    have hb : Nat.ble E.1 (t + 7 + k) = true := ble_up2 hB
    by_cases h : T 2 k = 1
    · have h1 := (hP.put hv2 hn 2).put hv3 hn p
      rw [← tlv_s h] at h1
      obtain ⟨I', a1, a2, a3⟩ := ih (k + 1) _ (by omega) h1
      refine ⟨I', fun r hr => ?_, a2, zfI.tr (zfI.put (zfI.put zfI.rf (by simp only [xA]; omega) (by simp only [xA]; omega)) (by simp only [xA]; omega) (by simp only [xA]; omega)) a3⟩
      refine zat_in zP_X4_comes zk_X4_comes_27 ?_; simp (disch := omega) only [b_X4_comes_27, zc_X4_comes_61, b_X4_comes_61, zif, zdr, zkb, mK_wi, mN_wi, mJ_wi, mI_wi, sI_wi, beq_self_eq_true, Bool.true_or, Bool.or_true, Bool.or_false, Bool.and_self, Bool.and_true, Bool.true_and, ↓reduceIte, q1, q2, q3, q4, qi1, qi2, qi3, qa1, qa2, qa3, qs1, qs2, qs3, qf1, qf2, qf3, qt1, qt2, qt3, q6, q7, e0, e1, e6, i_le, i_cl, hl, hz, h, i_succ, Nat.reduceLeDiff]
      refine ev_cv (sp_X5_leave q6 hb) ?_
      exact ev_bk (a1 r hr)
    · rw [← tlv_n h] at hP
      obtain ⟨I', a1, a2, a3⟩ := ih (k + 1) _ (by omega) hP
      refine ⟨I', fun r hr => ?_, a2, a3⟩
      refine zat_in zP_X4_comes zk_X4_comes_27 ?_; simp (disch := omega) only [b_X4_comes_27, zc_X4_comes_61, b_X4_comes_61, zif, zdr, zkb, mK_wi, mN_wi, mJ_wi, mI_wi, sI_wi, beq_self_eq_true, Bool.true_or, Bool.or_true, Bool.or_false, Bool.and_self, Bool.and_true, Bool.true_and, ↓reduceIte, q1, q2, q3, q4, qi1, qi2, qi3, qa1, qa2, qa3, qs1, qs2, qs3, qf1, qf2, qf3, qt1, qt2, qt3, q6, q7, e0, e1, i_le, i_cl, hl, hz, h, Nat.reduceLeDiff]
      refine ev_bk ?_
      refine zat_in zP_X4_comes zk_X4_comes_61 ?_; simp (disch := omega) only [b_X4_comes_61, zif, zdr, zkb, mK_wi, mN_wi, mJ_wi, mI_wi, sI_wi, beq_self_eq_true, Bool.true_or, Bool.or_true, Bool.or_false, Bool.and_self, Bool.and_true, Bool.true_and, ↓reduceIte, i_succ]
      exact ev_bk (a1 r hr)
theorem lp_X6_goes {n cc s : Int32} (hB : E.1 ≤ t) (hS : mTS S t) (hW : mK S w = 7) (hn : nd ≤ 16) (h0 : T 0 0 = Int32.ofNat nd) : ∀ (c k : Nat) (I : Nat → Nat → Int32), k + c = nd → mP I t nd ng (tlose n k T) → ∃ I' : Nat → Nat → Int32, (∀ r, zAt E (d + 1) 159 160 [some (zr (some w)), some (zr (some t)), some (zi s), some (zi cc), some (zi n), some (zi (Int32.ofNat nd)), none, none] [] (zwi S I') r → zAt E (d + 1) 159 90 [some (zr (some w)), some (zr (some t)), some (zi s), some (zi cc), some (zi n), some (zi (Int32.ofNat k)), none, none] [] (zwi S I) r) ∧ mP I' t nd ng (tlose n nd T) ∧ (∀ a k, ¬ (a = t + 1 ∨ a = t + 2) → I' a k = I a k) := by
  obtain ⟨p0, ⟨ps1, ps2, ps3⟩, ⟨pt1, pt2, pt3⟩, ⟨pl1, pl2, pl3⟩, ⟨pc1, pc2, pc3⟩, ⟨pw1, pw2, pw3⟩, ⟨pn1, pn2, pn3⟩, ⟨py1, py2, py3⟩, ⟨pf1, pf2, pf3⟩, ⟨pg1, pg2, pg3⟩⟩ := hS
  intro c
  induction c with
  | zero =>
    intro k I hk hP
    obtain rfl : k = nd := hk
    have e0 : I t 0 = Int32.ofNat k := (hP 0 0 (Or.inl ⟨rfl, by omega⟩) (by omega)).trans ((tlose_i (by omega) (by omega)).trans h0)
    refine ⟨I, fun r hr => ?_, hP, fun _ _ _ => rfl⟩
    refine zat_in zP_X6_goes zk_X6_goes_90 ?_; simp (disch := omega) only [b_X6_goes_90, zif, zdr, zkb, mK_wi, mN_wi, mJ_wi, mI_wi, sI_wi, beq_self_eq_true, Bool.true_or, Bool.or_true, Bool.or_false, Bool.and_self, Bool.and_true, Bool.true_and, ↓reduceIte, p0, ps1, ps2, ps3, pt1, pt2, pt3, pl1, pl2, pl3, pc1, pc2, pc3, pw1, pw2, pw3, pn1, pn2, pn3, py1, py2, py3, pf1, pf2, pf3, pg1, pg2, pg3, e0, i_le, Nat.le_refl]
    exact ev_bk hr
  | succ c ih =>
    intro k I hk hP
    have e0 : I t 0 = Int32.ofNat nd := (hP 0 0 (Or.inl ⟨rfl, by omega⟩) (by omega)).trans ((tlose_i (by omega) (by omega)).trans h0)
    have hl : (nd ≤ k) = False := eq_false (by omega)
    have hv1 : zvl nd ng 1 k := Or.inr (Or.inl ⟨rfl, by omega⟩)
    have hv2 : zvl nd ng 2 k := Or.inr (Or.inr (Or.inl ⟨rfl, by omega⟩))
    have e1 : I (t + 2) k = T 2 k := (hP 2 k hv2 (by omega)).trans tlose_2
    have e2 : I (t + 1) k = T 1 k := (hP 1 k hv1 (by omega)).trans tlose_1
    have hz : zix (Int32.ofNat k) 16 = true := zix_of (by omega) (by omega)
    have hb1 : Nat.ble E.1 (t + 1) = true := ble_up hB
    have hb2 : Nat.ble E.1 (t + 2) = true := ble_up hB
    by_cases h : T 2 k = 0
    · have e5 : (zup I (t + 1) k (jmax 0 (T 1 k - n)) (t + 1) k ≤ 0) = (jmax 0 (T 1 k - n) = 0) := by rw [zup_q]; exact jmax_pos
      by_cases h2 : jmax 0 (T 1 k - n) = 0
      · have h1 := (hP.put hv1 (by omega) (jmax 0 (T 1 k - n))).put hv2 (by omega) 1
        rw [← tlose_t h h2] at h1
        obtain ⟨I', a1, a2, a3⟩ := ih (k + 1) _ (by omega) h1
        refine ⟨I', fun r hr => ?_, a2, fun a j ha => (a3 a j ha).trans ((zup_k (fun q => ha (Or.inr q.1))).trans (zup_k (fun q => ha (Or.inl q.1))))⟩
        refine zat_in zP_X6_goes zk_X6_goes_90 ?_; simp (disch := omega) only [b_X6_goes_90, zif, zdr, zkb, mK_wi, mN_wi, mJ_wi, mI_wi, sI_wi, beq_self_eq_true, Bool.true_or, Bool.or_true, Bool.or_false, Bool.and_self, Bool.and_true, Bool.true_and, ↓reduceIte, p0, ps1, ps2, ps3, pt1, pt2, pt3, pl1, pl2, pl3, pc1, pc2, pc3, pw1, pw2, pw3, pn1, pn2, pn3, py1, py2, py3, pf1, pf2, pf3, pg1, pg2, pg3, e0, e1, i_le, i_cl, hl, hz, h]
        refine ev_bk ?_
        refine zat_in zP_X6_goes zk_X6_goes_112 ?_; simp (disch := omega) only [b_X6_goes_112, zif, zdr, zkb, mK_wi, mN_wi, mJ_wi, mI_wi, sI_wi, beq_self_eq_true, Bool.true_or, Bool.or_true, Bool.or_false, Bool.and_self, Bool.and_true, Bool.true_and, ↓reduceIte, p0, ps1, ps2, ps3, pt1, pt2, pt3, pl1, pl2, pl3, pc1, pc2, pc3, pw1, pw2, pw3, pn1, pn2, pn3, py1, py2, py3, pf1, pf2, pf3, pg1, pg2, pg3, e2, i_cl, hz, hb1]
        refine ev_ci (sp_max _ _) ?_
        simp (disch := omega) only [zif, zdr, zkb, mK_wi, mN_wi, mJ_wi, mI_wi, sI_wi, beq_self_eq_true, Bool.true_or, Bool.or_true, Bool.or_false, Bool.and_self, Bool.and_true, Bool.true_and, ↓reduceIte, p0, ps1, ps2, ps3, pt1, pt2, pt3, pl1, pl2, pl3, pc1, pc2, pc3, pw1, pw2, pw3, pn1, pn2, pn3, py1, py2, py3, pf1, pf2, pf3, pg1, pg2, pg3, hz, hb1, i_cl, e5, eq_true h2]
        refine ev_bk ?_
        refine zat_in zP_X6_goes zk_X6_goes_146 ?_; simp (disch := omega) only [b_X6_goes_146, zc_X6_goes_154, b_X6_goes_154, zif, zdr, zkb, mK_wi, mN_wi, mJ_wi, mI_wi, sI_wi, beq_self_eq_true, Bool.true_or, Bool.or_true, Bool.or_false, Bool.and_self, Bool.and_true, Bool.true_and, ↓reduceIte, p0, ps1, ps2, ps3, pt1, pt2, pt3, pl1, pl2, pl3, pc1, pc2, pc3, pw1, pw2, pw3, pn1, pn2, pn3, py1, py2, py3, pf1, pf2, pf3, pg1, pg2, pg3, hz, hb2, i_cl, i_succ]
        exact ev_bk (a1 r hr)
      · have h1 := hP.put hv1 (by omega) (jmax 0 (T 1 k - n))
        rw [← tlose_s h h2] at h1
        obtain ⟨I', a1, a2, a3⟩ := ih (k + 1) _ (by omega) h1
        refine ⟨I', fun r hr => ?_, a2, fun a j ha => (a3 a j ha).trans (zup_k (fun q => ha (Or.inl q.1)))⟩
        refine zat_in zP_X6_goes zk_X6_goes_90 ?_; simp (disch := omega) only [b_X6_goes_90, zif, zdr, zkb, mK_wi, mN_wi, mJ_wi, mI_wi, sI_wi, beq_self_eq_true, Bool.true_or, Bool.or_true, Bool.or_false, Bool.and_self, Bool.and_true, Bool.true_and, ↓reduceIte, p0, ps1, ps2, ps3, pt1, pt2, pt3, pl1, pl2, pl3, pc1, pc2, pc3, pw1, pw2, pw3, pn1, pn2, pn3, py1, py2, py3, pf1, pf2, pf3, pg1, pg2, pg3, e0, e1, i_le, i_cl, hl, hz, h]
        refine ev_bk ?_
        refine zat_in zP_X6_goes zk_X6_goes_112 ?_; simp (disch := omega) only [b_X6_goes_112, zif, zdr, zkb, mK_wi, mN_wi, mJ_wi, mI_wi, sI_wi, beq_self_eq_true, Bool.true_or, Bool.or_true, Bool.or_false, Bool.and_self, Bool.and_true, Bool.true_and, ↓reduceIte, p0, ps1, ps2, ps3, pt1, pt2, pt3, pl1, pl2, pl3, pc1, pc2, pc3, pw1, pw2, pw3, pn1, pn2, pn3, py1, py2, py3, pf1, pf2, pf3, pg1, pg2, pg3, e2, i_cl, hz, hb1]
        refine ev_ci (sp_max _ _) ?_
        simp (disch := omega) only [zif, zdr, zkb, mK_wi, mN_wi, mJ_wi, mI_wi, sI_wi, beq_self_eq_true, Bool.true_or, Bool.or_true, Bool.or_false, Bool.and_self, Bool.and_true, Bool.true_and, ↓reduceIte, p0, ps1, ps2, ps3, pt1, pt2, pt3, pl1, pl2, pl3, pc1, pc2, pc3, pw1, pw2, pw3, pn1, pn2, pn3, py1, py2, py3, pf1, pf2, pf3, pg1, pg2, pg3, hz, hb1, i_cl, e5, eq_false h2]
        refine ev_bk ?_
        refine zat_in zP_X6_goes zk_X6_goes_154 ?_; simp (disch := omega) only [b_X6_goes_154, zif, zdr, zkb, mK_wi, mN_wi, mJ_wi, mI_wi, sI_wi, beq_self_eq_true, Bool.true_or, Bool.or_true, Bool.or_false, Bool.and_self, Bool.and_true, Bool.true_and, ↓reduceIte, i_succ]
        exact ev_bk (a1 r hr)
    · rw [← tlose_n h] at hP
      obtain ⟨I', a1, a2, a3⟩ := ih (k + 1) _ (by omega) hP
      refine ⟨I', fun r hr => ?_, a2, a3⟩
      refine zat_in zP_X6_goes zk_X6_goes_90 ?_; simp (disch := omega) only [b_X6_goes_90, zif, zdr, zkb, mK_wi, mN_wi, mJ_wi, mI_wi, sI_wi, beq_self_eq_true, Bool.true_or, Bool.or_true, Bool.or_false, Bool.and_self, Bool.and_true, Bool.true_and, ↓reduceIte, p0, ps1, ps2, ps3, pt1, pt2, pt3, pl1, pl2, pl3, pc1, pc2, pc3, pw1, pw2, pw3, pn1, pn2, pn3, py1, py2, py3, pf1, pf2, pf3, pg1, pg2, pg3, e0, e1, i_le, i_cl, hl, hz, h]
      refine ev_bk ?_
      refine zat_in zP_X6_goes zk_X6_goes_154 ?_; simp (disch := omega) only [b_X6_goes_154, zif, zdr, zkb, mK_wi, mN_wi, mJ_wi, mI_wi, sI_wi, beq_self_eq_true, Bool.true_or, Bool.or_true, Bool.or_false, Bool.and_self, Bool.and_true, Bool.true_and, ↓reduceIte, i_succ]
      exact ev_bk (a1 r hr)
theorem lp_X6_comes {n cc s p a5 a6 : Int32} (hB : E.1 ≤ t) (hS : mTS S t) (hn : nd ≤ 16) (h0 : T 0 0 = Int32.ofNat nd) (h6 : T 0 6 = p) : ∀ (c k : Nat) (I : Nat → Nat → Int32), k + c = nd → mP I t nd ng (tlv p k T) → ∃ I' : Nat → Nat → Int32, (∀ r, zAt E (d + 1) 159 344 [some (zr (some w)), some (zr (some t)), some (zi s), some (zi cc), some (zi n), some (zi a5), some (zi a6), some (zi (Int32.ofNat nd))] [] (zwi S I') r → zAt E (d + 1) 159 296 [some (zr (some w)), some (zr (some t)), some (zi s), some (zi cc), some (zi n), some (zi a5), some (zi a6), some (zi (Int32.ofNat k))] [] (zwi S I) r) ∧ mP I' t nd ng (tlv p nd T) ∧ (∀ a k, ¬ (a = t + 2 ∨ a = t + 3) → I' a k = I a k) := by
  obtain ⟨p0, ⟨ps1, ps2, ps3⟩, ⟨pt1, pt2, pt3⟩, ⟨pl1, pl2, pl3⟩, ⟨pc1, pc2, pc3⟩, ⟨pw1, pw2, pw3⟩, ⟨pn1, pn2, pn3⟩, ⟨py1, py2, py3⟩, ⟨pf1, pf2, pf3⟩, ⟨pg1, pg2, pg3⟩⟩ := hS
  intro c
  induction c with
  | zero =>
    intro k I hk hP
    obtain rfl : k = nd := hk
    have e0 : I t 0 = Int32.ofNat k := (hP 0 0 (Or.inl ⟨rfl, by omega⟩) (by omega)).trans ((tlv_i (by omega) (by omega)).trans h0)
    refine ⟨I, fun r hr => ?_, hP, fun _ _ _ => rfl⟩
    refine zat_in zP_X6_goes zk_X6_goes_296 ?_; simp (disch := omega) only [b_X6_goes_296, zif, zdr, zkb, mK_wi, mN_wi, mJ_wi, mI_wi, sI_wi, beq_self_eq_true, Bool.true_or, Bool.or_true, Bool.or_false, Bool.and_self, Bool.and_true, Bool.true_and, ↓reduceIte, p0, ps1, ps2, ps3, pt1, pt2, pt3, pl1, pl2, pl3, pc1, pc2, pc3, pw1, pw2, pw3, pn1, pn2, pn3, py1, py2, py3, pf1, pf2, pf3, pg1, pg2, pg3, e0, i_le, Nat.le_refl]
    exact ev_bk hr
  | succ c ih =>
    intro k I hk hP
    have e0 : I t 0 = Int32.ofNat nd := (hP 0 0 (Or.inl ⟨rfl, by omega⟩) (by omega)).trans ((tlv_i (by omega) (by omega)).trans h0)
    have e6 : I t 6 = p := (hP 0 6 (Or.inl ⟨rfl, by omega⟩) (by omega)).trans ((tlv_i (by omega) (by omega)).trans h6)
    have hl : (nd ≤ k) = False := eq_false (by omega)
    have hv2 : zvl nd ng 2 k := Or.inr (Or.inr (Or.inl ⟨rfl, by omega⟩))
    have hv3 : zvl nd ng 3 k := Or.inr (Or.inr (Or.inr (Or.inl ⟨rfl, by omega⟩)))
    have e1 : I (t + 2) k = T 2 k := (hP 2 k hv2 (by omega)).trans tlv_2
    have hz : zix (Int32.ofNat k) 16 = true := zix_of (by omega) (by omega)
    have hb2 : Nat.ble E.1 (t + 2) = true := ble_up hB
    have hb3 : Nat.ble E.1 (t + 3) = true := ble_up hB
    by_cases h : T 2 k = 1
    · have h1 := (hP.put hv2 (by omega) 2).put hv3 (by omega) p
      rw [← tlv_s h] at h1
      obtain ⟨I', a1, a2, a3⟩ := ih (k + 1) _ (by omega) h1
      have e7 : zup I (t + 2) k 2 t 6 = p := by rw [zup_k (by omega)]; exact e6
      refine ⟨I', fun r hr => ?_, a2, fun a j ha => (a3 a j ha).trans ((zup_k (fun q => ha (Or.inr q.1))).trans (zup_k (fun q => ha (Or.inl q.1))))⟩
      refine zat_in zP_X6_goes zk_X6_goes_296 ?_; simp (disch := omega) only [b_X6_goes_296, zif, zdr, zkb, mK_wi, mN_wi, mJ_wi, mI_wi, sI_wi, beq_self_eq_true, Bool.true_or, Bool.or_true, Bool.or_false, Bool.and_self, Bool.and_true, Bool.true_and, ↓reduceIte, p0, ps1, ps2, ps3, pt1, pt2, pt3, pl1, pl2, pl3, pc1, pc2, pc3, pw1, pw2, pw3, pn1, pn2, pn3, py1, py2, py3, pf1, pf2, pf3, pg1, pg2, pg3, e0, e1, i_le, i_cl, hl, hz, h]
      refine ev_bk ?_
      refine zat_in zP_X6_goes zk_X6_goes_319 ?_; simp (disch := omega) only [b_X6_goes_319, zc_X6_goes_338, b_X6_goes_338, zif, zdr, zkb, mK_wi, mN_wi, mJ_wi, mI_wi, sI_wi, beq_self_eq_true, Bool.true_or, Bool.or_true, Bool.or_false, Bool.and_self, Bool.and_true, Bool.true_and, ↓reduceIte, p0, ps1, ps2, ps3, pt1, pt2, pt3, pl1, pl2, pl3, pc1, pc2, pc3, pw1, pw2, pw3, pn1, pn2, pn3, py1, py2, py3, pf1, pf2, pf3, pg1, pg2, pg3, hz, hb2, hb3, i_cl, e7, i_succ]
      exact ev_bk (a1 r hr)
    · rw [← tlv_n h] at hP
      obtain ⟨I', a1, a2, a3⟩ := ih (k + 1) _ (by omega) hP
      refine ⟨I', fun r hr => ?_, a2, a3⟩
      refine zat_in zP_X6_goes zk_X6_goes_296 ?_; simp (disch := omega) only [b_X6_goes_296, zif, zdr, zkb, mK_wi, mN_wi, mJ_wi, mI_wi, sI_wi, beq_self_eq_true, Bool.true_or, Bool.or_true, Bool.or_false, Bool.and_self, Bool.and_true, Bool.true_and, ↓reduceIte, p0, ps1, ps2, ps3, pt1, pt2, pt3, pl1, pl2, pl3, pc1, pc2, pc3, pw1, pw2, pw3, pn1, pn2, pn3, py1, py2, py3, pf1, pf2, pf3, pg1, pg2, pg3, e0, e1, i_le, i_cl, hl, hz, h]
      refine ev_bk ?_
      refine zat_in zP_X6_goes zk_X6_goes_338 ?_; simp (disch := omega) only [b_X6_goes_338, zif, zdr, zkb, mK_wi, mN_wi, mJ_wi, mI_wi, sI_wi, beq_self_eq_true, Bool.true_or, Bool.or_true, Bool.or_false, Bool.and_self, Bool.and_true, Bool.true_and, ↓reduceIte, i_succ]
      exact ev_bk (a1 r hr)
end
