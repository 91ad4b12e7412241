/-! ===== dogs lose strength, dogs are left ===== -/
set_option maxRecDepth 100000
def tlose (n : Int32) (k : Nat) (T : zT) : zT := fun i j => if i = 1 ∧ j < k ∧ T 2 j = 0 then jmax 0 (T 1 j - n) else if i = 2 ∧ j < k ∧ T 2 j = 0 ∧ jmax 0 (T 1 j - n) = 0 then 1 else T i j
def tlv (p : Int32) (k : Nat) (T : zT) : zT := fun i j => if i = 2 ∧ j < k ∧ T 2 j = 1 then 2 else if i = 3 ∧ j < k ∧ T 2 j = 1 then p else T i j
theorem tlose_0 {n : Int32} {T : zT} : tlose n 0 T = T := by
  funext i j
  simp [tlose]
theorem tlv_0 {p : Int32} {T : zT} : tlv p 0 T = T := by
  funext i j
  simp [tlv]
theorem tlose_1 {n : Int32} {k : Nat} {T : zT} : tlose n k T 1 k = T 1 k := by simp [tlose]
theorem tlose_2 {n : Int32} {k : Nat} {T : zT} : tlose n k T 2 k = T 2 k := by simp [tlose]
theorem tlv_2 {p : Int32} {k : Nat} {T : zT} : tlv p k T 2 k = T 2 k := by simp [tlv]
theorem tlose_i {n : Int32} {k i j : Nat} {T : zT} (h1 : i ≠ 1) (h2 : i ≠ 2) : tlose n k T i j = T i j := by simp [tlose, h1, h2]
theorem tlv_i {p : Int32} {k i j : Nat} {T : zT} (h1 : i ≠ 2) (h2 : i ≠ 3) : tlv p k T i j = T i j := by simp [tlv, h1, h2]
theorem zlts {j k : Nat} (h : j ≠ k) : (j < k + 1) = (j < k) := propext (by omega)
theorem tlose_n {n : Int32} {k : Nat} {T : zT} (h : ¬ T 2 k = 0) : tlose n (k + 1) T = tlose n k T := by
  funext i j
  by_cases e : j = k
  · subst e
    simp [tlose, h]
  · simp only [tlose, zlts e]
theorem tlose_s {n : Int32} {k : Nat} {T : zT} (h : T 2 k = 0) (h2 : ¬ jmax 0 (T 1 k - n) = 0) : tlose n (k + 1) T = zup (tlose n k T) 1 k (jmax 0 (T 1 k - n)) := by
  funext i j
  by_cases e : j = k
  · subst e
    by_cases h1 : i = 1
    · subst h1
      simp [tlose, zup, h]
    · simp [tlose, zup, h, h1, h2]
  · simp [tlose, zup, zlts e, e]
theorem tlose_t {n : Int32} {k : Nat} {T : zT} (h : T 2 k = 0) (h2 : jmax 0 (T 1 k - n) = 0) : tlose n (k + 1) T = zup (zup (tlose n k T) 1 k (jmax 0 (T 1 k - n))) 2 k 1 := by
  funext i j
  by_cases e : j = k
  · subst e
    by_cases h1 : i = 1
    · subst h1
      simp [tlose, zup, h]
    · by_cases h3 : i = 2
      · subst h3
        simp [tlose, zup, h, h2]
      · simp [tlose, zup, h1, h3]
  · simp [tlose, zup, zlts e, e]
theorem tlv_n {p : Int32} {k : Nat} {T : zT} (h : ¬ T 2 k = 1) : tlv p (k + 1) T = tlv p k T := by
  funext i j
  by_cases e : j = k
  · subst e
    simp [tlv, h]
  · simp only [tlv, zlts e]
theorem tlv_s {p : Int32} {k : Nat} {T : zT} (h : T 2 k = 1) : tlv p (k + 1) T = zup (zup (tlv p k T) 2 k 2) 3 k p := by
  funext i j
  by_cases e : j = k
  · subst e
    by_cases h1 : i = 2
    · subst h1
      simp [tlv, zup, h]
    · by_cases h3 : i = 3
      · subst h3
        simp [tlv, zup, h]
      · simp [tlv, zup, h1, h3]
  · simp [tlv, zup, zlts e, e]
section
variable {E : zE} {d t w nd ng : Nat} {S : zM} {T V : zT}
theorem lp_X4_go {n cc : Int32} {s : Int32} (hB : E.1 ≤ t) (hS : xTS S t) (hn : nd ≤ 16) (h0 : T 0 0 = Int32.ofNat nd) : ∀ (c k : Nat) (I : Nat → Nat → Int32) (u : Option zV), k + c = nd → xP I t nd ng (tlose n k T) → ∃ (I' : Nat → Nat → Int32) (u' : Option zV), (∀ r, zAt E (d + 1) 101 166 [some (zr (some t)), some (zr (some w)), some (zi s), some (zi cc), some (zi n), some (zi (Int32.ofNat nd)), u'] [] (zwi S I') r → zAt E (d + 1) 101 100 [some (zr (some t)), some (zr (some w)), some (zi s), some (zi cc), some (zi n), some (zi (Int32.ofNat k)), u] [] (zwi S I) r) ∧ xP I' t nd ng (tlose n nd T) ∧ zfI t (t + 23) I I' := by
  obtain ⟨⟨q1, q2, q3, q4⟩, ⟨qi1, qi2, qi3⟩, ⟨qa1, qa2, qa3⟩, ⟨qs1, qs2, qs3⟩, ⟨qf1, qf2, qf3⟩, ⟨qt1, qt2, qt3⟩, q5⟩ := hS
  intro c
  induction c with
  | zero =>
    intro k I u hk hP
    obtain rfl : k = nd := hk
    have e0 : I t 1 = Int32.ofNat k := (hP 0 0 (Or.inl ⟨rfl, by omega⟩)).trans ((tlose_i (by omega) (by omega)).trans h0)
    refine ⟨I, u, fun r hr => ?_, hP, zfI.rf⟩
    refine zat_in zP_X4_go zk_X4_go_100 ?_; simp (disch := omega) only [b_X4_go_100, zif, zdr, zkb, mK_wi, mN_wi, mJ_wi, mI_wi, sI_wi, beq_self_eq_true, Bool.true_or, Bool.or_true, Bool.or_false, Bool.and_self, Bool.and_true, Bool.true_and, ↓reduceIte, q1, q2, q3, q4, qi1, qi2, qi3, qa1, qa2, qa3, qs1, qs2, qs3, qf1, qf2, qf3, qt1, qt2, qt3, e0, i_le, Nat.le_refl]
    exact ev_bk hr
  | succ c ih =>
    intro k I u hk hP
    have e0 : I t 1 = Int32.ofNat nd := (hP 0 0 (Or.inl ⟨rfl, by omega⟩)).trans ((tlose_i (by omega) (by omega)).trans h0)
    have hl : (nd ≤ k) = False := eq_false (by omega)
    obtain ⟨q6, q7⟩ := q5 k (by omega)
    have hv1 : zvl nd ng 1 k := Or.inr (Or.inl ⟨rfl, by omega⟩)
    have hv2 : zvl nd ng 2 k := Or.inr (Or.inr (Or.inl ⟨rfl, by omega⟩))
    have e1 : I (t + 7 + k) 1 = T 2 k := (hP 2 k hv2).trans tlose_2
    have e2 : I (t + 7 + k) 0 = T 1 k := (hP 1 k hv1).trans tlose_1
    have hz : zix (Int32.ofNat k) 16 = true := zix_of (by omega) (by omega)
    have hb : Nat.ble E.1 (t + 7 + k) = true := ble_up2 hB
    by_cases h : T 2 k = 0
    · by_cases h2 : jmax 0 (T 1 k - n) = 0
      · have h1 := (hP.put hv1 hn (jmax 0 (T 1 k - n))).put hv2 hn 1
        rw [← tlose_t h h2] at h1
        obtain ⟨I', u', a1, a2, a3⟩ := ih (k + 1) _ (some (zr (some (t + 7 + k)))) (by omega) h1
        refine ⟨I', u', fun r hr => ?_, a2, zfI.tr (zfI.put (zfI.put zfI.rf (by simp only [xA]; omega) (by simp only [xA]; omega)) (by simp only [xA]; omega) (by simp only [xA]; omega)) a3⟩
        refine zat_in zP_X4_go zk_X4_go_100 ?_; simp (disch := omega) only [b_X4_go_100, zif, zdr, zkb, mK_wi, mN_wi, mJ_wi, mI_wi, sI_wi, beq_self_eq_true, Bool.true_or, Bool.or_true, Bool.or_false, Bool.and_self, Bool.and_true, Bool.true_and, ↓reduceIte, q1, q2, q3, q4, qi1, qi2, qi3, qa1, qa2, qa3, qs1, qs2, qs3, qf1, qf2, qf3, qt1, qt2, qt3, q6, q7, e0, e1, i_le, i_cl, hl, hz, h, Nat.reduceLeDiff]
        refine ev_bk ?_
        refine zat_in zP_X4_go zk_X4_go_129 ?_; simp (disch := omega) only [b_X4_go_129, zc_X4_go_160, b_X4_go_160, zif, zdr, zkb, mK_wi, mN_wi, mJ_wi, mI_wi, sI_wi, beq_self_eq_true, Bool.true_or, Bool.or_true, Bool.or_false, Bool.and_self, Bool.and_true, Bool.true_and, ↓reduceIte, q6, e2, hb, i_succ]
        refine ev_ci (sp_max _ _) ?_
        have e5 : zup I (t + 7 + k) 0 (jmax 0 (T 1 k - n)) (t + 7 + k) 0 = 0 := by rw [zup_q]; exact h2
        simp only [zif, zdr, zkb, mK_wi, mN_wi, mJ_wi, mI_wi, sI_wi, beq_self_eq_true, Bool.true_or, Bool.or_true, Bool.or_false, Bool.and_self, Bool.and_true, Bool.true_and, ↓reduceIte, q6, hb, e5]
        exact ev_bk (a1 r hr)
      · have h1 := hP.put hv1 hn (jmax 0 (T 1 k - n))
        rw [← tlose_s h h2] at h1
        obtain ⟨I', u', a1, a2, a3⟩ := ih (k + 1) _ (some (zr (some (t + 7 + k)))) (by omega) h1
        refine ⟨I', u', fun r hr => ?_, a2, zfI.tr (zfI.put zfI.rf (by simp only [xA]; omega) (by simp only [xA]; omega)) a3⟩
        refine zat_in zP_X4_go zk_X4_go_100 ?_; simp (disch := omega) only [b_X4_go_100, zif, zdr, zkb, mK_wi, mN_wi, mJ_wi, mI_wi, sI_wi, beq_self_eq_true, Bool.true_or, Bool.or_true, Bool.or_false, Bool.and_self, Bool.and_true, Bool.true_and, ↓reduceIte, q1, q2, q3, q4, qi1, qi2, qi3, qa1, qa2, qa3, qs1, qs2, qs3, qf1, qf2, qf3, qt1, qt2, qt3, q6, q7, e0, e1, i_le, i_cl, hl, hz, h, Nat.reduceLeDiff]
        refine ev_bk ?_
        refine zat_in zP_X4_go zk_X4_go_129 ?_; simp (disch := omega) only [b_X4_go_129, zc_X4_go_160, b_X4_go_160, zif, zdr, zkb, mK_wi, mN_wi, mJ_wi, mI_wi, sI_wi, beq_self_eq_true, Bool.true_or, Bool.or_true, Bool.or_false, Bool.and_self, Bool.and_true, Bool.true_and, ↓reduceIte, q6, e2, hb, i_succ]
        refine ev_ci (sp_max _ _) ?_
        have e5 : (zup I (t + 7 + k) 0 (jmax 0 (T 1 k - n)) (t + 7 + k) 0 = 0) = False := by rw [zup_q]; exact eq_false h2
        simp only [zif, zdr, zkb, mK_wi, mN_wi, mJ_wi, mI_wi, sI_wi, beq_self_eq_true, Bool.true_or, Bool.or_true, Bool.or_false, Bool.and_self, Bool.and_true, Bool.true_and, ↓reduceIte, q6, hb, e5]
        refine ev_bk ?_
        refine zat_in zP_X4_go zk_X4_go_160 ?_; simp (disch := omega) only [b_X4_go_160, zif, zdr, zkb, mK_wi, mN_wi, mJ_wi, mI_wi, sI_wi, beq_self_eq_true, Bool.true_or, Bool.or_true, Bool.or_false, Bool.and_self, Bool.and_true, Bool.true_and, ↓reduceIte, i_succ]
        exact ev_bk (a1 r hr)
    · rw [← tlose_n h] at hP
      obtain ⟨I', u', a1, a2, a3⟩ := ih (k + 1) _ (some (zr (some (t + 7 + k)))) (by omega) hP
      refine ⟨I', u', fun r hr => ?_, a2, a3⟩
      refine zat_in zP_X4_go zk_X4_go_100 ?_; simp (disch := omega) only [b_X4_go_100, zif, zdr, zkb, mK_wi, mN_wi, mJ_wi, mI_wi, sI_wi, beq_self_eq_true, Bool.true_or, Bool.or_true, Bool.or_false, Bool.and_self, Bool.and_true, Bool.true_and, ↓reduceIte, q1, q2, q3, q4, qi1, qi2, qi3, qa1, qa2, qa3, qs1, qs2, qs3, qf1, qf2, qf3, qt1, qt2, qt3, q6, q7, e0, e1, i_le, i_cl, hl, hz, h, Nat.reduceLeDiff]
      refine ev_bk ?_
      refine zat_in zP_X4_go zk_X4_go_160 ?_; simp (disch := omega) only [b_X4_go_160, zif, zdr, zkb, mK_wi, mN_wi, mJ_wi, mI_wi, sI_wi, beq_self_eq_true, Bool.true_or, Bool.or_true, Bool.or_false, Bool.and_self, Bool.and_true, Bool.true_and, ↓reduceIte, i_succ]
      exact ev_bk (a1 r hr)
end
