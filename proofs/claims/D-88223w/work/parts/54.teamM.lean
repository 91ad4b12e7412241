/-! ===== teams of the model: counts, means, the weakest, gains ===== -/
set_option maxRecDepth 100000
theorem i_neg1 {a : Nat} (h : a < 2147483648) : (Int32.ofNat a = -1) = False := by
  refine eq_false fun e => ?_
  have h1 := i_int h
  rw [e] at h1
  have h2 : (-1 : Int32).toInt = -1 := by decide
  rw [h2] at h1
  omega
def wI (o : Option Nat) : Int32 := match o with
  | none => -1
  | some b => Int32.ofNat b
section
variable {E : zE} {d t nd ng : Nat} {M S : zM} {I : Nat → Nat → Int32} {T : zT}
theorem tweak_lt : ∀ (k b : Nat), tweak T k = some b → b < k ∧ T 2 b = 0
  | 0, b, h => by cases h
  | k + 1, b, h => by
    unfold tweak at h
    split at h
    · rename_i h2
      split at h
      · cases h; exact ⟨by omega, h2⟩
      · rename_i b' hb
        have := tweak_lt k b' hb
        split at h <;> cases h
        · exact ⟨by omega, this.2⟩
        · exact ⟨by omega, h2⟩
    · have := tweak_lt k b h
      exact ⟨by omega, this.2⟩
theorem lp_X7_of {s : Int32} (hS : mTS S t) (hn : nd ≤ 16) (hP : mP I t nd ng T) (h0 : T 0 0 = Int32.ofNat nd) : ∀ c k : Nat, k + c = nd → zAt E d 184 4 [some (zr (some t)), some (zi s), some (zi (tcnt T s k)), some (zi (Int32.ofNat k))] [] (zwi S I) (Sum.inl (some (zi (tcnt T s nd))), zwi S I) := by
  obtain ⟨p0, ⟨ps1, ps2, ps3⟩, ⟨pt1, pt2, pt3⟩, ⟨pl1, pl2, pl3⟩, ⟨pc1, pc2, pc3⟩, ⟨pw1, pw2, pw3⟩, ⟨pn1, pn2, pn3⟩, ⟨py1, py2, py3⟩, ⟨pf1, pf2, pf3⟩, ⟨pg1, pg2, pg3⟩⟩ := hS
  have e0 : I t 0 = Int32.ofNat nd := (hP 0 0 (Or.inl ⟨rfl, by omega⟩) (by omega)).trans h0
  intro c
  induction c with
  | zero =>
    intro k hk
    obtain rfl : k = nd := hk
    refine zat_in zP_X7_of zk_X7_of_4 ?_; simp (disch := omega) only [b_X7_of_4, zif, zdr, zkb, mK_wi, mN_wi, mJ_wi, mI_wi, sI_wi, beq_self_eq_true, Bool.true_or, Bool.or_true, Bool.or_false, Bool.and_self, Bool.and_true, Bool.true_and, ↓reduceIte, p0, ps1, ps2, ps3, pt1, pt2, pt3, pl1, pl2, pl3, pc1, pc2, pc3, pw1, pw2, pw3, pn1, pn2, pn3, py1, py2, py3, pf1, pf2, pf3, pg1, pg2, pg3, e0, i_le, Nat.le_refl]
    refine ev_bk ?_
    refine zat_in zP_X7_of zk_X7_of_36 ?_; simp (disch := omega) only [b_X7_of_36, zif, zdr, zkb, mK_wi, mN_wi, mJ_wi, mI_wi, sI_wi, beq_self_eq_true, Bool.true_or, Bool.or_true, Bool.or_false, Bool.and_self, Bool.and_true, Bool.true_and, ↓reduceIte]
    exact ev_r
  | succ c ih =>
    intro k hk
    have hl : (nd ≤ k) = False := eq_false (by omega)
    have e1 : I (t + 2) k = T 2 k := hP 2 k (Or.inr (Or.inr (Or.inl ⟨rfl, by omega⟩))) (by omega)
    have hz : zix (Int32.ofNat k) 16 = true := zix_of (by omega) (by omega)
    have := ih (k + 1) (by omega)
    refine zat_in zP_X7_of zk_X7_of_4 ?_; simp (disch := omega) only [b_X7_of_4, zif, zdr, zkb, mK_wi, mN_wi, mJ_wi, mI_wi, sI_wi, beq_self_eq_true, Bool.true_or, Bool.or_true, Bool.or_false, Bool.and_self, Bool.and_true, Bool.true_and, ↓reduceIte, p0, ps1, ps2, ps3, pt1, pt2, pt3, pl1, pl2, pl3, pc1, pc2, pc3, pw1, pw2, pw3, pn1, pn2, pn3, py1, py2, py3, pf1, pf2, pf3, pg1, pg2, pg3, e0, e1, i_le, i_cl, hl, hz, Nat.reduceLeDiff]
    refine ev_th _ (fun h => ?_) (fun h => ?_)
    · refine ev_bk ?_
      refine zat_in zP_X7_of zk_X7_of_28 ?_; simp (disch := omega) only [b_X7_of_28, zif, zdr, zkb, mK_wi, mN_wi, mJ_wi, mI_wi, sI_wi, beq_self_eq_true, Bool.true_or, Bool.or_true, Bool.or_false, Bool.and_self, Bool.and_true, Bool.true_and, ↓reduceIte, i_succ]
      refine ev_bk ?_
      rw [show tcnt T s (k + 1) = tcnt T s k + 1 by simp only [tcnt, h, ↓reduceIte]] at this
      exact this
    · refine ev_bk ?_
      refine zat_in zP_X7_of zk_X7_of_27 ?_; simp (disch := omega) only [b_X7_of_27, zc_X7_of_28, b_X7_of_28, zif, zdr, zkb, mK_wi, mN_wi, mJ_wi, mI_wi, sI_wi, beq_self_eq_true, Bool.true_or, Bool.or_true, Bool.or_false, Bool.and_self, Bool.and_true, Bool.true_and, ↓reduceIte, i_succ]
      refine ev_bk ?_
      rw [show tcnt T s (k + 1) = tcnt T s k + 0 by simp only [tcnt, h, ↓reduceIte]] at this
      exact this
theorem sp_X7_of {s : Int32} (hS : mTS S t) (hn : nd ≤ 16) (hP : mP I t nd ng T) (h0 : T 0 0 = Int32.ofNat nd) : zCl E d 184 [zr (some t), zi s] (zwi S I) (Sum.inl (some (zi (tcnt T s nd))), zwi S I) := by
  refine zcl_in' zP_X7_of ?_; rw [zn_2_4]
  refine zat_in zP_X7_of zk_X7_of_0 ?_
  simp only [b_X7_of_0]
  exact ev_tl zP_X7_of zk_X7_of_4 (lp_X7_of hS hn hP h0 nd 0 (by omega))
theorem lp_X7_mean (hS : mTS S t) (hn : nd ≤ 16) (hP : mP I t nd ng T) (h0 : T 0 0 = Int32.ofNat nd) : ∀ c k : Nat, k + c = nd → zAt E (d + 1) 183 4 [some (zr (some t)), some (zi (tsum T k)), some (zi (Int32.ofNat k))] [] (zwi S I) (Sum.inl (some (zi (tmean T nd))), zwi S I) := by
  have hS' := hS
  obtain ⟨p0, ⟨ps1, ps2, ps3⟩, ⟨pt1, pt2, pt3⟩, ⟨pl1, pl2, pl3⟩, ⟨pc1, pc2, pc3⟩, ⟨pw1, pw2, pw3⟩, ⟨pn1, pn2, pn3⟩, ⟨py1, py2, py3⟩, ⟨pf1, pf2, pf3⟩, ⟨pg1, pg2, pg3⟩⟩ := hS
  have e0 : I t 0 = Int32.ofNat nd := (hP 0 0 (Or.inl ⟨rfl, by omega⟩) (by omega)).trans h0
  intro c
  induction c with
  | zero =>
    intro k hk
    obtain rfl : k = nd := hk
    refine zat_in zP_X7_mean zk_X7_mean_4 ?_; simp (disch := omega) only [b_X7_mean_4, zif, zdr, zkb, mK_wi, mN_wi, mJ_wi, mI_wi, sI_wi, beq_self_eq_true, Bool.true_or, Bool.or_true, Bool.or_false, Bool.and_self, Bool.and_true, Bool.true_and, ↓reduceIte, p0, ps1, ps2, ps3, pt1, pt2, pt3, pl1, pl2, pl3, pc1, pc2, pc3, pw1, pw2, pw3, pn1, pn2, pn3, py1, py2, py3, pf1, pf2, pf3, pg1, pg2, pg3, e0, i_le, Nat.le_refl]
    refine ev_bk ?_
    refine zat_in zP_X7_mean zk_X7_mean_40 ?_; simp (disch := omega) only [b_X7_mean_40, zif, zdr, zkb, mK_wi, mN_wi, mJ_wi, mI_wi, sI_wi, beq_self_eq_true, Bool.true_or, Bool.or_true, Bool.or_false, Bool.and_self, Bool.and_true, Bool.true_and, ↓reduceIte, p0, ps1, ps2, ps3, pt1, pt2, pt3, pl1, pl2, pl3, pc1, pc2, pc3, pw1, pw2, pw3, pn1, pn2, pn3, py1, py2, py3, pf1, pf2, pf3, pg1, pg2, pg3]
    refine ev_ci (sp_X7_of hS' hn hP h0) ?_
    refine ev_th _ (fun h => ?_) (fun h => ?_)
    · refine ev_bk ?_
      refine zat_in zP_X7_mean zk_X7_mean_57 ?_; simp (disch := omega) only [b_X7_mean_57, zif, zdr, zkb, mK_wi, mN_wi, mJ_wi, mI_wi, sI_wi, beq_self_eq_true, Bool.true_or, Bool.or_true, Bool.or_false, Bool.and_self, Bool.and_true, Bool.true_and, ↓reduceIte]
      rw [show tmean T k = 0 from if_pos h]
      exact ev_r
    · refine ev_bk ?_
      have hb : (tcnt T 0 k != 0) = true := by simpa using h
      refine zat_in zP_X7_mean zk_X7_mean_54 ?_; simp (disch := omega) only [b_X7_mean_54, zc_X7_mean_57, b_X7_mean_57, zif, zdr, zkb, mK_wi, mN_wi, mJ_wi, mI_wi, sI_wi, beq_self_eq_true, Bool.true_or, Bool.or_true, Bool.or_false, Bool.and_self, Bool.and_true, Bool.true_and, ↓reduceIte, hb]
      rw [show tmean T k = tsum T k / tcnt T 0 k from if_neg h]
      exact ev_r
  | succ c ih =>
    intro k hk
    have hl : (nd ≤ k) = False := eq_false (by omega)
    have e1 : I (t + 2) k = T 2 k := hP 2 k (Or.inr (Or.inr (Or.inl ⟨rfl, by omega⟩))) (by omega)
    have e2 : I (t + 1) k = T 1 k := hP 1 k (Or.inr (Or.inl ⟨rfl, by omega⟩)) (by omega)
    have hz : zix (Int32.ofNat k) 16 = true := zix_of (by omega) (by omega)
    have := ih (k + 1) (by omega)
    refine zat_in zP_X7_mean zk_X7_mean_4 ?_; simp (disch := omega) only [b_X7_mean_4, zif, zdr, zkb, mK_wi, mN_wi, mJ_wi, mI_wi, sI_wi, beq_self_eq_true, Bool.true_or, Bool.or_true, Bool.or_false, Bool.and_self, Bool.and_true, Bool.true_and, ↓reduceIte, p0, ps1, ps2, ps3, pt1, pt2, pt3, pl1, pl2, pl3, pc1, pc2, pc3, pw1, pw2, pw3, pn1, pn2, pn3, py1, py2, py3, pf1, pf2, pf3, pg1, pg2, pg3, e0, e1, e2, i_le, i_cl, hl, hz, i_succ, Nat.reduceLeDiff]
    refine ev_th _ (fun h => ?_) (fun h => ?_)
    · rw [show tsum T (k + 1) = tsum T k + T 1 k from if_pos h] at this
      refine ev_bk ?_
      refine zat_in zP_X7_mean zk_X7_mean_32 ?_; simp (disch := omega) only [b_X7_mean_32, zif, zdr, zkb, mK_wi, mN_wi, mJ_wi, mI_wi, sI_wi, beq_self_eq_true, Bool.true_or, Bool.or_true, Bool.or_false, Bool.and_self, Bool.and_true, Bool.true_and, ↓reduceIte, i_succ]
      exact ev_bk this
    · rw [show tsum T (k + 1) = tsum T k from if_neg h] at this
      refine ev_bk ?_
      refine zat_in zP_X7_mean zk_X7_mean_31 ?_; simp (disch := omega) only [b_X7_mean_31, zc_X7_mean_32, b_X7_mean_32, zif, zdr, zkb, mK_wi, mN_wi, mJ_wi, mI_wi, sI_wi, beq_self_eq_true, Bool.true_or, Bool.or_true, Bool.or_false, Bool.and_self, Bool.and_true, Bool.true_and, ↓reduceIte, i_succ, Int32.add_zero]
      exact ev_bk this
theorem sp_X7_mean (hS : mTS S t) (hn : nd ≤ 16) (hP : mP I t nd ng T) (h0 : T 0 0 = Int32.ofNat nd) : zCl E (d + 1) 183 [zr (some t)] (zwi S I) (Sum.inl (some (zi (tmean T nd))), zwi S I) := by
  refine zcl_in' zP_X7_mean ?_; rw [zn_1_3]
  refine zat_in zP_X7_mean zk_X7_mean_0 ?_
  simp only [b_X7_mean_0]
  exact ev_tl zP_X7_mean zk_X7_mean_4 (lp_X7_mean hS hn hP h0 nd 0 (by omega))
theorem lp_X7_weakest (hS : mTS S t) (hn : nd ≤ 16) (hP : mP I t nd ng T) (h0 : T 0 0 = Int32.ofNat nd) : ∀ c k : Nat, k + c = nd → zAt E d 182 4 [some (zr (some t)), some (zi (wI (tweak T k))), some (zi (Int32.ofNat k))] [] (zwi S I) (Sum.inl (some (zi (wI (tweak T nd)))), zwi S I) := by
  obtain ⟨p0, ⟨ps1, ps2, ps3⟩, ⟨pt1, pt2, pt3⟩, ⟨pl1, pl2, pl3⟩, ⟨pc1, pc2, pc3⟩, ⟨pw1, pw2, pw3⟩, ⟨pn1, pn2, pn3⟩, ⟨py1, py2, py3⟩, ⟨pf1, pf2, pf3⟩, ⟨pg1, pg2, pg3⟩⟩ := hS
  have e0 : I t 0 = Int32.ofNat nd := (hP 0 0 (Or.inl ⟨rfl, by omega⟩) (by omega)).trans h0
  intro c
  induction c with
  | zero =>
    intro k hk
    obtain rfl : k = nd := hk
    refine zat_in zP_X7_weakest zk_X7_weakest_4 ?_; simp (disch := omega) only [b_X7_weakest_4, zc_X7_weakest_41, b_X7_weakest_41, zc_X7_weakest_43, b_X7_weakest_43, zif, zdr, zkb, mK_wi, mN_wi, mJ_wi, mI_wi, sI_wi, beq_self_eq_true, Bool.true_or, Bool.or_true, Bool.or_false, Bool.and_self, Bool.and_true, Bool.true_and, ↓reduceIte, p0, ps1, ps2, ps3, pt1, pt2, pt3, pl1, pl2, pl3, pc1, pc2, pc3, pw1, pw2, pw3, pn1, pn2, pn3, py1, py2, py3, pf1, pf2, pf3, pg1, pg2, pg3, e0, i_le, Nat.le_refl]
    refine ev_bk ?_
    refine zat_in zP_X7_weakest zk_X7_weakest_49 ?_; simp (disch := omega) only [b_X7_weakest_49, zif, zdr, zkb, mK_wi, mN_wi, mJ_wi, mI_wi, sI_wi, beq_self_eq_true, Bool.true_or, Bool.or_true, Bool.or_false, Bool.and_self, Bool.and_true, Bool.true_and, ↓reduceIte]
    exact ev_r
  | succ c ih =>
    intro k hk
    have hl : (nd ≤ k) = False := eq_false (by omega)
    have e1 : I (t + 2) k = T 2 k := hP 2 k (Or.inr (Or.inr (Or.inl ⟨rfl, by omega⟩))) (by omega)
    have e2 : I (t + 1) k = T 1 k := hP 1 k (Or.inr (Or.inl ⟨rfl, by omega⟩)) (by omega)
    have hz : zix (Int32.ofNat k) 16 = true := zix_of (by omega) (by omega)
    have := ih (k + 1) (by omega)
    have hu : tweak T (k + 1) = if T 2 k = 0 then (match tweak T k with
      | none => some k
      | some b => if T 1 b ≤ T 1 k then some b else some k) else tweak T k := rfl
    rw [hu] at this
    have hw := fun b => tweak_lt (T := T) k b
    generalize tweak T k = w at this hw ⊢
    cases w with
    | none =>
      simp only [wI]
      refine zat_in zP_X7_weakest zk_X7_weakest_4 ?_; simp (disch := omega) only [b_X7_weakest_4, zc_X7_weakest_41, b_X7_weakest_41, zc_X7_weakest_43, b_X7_weakest_43, zif, zdr, zkb, mK_wi, mN_wi, mJ_wi, mI_wi, sI_wi, beq_self_eq_true, Bool.true_or, Bool.or_true, Bool.or_false, Bool.and_self, Bool.and_true, Bool.true_and, ↓reduceIte, p0, ps1, ps2, ps3, pt1, pt2, pt3, pl1, pl2, pl3, pc1, pc2, pc3, pw1, pw2, pw3, pn1, pn2, pn3, py1, py2, py3, pf1, pf2, pf3, pg1, pg2, pg3, e0, e1, e2, i_le, i_cl, hl, hz, i_succ, Nat.reduceLeDiff]
      refine ev_th _ (fun h => ?_) (fun h => ?_)
      · rw [if_pos h] at this
        refine ev_bk ?_
        refine zat_in zP_X7_weakest zk_X7_weakest_41 ?_; simp (disch := omega) only [b_X7_weakest_41, zc_X7_weakest_43, b_X7_weakest_43, zif, zdr, zkb, mK_wi, mN_wi, mJ_wi, mI_wi, sI_wi, beq_self_eq_true, Bool.true_or, Bool.or_true, Bool.or_false, Bool.and_self, Bool.and_true, Bool.true_and, ↓reduceIte, p0, ps1, ps2, ps3, pt1, pt2, pt3, pl1, pl2, pl3, pc1, pc2, pc3, pw1, pw2, pw3, pn1, pn2, pn3, py1, py2, py3, pf1, pf2, pf3, pg1, pg2, pg3, i_cl, hz, i_succ, Nat.reduceLeDiff]
        exact ev_bk this
      · rw [if_neg h] at this
        refine ev_bk ?_
        refine zat_in zP_X7_weakest zk_X7_weakest_43 ?_; simp (disch := omega) only [b_X7_weakest_43, zif, zdr, zkb, mK_wi, mN_wi, mJ_wi, mI_wi, sI_wi, beq_self_eq_true, Bool.true_or, Bool.or_true, Bool.or_false, Bool.and_self, Bool.and_true, Bool.true_and, ↓reduceIte, i_succ]
        exact ev_bk this
    | some b =>
      have hb := (hw b rfl).1
      have hn1 : (Int32.ofNat b = -1) = False := i_neg1 (by omega)
      have hzb : zix (Int32.ofNat b) 16 = true := zix_of (by omega) (by omega)
      have e3 : I (t + 1) b = T 1 b := hP 1 b (Or.inr (Or.inl ⟨rfl, by omega⟩)) (by omega)
      simp only [wI]
      refine zat_in zP_X7_weakest zk_X7_weakest_4 ?_; simp (disch := omega) only [b_X7_weakest_4, zc_X7_weakest_41, b_X7_weakest_41, zc_X7_weakest_43, b_X7_weakest_43, zif, zdr, zkb, mK_wi, mN_wi, mJ_wi, mI_wi, sI_wi, beq_self_eq_true, Bool.true_or, Bool.or_true, Bool.or_false, Bool.and_self, Bool.and_true, Bool.true_and, ↓reduceIte, p0, ps1, ps2, ps3, pt1, pt2, pt3, pl1, pl2, pl3, pc1, pc2, pc3, pw1, pw2, pw3, pn1, pn2, pn3, py1, py2, py3, pf1, pf2, pf3, pg1, pg2, pg3, e0, e1, e2, e3, i_le, i_cl, hl, hz, hzb, hn1, i_succ, Nat.reduceLeDiff]
      refine ev_th _ (fun h => ?_) (fun h => ?_)
      · rw [if_pos h] at this
        refine ev_th _ (fun h2 => ?_) (fun h2 => ?_)
        · have this : zAt E d 182 4 [some (zr (some t)), some (zi (wI (if T 1 b ≤ T 1 k then some b else some k))), some (zi (Int32.ofNat (k + 1)))] [] (zwi S I) _ := this
          rw [if_pos h2] at this
          refine ev_bk ?_
          refine zat_in zP_X7_weakest zk_X7_weakest_43 ?_; simp (disch := omega) only [b_X7_weakest_43, zif, zdr, zkb, mK_wi, mN_wi, mJ_wi, mI_wi, sI_wi, beq_self_eq_true, Bool.true_or, Bool.or_true, Bool.or_false, Bool.and_self, Bool.and_true, Bool.true_and, ↓reduceIte, i_succ]
          exact ev_bk this
        · have this : zAt E d 182 4 [some (zr (some t)), some (zi (wI (if T 1 b ≤ T 1 k then some b else some k))), some (zi (Int32.ofNat (k + 1)))] [] (zwi S I) _ := this
          rw [if_neg h2] at this
          exact ev_bk this
      · rw [if_neg h] at this
        refine ev_bk ?_
        refine zat_in zP_X7_weakest zk_X7_weakest_43 ?_; simp (disch := omega) only [b_X7_weakest_43, zif, zdr, zkb, mK_wi, mN_wi, mJ_wi, mI_wi, sI_wi, beq_self_eq_true, Bool.true_or, Bool.or_true, Bool.or_false, Bool.and_self, Bool.and_true, Bool.true_and, ↓reduceIte, i_succ]
        exact ev_bk this
theorem sp_X7_weakest (hS : mTS S t) (hn : nd ≤ 16) (hP : mP I t nd ng T) (h0 : T 0 0 = Int32.ofNat nd) : zCl E d 182 [zr (some t)] (zwi S I) (Sum.inl (some (zi (wI (tweak T nd)))), zwi S I) := by
  refine zcl_in' zP_X7_weakest ?_; rw [zn_1_3]
  refine zat_in zP_X7_weakest zk_X7_weakest_0 ?_
  simp only [b_X7_weakest_0]
  exact ev_tl zP_X7_weakest zk_X7_weakest_4 (lp_X7_weakest hS hn hP h0 nd 0 (by omega))
theorem lp_X7_gain {n : Int32} (hB : E.1 ≤ t) (hS : mTS S t) (hn : nd ≤ 16) (h0 : T 0 0 = Int32.ofNat nd) : ∀ (c k : Nat) (I : Nat → Nat → Int32), k + c = nd → mP I t nd ng (tgain n k T) → ∃ I', zAt E (d + 1) 185 2 [some (zr (some t)), some (zi n), some (zi (Int32.ofNat k))] [] (zwi S I) (Sum.inl none, zwi S I') ∧ mP I' t nd ng (tgain n nd T) ∧ (∀ a k, ¬ a = t + 1 → I' a k = I a k) := by
  obtain ⟨p0, ⟨ps1, ps2, ps3⟩, ⟨pt1, pt2, pt3⟩, ⟨pl1, pl2, pl3⟩, ⟨pc1, pc2, pc3⟩, ⟨pw1, pw2, pw3⟩, ⟨pn1, pn2, pn3⟩, ⟨py1, py2, py3⟩, ⟨pf1, pf2, pf3⟩, ⟨pg1, pg2, pg3⟩⟩ := hS
  intro c
  induction c with
  | zero =>
    intro k I hk hP
    obtain rfl : k = nd := hk
    have e0 : I t 0 = Int32.ofNat k := (hP 0 0 (Or.inl ⟨rfl, by omega⟩) (by omega)).trans ((tgain_i (by omega)).trans h0)
    refine ⟨I, ?_, hP, fun _ _ _ => rfl⟩
    refine zat_in zP_X7_gain zk_X7_gain_2 ?_; simp (disch := omega) only [b_X7_gain_2, zc_X7_gain_39, b_X7_gain_39, zif, zdr, zkb, mK_wi, mN_wi, mJ_wi, mI_wi, sI_wi, beq_self_eq_true, Bool.true_or, Bool.or_true, Bool.or_false, Bool.and_self, Bool.and_true, Bool.true_and, ↓reduceIte, p0, ps1, ps2, ps3, pt1, pt2, pt3, pl1, pl2, pl3, pc1, pc2, pc3, pw1, pw2, pw3, pn1, pn2, pn3, py1, py2, py3, pf1, pf2, pf3, pg1, pg2, pg3, e0, i_le, Nat.le_refl]
    refine ev_bk ?_
    refine zat_in zP_X7_gain zk_X7_gain_45 ?_; simp (disch := omega) only [b_X7_gain_45, zif, zdr, zkb, mK_wi, mN_wi, mJ_wi, mI_wi, sI_wi, beq_self_eq_true, Bool.true_or, Bool.or_true, Bool.or_false, Bool.and_self, Bool.and_true, Bool.true_and, ↓reduceIte]
    exact ev_r
  | succ c ih =>
    intro k I hk hP
    have e0 : I t 0 = Int32.ofNat nd := (hP 0 0 (Or.inl ⟨rfl, by omega⟩) (by omega)).trans ((tgain_i (by omega)).trans h0)
    have hl : (nd ≤ k) = False := eq_false (by omega)
    have hv1 : zvl nd ng 1 k := Or.inr (Or.inl ⟨rfl, by omega⟩)
    have e1 : I (t + 2) k = T 2 k := (hP 2 k (Or.inr (Or.inr (Or.inl ⟨rfl, by omega⟩))) (by omega)).trans (tgain_i (by omega))
    have e2 : I (t + 1) k = T 1 k := (hP 1 k hv1 (by omega)).trans tgain_1
    have hz : zix (Int32.ofNat k) 16 = true := zix_of (by omega) (by omega)
    have hb1 : Nat.ble E.1 (t + 1) = true := ble_up hB
    by_cases h : T 2 k = 0
    · have h1 := hP.put hv1 (by omega) (jmin 1000 (T 1 k + n))
      rw [← tgain_s h] at h1
      obtain ⟨I', a1, a2, a3⟩ := ih (k + 1) _ (by omega) h1
      refine ⟨I', ?_, a2, fun a j ha => (a3 a j ha).trans (zup_k (fun q => ha q.1))⟩
      refine zat_in zP_X7_gain zk_X7_gain_2 ?_; simp (disch := omega) only [b_X7_gain_2, zc_X7_gain_39, b_X7_gain_39, zif, zdr, zkb, mK_wi, mN_wi, mJ_wi, mI_wi, sI_wi, beq_self_eq_true, Bool.true_or, Bool.or_true, Bool.or_false, Bool.and_self, Bool.and_true, Bool.true_and, ↓reduceIte, p0, ps1, ps2, ps3, pt1, pt2, pt3, pl1, pl2, pl3, pc1, pc2, pc3, pw1, pw2, pw3, pn1, pn2, pn3, py1, py2, py3, pf1, pf2, pf3, pg1, pg2, pg3, e0, e1, e2, i_le, i_cl, hl, hz, h, hb1, i_succ, Nat.reduceLeDiff]
      refine ev_ci (sp_min _ _) ?_
      simp (disch := omega) only [zif, zdr, zkb, mK_wi, mN_wi, mJ_wi, mI_wi, sI_wi, beq_self_eq_true, Bool.true_or, Bool.or_true, Bool.or_false, Bool.and_self, Bool.and_true, Bool.true_and, ↓reduceIte, p0, ps1, ps2, ps3, pt1, pt2, pt3, pl1, pl2, pl3, pc1, pc2, pc3, pw1, pw2, pw3, pn1, pn2, pn3, py1, py2, py3, pf1, pf2, pf3, pg1, pg2, pg3, i_cl, hz, hb1]
      exact ev_bk a1
    · rw [← tgain_n h] at hP
      obtain ⟨I', a1, a2, a3⟩ := ih (k + 1) _ (by omega) hP
      refine ⟨I', ?_, a2, a3⟩
      refine zat_in zP_X7_gain zk_X7_gain_2 ?_; simp (disch := omega) only [b_X7_gain_2, zc_X7_gain_39, b_X7_gain_39, zif, zdr, zkb, mK_wi, mN_wi, mJ_wi, mI_wi, sI_wi, beq_self_eq_true, Bool.true_or, Bool.or_true, Bool.or_false, Bool.and_self, Bool.and_true, Bool.true_and, ↓reduceIte, p0, ps1, ps2, ps3, pt1, pt2, pt3, pl1, pl2, pl3, pc1, pc2, pc3, pw1, pw2, pw3, pn1, pn2, pn3, py1, py2, py3, pf1, pf2, pf3, pg1, pg2, pg3, e0, e1, i_le, i_cl, hl, hz, h, i_succ, Nat.reduceLeDiff]
      refine ev_bk ?_
      refine zat_in zP_X7_gain zk_X7_gain_39 ?_; simp (disch := omega) only [b_X7_gain_39, zif, zdr, zkb, mK_wi, mN_wi, mJ_wi, mI_wi, sI_wi, beq_self_eq_true, Bool.true_or, Bool.or_true, Bool.or_false, Bool.and_self, Bool.and_true, Bool.true_and, ↓reduceIte, i_succ]
      exact ev_bk a1
theorem sp_X7_gain {n : Int32} (hB : E.1 ≤ t) (hS : mTS S t) (hn : nd ≤ 16) (hP : mP I t nd ng T) (h0 : T 0 0 = Int32.ofNat nd) : ∃ I', zCl E (d + 1) 185 [zr (some t), zi n] (zwi S I) (Sum.inl none, zwi S I') ∧ mP I' t nd ng (tgain n nd T) ∧ (∀ a k, ¬ a = t + 1 → I' a k = I a k) := by
  obtain ⟨I', a1, a2, a3⟩ := lp_X7_gain (E := E) (d := d) (n := n) hB hS hn h0 nd 0 I (by omega) (by rw [tgain_0]; exact hP)
  refine ⟨I', ?_, a2, a3⟩
  refine zcl_in' zP_X7_gain ?_; rw [zn_2_3]
  refine zat_in zP_X7_gain zk_X7_gain_0 ?_
  simp only [b_X7_gain_0]
  exact ev_tl zP_X7_gain zk_X7_gain_2 a1
end
