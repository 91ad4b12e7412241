/-! ===== a team is entered (x) ===== -/
set_option maxRecDepth 100000
def tini (nd ld me st p : Int32) : zT := fun i j => match i with
  | 0 => (match j with
    | 0 => nd
    | 1 => ld
    | 2 => me
    | 3 => st
    | 4 => p
    | 8 => me
    | 11 => -1
    | _ => 0)
  | 1 => 1000
  | 2 => 0
  | _ => -1
def zfd : Nat → Nat → Int32 := fun _ j => if j = 0 then 1000 else if j = 1 then 0 else -1
def zfm : Nat → Nat → Int32 := fun _ _ => -1
def xBe (I : Nat → Nat → Int32) (t nd : Nat) : Nat → Nat → Int32 := zfl (zup (zup (zup (zup (zup (zup (zup (zfl I (t + 7) (t + 7 + nd) 0 3 zfd) t 6 0) t 7 0) t 8 0) t 9 (I t 3)) t 10 0) t 11 0) t 12 (-1)) (t + 2) (t + 2 + 2) 0 13 zfm
section
variable {E : zE} {d t nd : Nat} {S : zM} {I : Nat → Nat → Int32}
theorem sp_X5_begin {a : Nat} (hK : mK S a = 6) (hB : Nat.ble E.1 a = true) : zCl E d 110 [zr (some a)] (zwi S I) (Sum.inl none, zwi S (zup (zup (zup I a 0 1000) a 1 0) a 2 (-1))) := by
  refine zcl_in' zP_X5_begin ?_; rw [zn_1_1]
  refine zat_in zP_X5_begin zk_X5_begin_0 ?_; simp (disch := omega) only [b_X5_begin_0, zif, zdr, zkb, mK_wi, mN_wi, mJ_wi, mI_wi, sI_wi, beq_self_eq_true, Bool.true_or, Bool.or_true, Bool.or_false, Bool.and_self, Bool.and_true, Bool.true_and, ↓reduceIte, hK, hB]
  exact ev_r
theorem lp_X4_begin_a (hB : E.1 ≤ t) (hS : xTS S t) (hn : nd ≤ 16) : ∀ c k : Nat, k + c = nd → ∀ I : Nat → Nat → Int32, I t 1 = Int32.ofNat nd → ∀ r, zAt E (d + 1) 93 25 [some (zr (some t)), some (zi (Int32.ofNat nd))] [] (zwi S (zfl I (t + 7 + k) (t + 7 + nd) 0 3 zfd)) r → zAt E (d + 1) 93 2 [some (zr (some t)), some (zi (Int32.ofNat k))] [] (zwi S I) r := by
  obtain ⟨⟨q1, q2, q3, q4⟩, ⟨qi1, qi2, qi3⟩, ⟨qa1, qa2, qa3⟩, ⟨qs1, qs2, qs3⟩, ⟨qf1, qf2, qf3⟩, ⟨qt1, qt2, qt3⟩, q5⟩ := hS
  intro c
  induction c with
  | zero =>
    intro k hk I e0 r hr
    obtain rfl : k = nd := hk
    rw [zfl_0 (by omega)] at hr
    refine zat_in zP_X4_begin zk_X4_begin_2 ?_
    simp (disch := omega) only [b_X4_begin_2, zif, zdr, zkb, mK_wi, mN_wi, mJ_wi, mI_wi, sI_wi, beq_self_eq_true, Bool.true_or, Bool.or_true, Bool.or_false, Bool.and_self, Bool.and_true, Bool.true_and, ↓reduceIte, q1, q2, q3, q4, qi1, qi2, qi3, qa1, qa2, qa3, qs1, qs2, qs3, qf1, qf2, qf3, qt1, qt2, qt3, e0, i_le, Nat.le_refl]
    exact ev_bk hr
  | succ c ih =>
    intro k hk I e0 r hr
    have hl : (nd ≤ k) = False := eq_false (by omega)
    have hz : zix (Int32.ofNat k) 16 = true := zix_of (by omega) (by omega)
    obtain ⟨q6, q7⟩ := q5 k (by omega)
    have hb : Nat.ble E.1 (t + 7 + k) = true := ble_up2 hB
    have := ih (k + 1) (by omega) (zup (zup (zup I (t + 7 + k) 0 1000) (t + 7 + k) 1 0) (t + 7 + k) 2 (-1)) (by rw [zup_k (by omega), zup_k (by omega), zup_k (by omega)]; exact e0) r (by
      rw [show t + 7 + (k + 1) = t + 7 + k + 1 from rfl, zfl_d (f := zfd) (v0 := 1000) (v1 := 0) (v2 := -1) (by omega) rfl rfl rfl]
      exact hr)
    refine zat_in zP_X4_begin zk_X4_begin_2 ?_
    simp (disch := omega) only [b_X4_begin_2, zif, zdr, zkb, mK_wi, mN_wi, mJ_wi, mI_wi, sI_wi, beq_self_eq_true, Bool.true_or, Bool.or_true, Bool.or_false, Bool.and_self, Bool.and_true, Bool.true_and, ↓reduceIte, q1, q2, q3, q4, qi1, qi2, qi3, qa1, qa2, qa3, qs1, qs2, qs3, qf1, qf2, qf3, qt1, qt2, qt3, e0, i_le, i_cl, hl, hz, q6, q7, i_succ, Nat.reduceLeDiff]
    exact ev_cv (sp_X5_begin q6 hb) (ev_bk this)
theorem lp_X4_begin_b (hB : E.1 ≤ t) (hS : xTS S t) : ∀ c k : Nat, k + c = 13 → ∀ I : Nat → Nat → Int32, zAt E d 93 65 [some (zr (some t)), some (zi (Int32.ofNat k))] [] (zwi S I) (Sum.inl none, zwi S (zfl I (t + 2) (t + 2 + 2) k 13 zfm)) := by
  obtain ⟨⟨q1, q2, q3, q4⟩, ⟨qi1, qi2, qi3⟩, ⟨qa1, qa2, qa3⟩, ⟨qs1, qs2, qs3⟩, ⟨qf1, qf2, qf3⟩, ⟨qt1, qt2, qt3⟩, q5⟩ := hS
  have hb2 : Nat.ble E.1 (t + 2) = true := ble_up hB
  have hb3 : Nat.ble E.1 (t + 3) = true := ble_up hB
  intro c
  induction c with
  | zero =>
    intro k hk I
    obtain rfl : k = 13 := hk
    rw [zfl_0 (by omega)]
    have hl : ((12 : Int32) < Int32.ofNat 13) = True := eq_true (by decide)
    refine zat_in zP_X4_begin zk_X4_begin_65 ?_
    simp (disch := omega) only [b_X4_begin_65, zif, zdr, zkb, mK_wi, mN_wi, mJ_wi, mI_wi, sI_wi, beq_self_eq_true, Bool.true_or, Bool.or_true, Bool.or_false, Bool.and_self, Bool.and_true, Bool.true_and, ↓reduceIte, hl]
    refine ev_bk ?_
    refine zat_in zP_X4_begin zk_X4_begin_91 ?_; simp (disch := omega) only [b_X4_begin_91, zif, zdr, zkb, mK_wi, mN_wi, mJ_wi, mI_wi, sI_wi, beq_self_eq_true, Bool.true_or, Bool.or_true, Bool.or_false, Bool.and_self, Bool.and_true, Bool.true_and, ↓reduceIte]
    exact ev_r
  | succ c ih =>
    intro k hk I
    have hl : ((12 : Int32) < Int32.ofNat k) = False := by
      rw [show (12 : Int32) = Int32.ofNat 12 from rfl, i_lt (by omega) (by omega)]
      exact eq_false (by omega)
    have hz : zix (Int32.ofNat k) 13 = true := zix_of (by omega) (by omega)
    have := ih (k + 1) (by omega) (zup (zup I (t + 2) k (-1)) (t + 2 + 1) k (-1))
    rw [zfl_s2 (f := zfm) (v := -1) (v1 := -1) (by omega) rfl rfl] at this
    refine zat_in zP_X4_begin zk_X4_begin_65 ?_
    simp (disch := omega) only [b_X4_begin_65, zif, zdr, zkb, mK_wi, mN_wi, mJ_wi, mI_wi, sI_wi, beq_self_eq_true, Bool.true_or, Bool.or_true, Bool.or_false, Bool.and_self, Bool.and_true, Bool.true_and, ↓reduceIte, q1, q2, q3, q4, qi1, qi2, qi3, qa1, qa2, qa3, qs1, qs2, qs3, qf1, qf2, qf3, qt1, qt2, qt3, i_cl, hl, hz, hb2, hb3, i_succ]
    exact ev_bk this
theorem sp_X4_begin (hB : E.1 ≤ t) (hS : xTS S t) (hn : nd ≤ 16) (e0 : I t 1 = Int32.ofNat nd) : zCl E (d + 1) 93 [zr (some t)] (zwi S I) (Sum.inl none, zwi S (xBe I t nd)) := by
  have hb0 : Nat.ble E.1 t = true := ble_up0 hB
  have q1 := hS.1.1
  refine zcl_in' zP_X4_begin ?_; rw [zn_1_2]
  refine zat_in zP_X4_begin zk_X4_begin_0 ?_
  simp only [b_X4_begin_0]
  refine ev_tl zP_X4_begin zk_X4_begin_2 (lp_X4_begin_a hB hS hn nd 0 (by omega) I e0 _ ?_)
  refine zat_in zP_X4_begin zk_X4_begin_25 ?_
  simp (disch := omega) only [b_X4_begin_25, zc_X4_begin_48, b_X4_begin_48, zif, zdr, zkb, mK_wi, mN_wi, mJ_wi, mI_wi, sI_wi, beq_self_eq_true, Bool.true_or, Bool.or_true, Bool.or_false, Bool.and_self, Bool.and_true, Bool.true_and, ↓reduceIte, q1, hb0, zup_k, zfl_k]
  refine ev_tl zP_X4_begin zk_X4_begin_65 ?_
  exact lp_X4_begin_b hB hS 13 0 (by omega) _
theorem lp_X4_enter {a1 a2 a3 a4 a5 : Int32} (hB : E.1 ≤ t) (hS : xTS S t) : ∀ c k : Nat, k + c = 2000 → ∀ I : Nat → Nat → Int32, ∀ r, zAt E d 92 62 [some (zr (some t)), some (zi a1), some (zi a2), some (zi a3), some (zi a4), some (zi a5), some (zi 2000)] [] (zwi S (zfl I (t + 4) (t + 4 + 1) k 2000 zfm)) r → zAt E d 92 40 [some (zr (some t)), some (zi a1), some (zi a2), some (zi a3), some (zi a4), some (zi a5), some (zi (Int32.ofNat k))] [] (zwi S I) r := by
  obtain ⟨⟨q1, q2, q3, q4⟩, ⟨qi1, qi2, qi3⟩, ⟨qa1, qa2, qa3⟩, ⟨qs1, qs2, qs3⟩, ⟨qf1, qf2, qf3⟩, ⟨qt1, qt2, qt3⟩, q5⟩ := hS
  have hb4 : Nat.ble E.1 (t + 4) = true := ble_up hB
  intro c
  induction c with
  | zero =>
    intro k hk I r hr
    obtain rfl : k = 2000 := hk
    rw [zfl_0 (by omega)] at hr
    have hl : ((2000 : Int32) ≤ Int32.ofNat 2000) = True := eq_true (by decide)
    refine zat_in zP_X4_enter zk_X4_enter_40 ?_
    simp (disch := omega) only [b_X4_enter_40, zif, zdr, zkb, mK_wi, mN_wi, mJ_wi, mI_wi, sI_wi, beq_self_eq_true, Bool.true_or, Bool.or_true, Bool.or_false, Bool.and_self, Bool.and_true, Bool.true_and, ↓reduceIte, hl]
    exact ev_bk hr
  | succ c ih =>
    intro k hk I r hr
    have hl : ((2000 : Int32) ≤ Int32.ofNat k) = False := by
      rw [show (2000 : Int32) = Int32.ofNat 2000 from rfl, i_le (by omega) (by omega)]
      exact eq_false (by omega)
    have hz : zix (Int32.ofNat k) 2000 = true := zix_of (by omega) (by omega)
    have := ih (k + 1) (by omega) (zup I (t + 4) k (-1)) r (by rw [zfl_s (f := zfm) (v := -1) (by omega) rfl]; exact hr)
    refine zat_in zP_X4_enter zk_X4_enter_40 ?_
    simp (disch := omega) only [b_X4_enter_40, zif, zdr, zkb, mK_wi, mN_wi, mJ_wi, mI_wi, sI_wi, beq_self_eq_true, Bool.true_or, Bool.or_true, Bool.or_false, Bool.and_self, Bool.and_true, Bool.true_and, ↓reduceIte, q1, q2, q3, q4, qi1, qi2, qi3, qa1, qa2, qa3, qs1, qs2, qs3, qf1, qf2, qf3, qt1, qt2, qt3, i_cl, hl, hz, hb4, i_succ]
    exact ev_bk this
theorem sp_X4_enter {a2 a3 a4 a5 : Int32} (hB : E.1 ≤ t) (hS : xTS S t) (hn : nd ≤ 16) : ∃ I', zCl E (d + 2) 92 [zr (some t), zi (Int32.ofNat nd), zi a2, zi a3, zi a4, zi a5] (zwi S I) (Sum.inl none, zwi S I') ∧ xP I' t nd 0 (tini (Int32.ofNat nd) a2 a3 a4 a5) ∧ zfI t (t + 23) I I' := by
  have hb0 : Nat.ble E.1 t = true := ble_up0 hB
  have q1 := hS.1.1
  refine ⟨xBe (zfl (zup (zup (zup (zup (zup (zup (zup I t 1 (Int32.ofNat nd)) t 2 a2) t 3 a3) t 4 a4) t 5 a5) t 19 0) t 16 0) (t + 4) (t + 4 + 1) 0 2000 zfm) t nd, ?_, ?_, ?_⟩
  · refine zcl_in' zP_X4_enter ?_; rw [zn_6_7]
    refine zat_in zP_X4_enter zk_X4_enter_0 ?_
    simp (disch := omega) only [b_X4_enter_0, zc_X4_enter_37, b_X4_enter_37, zif, zdr, zkb, mK_wi, mN_wi, mJ_wi, mI_wi, sI_wi, beq_self_eq_true, Bool.true_or, Bool.or_true, Bool.or_false, Bool.and_self, Bool.and_true, Bool.true_and, ↓reduceIte, q1, hb0]
    refine ev_tl zP_X4_enter zk_X4_enter_40 (lp_X4_enter hB hS 2000 0 (by omega) _ _ ?_)
    refine zat_in zP_X4_enter zk_X4_enter_62 ?_; simp (disch := omega) only [b_X4_enter_62, zif, zdr, zkb, mK_wi, mN_wi, mJ_wi, mI_wi, sI_wi, beq_self_eq_true, Bool.true_or, Bool.or_true, Bool.or_false, Bool.and_self, Bool.and_true, Bool.true_and, ↓reduceIte, q1]
    refine ev_cv (sp_X4_begin hB hS hn ?_) ev_r
    simp (disch := omega) only [zfl_k, zup_k, zup_q]
  · refine xP.mk ⟨?_, ?_, ?_, ?_, ?_, ?_, ?_⟩ ⟨?_, ?_, ?_, ?_, ?_, ?_, ?_⟩ (fun j hj => ?_) (fun j hj => ?_) (fun j hj => ?_) (fun j hj => ?_) (fun j hj => ?_) (fun j hj => ?_) (fun j hj => ?_) (fun j hj => ?_)
    all_goals (first | (exfalso; omega) | (simp (disch := omega) only [xBe, zfl_k, zfl_q, zup_k, zup_q]; rfl))
  · unfold xBe
    repeat' (first | exact zfI.rf | refine zfI.put ?_ (by omega) (by omega) | refine zfI.fl ?_ (by omega) (by omega))
end
