/-! ===== a team begins, becomes another one (model) ===== -/
set_option maxRecDepth 100000
def mfd (t : Nat) : Nat → Nat → Int32 := fun x _ => if x = t + 1 then 1000 else if x = t + 1 + 1 then 0 else -1
theorem i_ltl {a b : Nat} (ha : a < 2147483648) (hb : b < 2147483648) : (Int32.ofNat a < Int32.ofNat b) = (a < b) := i_lt ha hb
section
variable {E : zE} {d t u nd ng : Nat} {S : zM} {I J : Nat → Nat → Int32} {T : zT}
theorem lp_X7_begin_a {a1 a2 a3 a4 a5 : Int32} (hB : E.1 ≤ t) (hS : mTS S t) : ∀ c k : Nat, k + c = 16 → ∀ I : Nat → Nat → Int32, ∀ r, zAt E d 181 119 [some (zr (some t)), some (zi a1), some (zi a2), some (zi a3), some (zi a4), some (zi a5), some (zi 16)] [] (zwi S (zfl I (t + 1) (t + 1 + 3) k 16 (mfd t))) r → zAt E d 181 80 [some (zr (some t)), some (zi a1), some (zi a2), some (zi a3), some (zi a4), some (zi a5), some (zi (Int32.ofNat k))] [] (zwi S I) r := by
  obtain ⟨p0, ⟨ps1, ps2, ps3⟩, ⟨pt1, pt2, pt3⟩, ⟨pl1, pl2, pl3⟩, ⟨pc1, pc2, pc3⟩, ⟨pw1, pw2, pw3⟩, ⟨pn1, pn2, pn3⟩, ⟨py1, py2, py3⟩, ⟨pf1, pf2, pf3⟩, ⟨pg1, pg2, pg3⟩⟩ := hS
  intro c
  induction c with
  | zero =>
    intro k hk I r hr
    obtain rfl : k = 16 := hk
    rw [zfl_0 (by omega)] at hr
    have hl : ((16 : Int32) ≤ Int32.ofNat 16) = True := eq_true (by decide)
    refine zat_in zP_X7_begin zk_X7_begin_80 ?_
    simp (disch := omega) only [b_X7_begin_80, zif, zdr, zkb, mK_wi, mN_wi, mJ_wi, mI_wi, sI_wi, beq_self_eq_true, Bool.true_or, Bool.or_true, Bool.or_false, Bool.and_self, Bool.and_true, Bool.true_and, ↓reduceIte, hl]
    exact ev_bk hr
  | succ c ih =>
    intro k hk I r hr
    have hl : ((16 : Int32) ≤ Int32.ofNat k) = False := by
      rw [show (16 : Int32) = Int32.ofNat 16 from rfl, i_le (by omega) (by omega)]
      exact eq_false (by omega)
    have := ih (k + 1) (by omega) (zup (zup (zup I (t + 1) k 1000) (t + 1 + 1) k 0) (t + 1 + 2) k (-1)) r (by
      rw [zfl_s3 (f := mfd t) (v := 1000) (v1 := 0) (v2 := -1) (by omega) (by simp [mfd]) (by simp [mfd]) (by simp [mfd])]; exact hr)
    refine zat_in zP_X7_begin zk_X7_begin_80 ?_; simp (disch := omega) only [b_X7_begin_80, zc_X7_begin_113, b_X7_begin_113, zif, zdr, zkb, mK_wi, mN_wi, mJ_wi, mI_wi, sI_wi, beq_self_eq_true, Bool.true_or, Bool.or_true, Bool.or_false, Bool.and_self, Bool.and_true, Bool.true_and, ↓reduceIte, ble_up0, i_cl, i_succ, zix_of, zfl_k, zup_k, zup_q, p0, ps1, ps2, ps3, pt1, pt2, pt3, pl1, pl2, pl3, pc1, pc2, pc3, pw1, pw2, pw3, pn1, pn2, pn3, py1, py2, py3, pf1, pf2, pf3, pg1, pg2, pg3, hl]
    exact ev_bk this
theorem lp_X7_begin_b {a1 a2 a3 a4 a5 : Int32} (hB : E.1 ≤ t) (hS : mTS S t) : ∀ c k : Nat, k + c = 13 → ∀ I : Nat → Nat → Int32, zAt E d 181 122 [some (zr (some t)), some (zi a1), some (zi a2), some (zi a3), some (zi a4), some (zi a5), some (zi (Int32.ofNat k))] [] (zwi S I) (Sum.inl none, zwi S (zfl I (t + 4) (t + 4 + 2) k 13 zfm)) := by
  obtain ⟨p0, ⟨ps1, ps2, ps3⟩, ⟨pt1, pt2, pt3⟩, ⟨pl1, pl2, pl3⟩, ⟨pc1, pc2, pc3⟩, ⟨pw1, pw2, pw3⟩, ⟨pn1, pn2, pn3⟩, ⟨py1, py2, py3⟩, ⟨pf1, pf2, pf3⟩, ⟨pg1, pg2, pg3⟩⟩ := hS
  intro c
  induction c with
  | zero =>
    intro k hk I
    obtain rfl : k = 13 := hk
    rw [zfl_0 (by omega)]
    have hl : ((12 : Int32) < Int32.ofNat 13) = True := eq_true (by decide)
    refine zat_in zP_X7_begin zk_X7_begin_122 ?_
    simp (disch := omega) only [b_X7_begin_122, zif, zdr, zkb, mK_wi, mN_wi, mJ_wi, mI_wi, sI_wi, beq_self_eq_true, Bool.true_or, Bool.or_true, Bool.or_false, Bool.and_self, Bool.and_true, Bool.true_and, ↓reduceIte, hl]
    refine ev_bk ?_
    refine zat_in zP_X7_begin zk_X7_begin_151 ?_; simp (disch := omega) only [b_X7_begin_151, zif, zdr, zkb, mK_wi, mN_wi, mJ_wi, mI_wi, sI_wi, beq_self_eq_true, Bool.true_or, Bool.or_true, Bool.or_false, Bool.and_self, Bool.and_true, Bool.true_and, ↓reduceIte]
    exact ev_r
  | succ c ih =>
    intro k hk I
    have hl : ((12 : Int32) < Int32.ofNat k) = False := by
      rw [show (12 : Int32) = Int32.ofNat 12 from rfl, i_lt (by omega) (by omega)]
      exact eq_false (by omega)
    have := ih (k + 1) (by omega) (zup (zup I (t + 4) k (-1)) (t + 4 + 1) k (-1))
    rw [zfl_s2 (f := zfm) (v := -1) (v1 := -1) (by omega) rfl rfl] at this
    refine zat_in zP_X7_begin zk_X7_begin_122 ?_; simp (disch := omega) only [b_X7_begin_122, zif, zdr, zkb, mK_wi, mN_wi, mJ_wi, mI_wi, sI_wi, beq_self_eq_true, Bool.true_or, Bool.or_true, Bool.or_false, Bool.and_self, Bool.and_true, Bool.true_and, ↓reduceIte, ble_up0, i_cl, i_succ, zix_of, zfl_k, zup_k, zup_q, p0, ps1, ps2, ps3, pt1, pt2, pt3, pl1, pl2, pl3, pc1, pc2, pc3, pw1, pw2, pw3, pn1, pn2, pn3, py1, py2, py3, pf1, pf2, pf3, pg1, pg2, pg3, hl]
    exact ev_bk this
theorem sp_X7_begin {a2 a3 a4 a5 : Int32} (hB : E.1 ≤ t) (hS : mTS S t) (hn : nd ≤ 16) : ∃ I', zCl E d 181 [zr (some t), zi (Int32.ofNat nd), zi a2, zi a3, zi a4, zi a5] (zwi S I) (Sum.inl none, zwi S I') ∧ mP I' t nd 0 (tini (Int32.ofNat nd) a2 a3 a4 a5) ∧ I' t 1 = a2 ∧ zfI t (t + 10) I I' := by
  have p0 := hS.1
  refine ⟨?w, ?a, ?b, ?c, ?e⟩
  case a =>
    refine zcl_in' zP_X7_begin ?_; rw [zn_6_7]
    refine zat_in zP_X7_begin zk_X7_begin_0 ?_
    simp (disch := omega) only [b_X7_begin_0, zc_X7_begin_37, b_X7_begin_37, zc_X7_begin_77, b_X7_begin_77, zif, zdr, zkb, mK_wi, mN_wi, mJ_wi, mI_wi, sI_wi, beq_self_eq_true, Bool.true_or, Bool.or_true, Bool.or_false, Bool.and_self, Bool.and_true, Bool.true_and, ↓reduceIte, ble_up0, i_cl, i_succ, zix_of, zfl_k, zup_k, zup_q, p0]
    refine ev_tl zP_X7_begin zk_X7_begin_80 (lp_X7_begin_a hB hS 16 0 (by omega) _ _ ?_)
    refine zat_in zP_X7_begin zk_X7_begin_119 ?_
    simp only [b_X7_begin_119]
    refine ev_tl zP_X7_begin zk_X7_begin_122 ?_
    exact lp_X7_begin_b hB hS 13 0 (by omega) _
  case b =>
    refine mP.mk ⟨?_, ?_, ?_, ?_, ?_, ?_, ?_⟩ ⟨?_, ?_, ?_, ?_, ?_, ?_, ?_⟩ (fun j hj => ?_) (fun j hj => ?_) (fun j hj => ?_) (fun j hj => ?_) (fun j hj => ?_) (fun j hj => ?_) (fun j hj => ?_)
    all_goals (first | (exfalso; omega) | (simp (disch := omega) only [zfl_k, zfl_q, zup_k, zup_q, mfd]; first | rfl | simp [tini]))
  case c => simp (disch := omega) only [zfl_k, zfl_q, zup_k, zup_q]
  case e =>
    repeat' (first | exact zfI.rf | refine zfI.put ?_ (by omega) (by omega) | refine zfI.fl ?_ (by omega) (by omega))
end
