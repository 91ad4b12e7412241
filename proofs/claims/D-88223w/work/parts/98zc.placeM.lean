/-! ===== place (model) ===== -/
set_option maxRecDepth 100000
def tpc (G : zGl) (k : Nat) : Nat → Nat
  | 0 => 0
  | c + 1 => tpc G k c + (if c = k then 0 else if mah G c k = 0 then 0 else 1)
def tpl (G : zGl) (i : Int32) : Nat → Nat → Int32
  | 0, _ => -1
  | c + 1, k => if Int32.ofNat (tpc G k (nn (gV G 0 1))) = i then Int32.ofNat k else tpl G i c (k + 1)
theorem tpc_le {G : zGl} {k : Nat} : ∀ c, tpc G k c ≤ c
  | 0 => Nat.le_refl 0
  | c + 1 => by
    have := tpc_le (G := G) (k := k) c
    unfold tpc
    split
    · omega
    · split <;> omega
section
variable {E : zE} {d B w : Nat} {S : zM} {I : Nat → Nat → Int32} {G : zGl}
theorem lp_X6_place_a {i : Int32} {k : Nat} (h : MG S I w G) (hi : IG G) (hL : IL G) (hk : k < nn (gV G 0 1)) : ∀ c j : Nat, j + c = nn (gV G 0 1) → ∀ r, zAt E (d + 6) 170 59 [some (zr (some w)), some (zi i), some (zi (Int32.ofNat k)), some (zi (Int32.ofNat (tpc G k (nn (gV G 0 1))))), some (zi (Int32.ofNat (nn (gV G 0 1))))] [] (zwi S I) r → zAt E (d + 6) 170 20 [some (zr (some w)), some (zi i), some (zi (Int32.ofNat k)), some (zi (Int32.ofNat (tpc G k j))), some (zi (Int32.ofNat j))] [] (zwi S I) r := by
  have w0 := h.1.1.1.1
  have e5 := h.2.2.1.1.un.1.2.1.trans hi.1.1.2.1.1
  have hnt := hi.1.1.2.1.2
  intro c
  induction c with
  | zero =>
    intro j hj r hr
    obtain rfl : j = nn (gV G 0 1) := hj
    refine zat_in zP_X6_place zk_X6_place_20 ?_
    simp (disch := omega) only [b_X6_place_20, zif, zdr, zkb, mK_wi, mN_wi, mJ_wi, mI_wi, sI_wi, beq_self_eq_true, Bool.true_or, Bool.or_true, Bool.or_false, Bool.and_self, Bool.and_true, Bool.true_and, ↓reduceIte, ble_up0, i_cl, i_succ, zix_of, zfl_k, zup_k, zup_q, w0, e5, i_le, Nat.le_refl]
    exact ev_bk hr
  | succ c ih =>
    intro j hj r hr
    have l : (nn (gV G 0 1) ≤ j) = False := eq_false (by omega)
    have := ih (j + 1) (by omega) r hr
    have hu : tpc G k (j + 1) = tpc G k j + (if j = k then 0 else if mah G j k = 0 then 0 else 1) := rfl
    rw [hu] at this
    have f51 : ∀ (b : Nat), zAt E (d + 6) 170 20 [some (zr (some w)), some (zi i), some (zi (Int32.ofNat k)), some (zi (Int32.ofNat (tpc G k j + b))), some (zi (Int32.ofNat (j + 1)))] [] (zwi S I) r → zAt E (d + 6) 170 51 [some (zr (some w)), some (zi i), some (zi (Int32.ofNat k)), some (zi (Int32.ofNat (tpc G k j))), some (zi (Int32.ofNat j))] [zi (Int32.ofNat b), zi (Int32.ofNat (tpc G k j))] (zwi S I) r := by
      intro b hb
      refine zat_in zP_X6_place zk_X6_place_51 ?_; simp (disch := omega) only [b_X6_place_51, zif, zdr, zkb, mK_wi, mN_wi, mJ_wi, mI_wi, sI_wi, beq_self_eq_true, Bool.true_or, Bool.or_true, Bool.or_false, Bool.and_self, Bool.and_true, Bool.true_and, ↓reduceIte, ble_up0, i_cl, i_succ, zix_of, zfl_k, zup_k, zup_q, i_addN]
      exact ev_bk hb
    have f50 : zAt E (d + 6) 170 20 [some (zr (some w)), some (zi i), some (zi (Int32.ofNat k)), some (zi (Int32.ofNat (tpc G k j + 0))), some (zi (Int32.ofNat (j + 1)))] [] (zwi S I) r → zAt E (d + 6) 170 50 [some (zr (some w)), some (zi i), some (zi (Int32.ofNat k)), some (zi (Int32.ofNat (tpc G k j))), some (zi (Int32.ofNat j))] [zi (Int32.ofNat (tpc G k j))] (zwi S I) r := by
      intro hb
      have e50 := @b_X6_place_50
      refine zat_in zP_X6_place zk_X6_place_50 ?_
      simp only [e50]
      refine ev_tl zP_X6_place zk_X6_place_51 ?_
      exact f51 0 hb
    by_cases c1 : j = k
    · rw [if_pos c1] at this
      have e1 : (Int32.ofNat j = Int32.ofNat k) = True := eq_true (by rw [c1])
      refine zat_in zP_X6_place zk_X6_place_20 ?_
      simp (disch := omega) only [b_X6_place_20, zif, zdr, zkb, mK_wi, mN_wi, mJ_wi, mI_wi, sI_wi, beq_self_eq_true, Bool.true_or, Bool.or_true, Bool.or_false, Bool.and_self, Bool.and_true, Bool.true_and, ↓reduceIte, ble_up0, i_cl, i_succ, zix_of, zfl_k, zup_k, zup_q, w0, e5, i_le, l, e1]
      exact ev_bk (f50 this)
    · rw [if_neg c1] at this
      have e1 : (Int32.ofNat j = Int32.ofNat k) = False := by rw [i_eq (by omega) (by omega)]; exact eq_false c1
      have ca := sp_X6_isAhead (E := E) (d := d) h hi hL (show j < nn (gV G 0 1) by omega) hk
      by_cases c2 : mah G j k = 0
      · rw [if_pos c2] at this
        refine zat_in zP_X6_place zk_X6_place_20 ?_
        simp (disch := omega) only [b_X6_place_20, zif, zdr, zkb, mK_wi, mN_wi, mJ_wi, mI_wi, sI_wi, beq_self_eq_true, Bool.true_or, Bool.or_true, Bool.or_false, Bool.and_self, Bool.and_true, Bool.true_and, ↓reduceIte, ble_up0, i_cl, i_succ, zix_of, zfl_k, zup_k, zup_q, w0, e5, i_le, l, e1]
        refine ev_ci ca ?_
        simp (disch := omega) only [zif, zdr, zkb, mK_wi, mN_wi, mJ_wi, mI_wi, sI_wi, beq_self_eq_true, Bool.true_or, Bool.or_true, Bool.or_false, Bool.and_self, Bool.and_true, Bool.true_and, ↓reduceIte, ble_up0, i_cl, i_succ, zix_of, zfl_k, zup_k, zup_q, eq_true c2]
        exact ev_bk (f50 this)
      · rw [if_neg c2] at this
        refine zat_in zP_X6_place zk_X6_place_20 ?_
        simp (disch := omega) only [b_X6_place_20, zif, zdr, zkb, mK_wi, mN_wi, mJ_wi, mI_wi, sI_wi, beq_self_eq_true, Bool.true_or, Bool.or_true, Bool.or_false, Bool.and_self, Bool.and_true, Bool.true_and, ↓reduceIte, ble_up0, i_cl, i_succ, zix_of, zfl_k, zup_k, zup_q, w0, e5, i_le, l, e1]
        refine ev_ci ca ?_
        simp (disch := omega) only [zif, zdr, zkb, mK_wi, mN_wi, mJ_wi, mI_wi, sI_wi, beq_self_eq_true, Bool.true_or, Bool.or_true, Bool.or_false, Bool.and_self, Bool.and_true, Bool.true_and, ↓reduceIte, ble_up0, i_cl, i_succ, zix_of, zfl_k, zup_k, zup_q, eq_false c2]
        exact ev_bk (f51 1 this)
theorem lp_X6_place {i : Int32} (h : MG S I w G) (hi : IG G) (hL : IL G) : ∀ c k : Nat, k + c = nn (gV G 0 1) → ∀ u3 u4 : Option zV, zAt E (d + 6) 170 7 [some (zr (some w)), some (zi i), some (zi (Int32.ofNat k)), u3, u4] [] (zwi S I) (Sum.inl (some (zi (tpl G i c k))), zwi S I) := by
  have w0 := h.1.1.1.1
  have e5 := h.2.2.1.1.un.1.2.1.trans hi.1.1.2.1.1
  have hnt := hi.1.1.2.1.2
  intro c
  induction c with
  | zero =>
    intro k hk u3 u4
    obtain rfl : k = nn (gV G 0 1) := hk
    refine zat_in zP_X6_place zk_X6_place_7 ?_
    simp (disch := omega) only [b_X6_place_7, zif, zdr, zkb, mK_wi, mN_wi, mJ_wi, mI_wi, sI_wi, beq_self_eq_true, Bool.true_or, Bool.or_true, Bool.or_false, Bool.and_self, Bool.and_true, Bool.true_and, ↓reduceIte, ble_up0, i_cl, i_succ, zix_of, zfl_k, zup_k, zup_q, w0, e5, i_le, Nat.le_refl]
    refine ev_bk ?_
    refine zat_in zP_X6_place zk_X6_place_72 ?_; simp (disch := omega) only [b_X6_place_72, zif, zdr, zkb, mK_wi, mN_wi, mJ_wi, mI_wi, sI_wi, beq_self_eq_true, Bool.true_or, Bool.or_true, Bool.or_false, Bool.and_self, Bool.and_true, Bool.true_and, ↓reduceIte, ble_up0, i_cl, i_succ, zix_of, zfl_k, zup_k, zup_q]
    exact ev_r
  | succ c ih =>
    intro k hk u3 u4
    have l : (nn (gV G 0 1) ≤ k) = False := eq_false (by omega)
    unfold tpl
    refine zat_in zP_X6_place zk_X6_place_7 ?_
    simp (disch := omega) only [b_X6_place_7, zif, zdr, zkb, mK_wi, mN_wi, mJ_wi, mI_wi, sI_wi, beq_self_eq_true, Bool.true_or, Bool.or_true, Bool.or_false, Bool.and_self, Bool.and_true, Bool.true_and, ↓reduceIte, ble_up0, i_cl, i_succ, zix_of, zfl_k, zup_k, zup_q, w0, e5, i_le, l]
    refine ev_tl zP_X6_place zk_X6_place_20 ?_
    refine lp_X6_place_a h hi hL (show k < nn (gV G 0 1) by omega) (nn (gV G 0 1)) 0 (Nat.zero_add _) _ ?_
    refine zat_in zP_X6_place zk_X6_place_59 ?_
    simp only [b_X6_place_59]
    refine ev_th _ (fun z => ?_) (fun z => ?_)
    · rw [if_pos z]
      exact ev_r
    · rw [if_neg z]
      refine ev_bk ?_
      refine zat_in zP_X6_place zk_X6_place_66 ?_; simp (disch := omega) only [b_X6_place_66, zif, zdr, zkb, mK_wi, mN_wi, mJ_wi, mI_wi, sI_wi, beq_self_eq_true, Bool.true_or, Bool.or_true, Bool.or_false, Bool.and_self, Bool.and_true, Bool.true_and, ↓reduceIte, ble_up0, i_cl, i_succ, zix_of, zfl_k, zup_k, zup_q]
      exact ev_bk (ih (k + 1) (by omega) _ _)
theorem mq_place (hB : E.1 ≤ w) (h : MG S I w G) (hi : IG G) (hL : IL G) (i : Int32) : zCl E (d + 6) 170 [zr (some w), zi i] (zwi S I) (Sum.inl (some (zi (tpl G i (nn (gV G 0 1)) 0))), zwi S (zup I w 0 0)) := by
  have w0 := h.1.1.1.1
  refine zcl_in' zP_X6_place ?_; rw [zn_2_5]
  refine zat_in zP_X6_place zk_X6_place_0 ?_
  simp (disch := omega) only [b_X6_place_0, zif, zdr, zkb, mK_wi, mN_wi, mJ_wi, mI_wi, sI_wi, beq_self_eq_true, Bool.true_or, Bool.or_true, Bool.or_false, Bool.and_self, Bool.and_true, Bool.true_and, ↓reduceIte, ble_up0, i_cl, i_succ, zix_of, zfl_k, zup_k, zup_q, w0]
  refine ev_tl zP_X6_place zk_X6_place_7 ?_
  exact lp_X6_place (h.q0 hi) hi hL (nn (gV G 0 1)) 0 (Nat.zero_add _) none none
end
