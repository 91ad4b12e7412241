/-! ===== which rule holds, both sides; gaps ===== -/
set_option maxRecDepth 100000
theorem i_mulN {a b : Nat} : Int32.ofNat a * Int32.ofNat b = Int32.ofNat (a * b) := by rw [Int32.ofNat_mul]
theorem i_12 {a : Nat} : 12 * Int32.ofNat a = Int32.ofNat (12 * a) := i_mulN (a := 12)
theorem i_4 {a : Nat} : 4 * Int32.ofNat a = Int32.ofNat (4 * a) := i_mulN (a := 4)
theorem i_addN {a b : Nat} : Int32.ofNat a + Int32.ofNat b = Int32.ofNat (a + b) := i_add
def rI (nr r : Nat) : Int32 := if nr ≤ r then -1 else Int32.ofNat r
section
variable {E : zE} {d t w nd ng lg s b q lo p : Nat} {M S : zM} {I : Nat → Nat → Int32} {T V : zT} {L : zPL}
theorem lp_X9_rule {pa : Nat} (hR : xPl S I lo pa p L) (hS : xTS S t) (hW : xWS S w) (hn : nd ≤ 16) (hP : xP I t nd ng T) (hV : wP I w V) (h0 : T 0 0 = Int32.ofNat nd) (hl : T 0 6 = Int32.ofNat lg) (hlg : lg < 12) (hs : s < 2000) (hb : tweak T nd = some b) : ∀ c k : Nat, k + c = pnr L p → zAt E (d + 6) 190 3 [some (zr (some pa)), some (zr (some t)), some (zr (some w)), some (zi (Int32.ofNat s)), some (zi (Int32.ofNat k))] [] (zwi S I) (Sum.inl (some (zi (rI (pnr L p) (trul (ttold T V nd lg s) L p c k)))), zwi S I) := by
  obtain ⟨-, k1, k2, k3, ra, -, k5, k6, k7, k8⟩ := hR
  intro c
  induction c with
  | zero =>
    intro k hk
    obtain rfl : k = pnr L p := hk
    rw [show rI (pnr L p) (trul (ttold T V nd lg s) L p 0 (pnr L p)) = -1 from if_pos (Nat.le_refl _)]
    refine zat_in zP_X9_rule zk_X9_rule_3 ?_; simp (disch := omega) only [b_X9_rule_3, zif, zdr, zkb, mK_wi, mN_wi, mJ_wi, mI_wi, sI_wi, beq_self_eq_true, Bool.true_or, Bool.or_true, Bool.or_false, Bool.and_self, Bool.and_true, Bool.true_and, ↓reduceIte, k1, k2, i_le, Nat.le_refl]
    refine ev_bk ?_
    refine zat_in zP_X9_rule zk_X9_rule_34 ?_; simp (disch := omega) only [b_X9_rule_34, zif, zdr, zkb, mK_wi, mN_wi, mJ_wi, mI_wi, sI_wi, beq_self_eq_true, Bool.true_or, Bool.or_true, Bool.or_false, Bool.and_self, Bool.and_true, Bool.true_and, ↓reduceIte, k1, k2, i_le, Nat.le_refl]
    refine ev_bk ?_
    refine zat_in zP_X9_rule zk_X9_rule_48 ?_; simp (disch := omega) only [b_X9_rule_48, zc_X9_rule_49, b_X9_rule_49, zif, zdr, zkb, mK_wi, mN_wi, mJ_wi, mI_wi, sI_wi, beq_self_eq_true, Bool.true_or, Bool.or_true, Bool.or_false, Bool.and_self, Bool.and_true, Bool.true_and, ↓reduceIte]
    exact ev_r
  | succ c ih =>
    intro k hk
    have hle : (pnr L p ≤ k) = False := eq_false (by omega)
    obtain ⟨rr, k9, k10⟩ := k8 k (by omega)
    have hz : zix (Int32.ofNat k) 12 = true := zix_of (by omega) (by omega)
    refine zat_in zP_X9_rule zk_X9_rule_3 ?_; simp (disch := omega) only [b_X9_rule_3, zif, zdr, zkb, mK_wi, mN_wi, mJ_wi, mI_wi, sI_wi, beq_self_eq_true, Bool.true_or, Bool.or_true, Bool.or_false, Bool.and_self, Bool.and_true, Bool.true_and, ↓reduceIte, k1, k2, k5, k6, k7, k9, k10.2.1, i_le, i_cl, hle, hz, Nat.reduceLeDiff]
    refine ev_ci (sp_X10_holds k10 hS hW hn hP hV h0 hl hlg hs hb) ?_
    unfold trul
    refine ev_th _ (fun h => ?_) (fun h => ?_)
    · rw [if_pos h, i_succ]
      exact ev_bk (ih (k + 1) (by omega))
    · rw [if_neg h, show rI (pnr L p) k = Int32.ofNat k from if_neg (by omega)]
      refine ev_bk ?_
      refine zat_in zP_X9_rule zk_X9_rule_34 ?_; simp (disch := omega) only [b_X9_rule_34, zif, zdr, zkb, mK_wi, mN_wi, mJ_wi, mI_wi, sI_wi, beq_self_eq_true, Bool.true_or, Bool.or_true, Bool.or_false, Bool.and_self, Bool.and_true, Bool.true_and, ↓reduceIte, k1, k2, i_le, hle]
      refine ev_bk ?_
      refine zat_in zP_X9_rule zk_X9_rule_49 ?_; simp (disch := omega) only [b_X9_rule_49, zif, zdr, zkb, mK_wi, mN_wi, mJ_wi, mI_wi, sI_wi, beq_self_eq_true, Bool.true_or, Bool.or_true, Bool.or_false, Bool.and_self, Bool.and_true, Bool.true_and, ↓reduceIte]
      exact ev_r
theorem sp_X9_rule {pa : Nat} (hR : xPl S I lo pa p L) (hS : xTS S t) (hW : xWS S w) (hn : nd ≤ 16) (hP : xP I t nd ng T) (hV : wP I w V) (h0 : T 0 0 = Int32.ofNat nd) (hl : T 0 6 = Int32.ofNat lg) (hlg : lg < 12) (hs : s < 2000) (hb : tweak T nd = some b) : zCl E (d + 6) 190 [zr (some pa), zr (some t), zr (some w), zi (Int32.ofNat s)] (zwi S I) (Sum.inl (some (zi (rI (pnr L p) (trul (ttold T V nd lg s) L p (pnr L p) 0)))), zwi S I) := by
  refine zcl_in' zP_X9_rule ?_; rw [zn_4_5]
  refine zat_in zP_X9_rule zk_X9_rule_0 ?_
  simp only [b_X9_rule_0]
  exact ev_tl zP_X9_rule zk_X9_rule_3 (lp_X9_rule hR hS hW hn hP hV h0 hl hlg hs hb (pnr L p) 0 (by omega))
theorem lp_X6_holds {u : Option zV} (hR : mRu I w q L) (hM : mPS S w) (hS : mTS S t) (hW : mWS S w) (hn : nd ≤ 16) (hP : mP I t nd ng T) (hL : I t 1 = tload T nd) (hV : wP I w V) (h0 : T 0 0 = Int32.ofNat nd) (hl : T 0 6 = Int32.ofNat lg) (hlg : lg < 12) (hs : s < 2000) (hb : tweak T nd = some b) (hq : q < 108) : ∀ (c k : Nat) (u : Option zV), k + c = pnt L q → zAt E (d + 4) 157 8 [some (zr (some w)), some (zr (some t)), some (zi (Int32.ofNat q)), some (zi (Int32.ofNat s)), some (zi (tall (ttold T V nd lg s) L q k)), some (zi (Int32.ofNat (4 * q + k))), u] [] (zwi S I) (Sum.inl (some (zi (tall (ttold T V nd lg s) L q (pnt L q)))), zwi S I) := by
  obtain ⟨k1, k2, k3, k4⟩ := hR
  obtain ⟨m0, -, -, ⟨mt1, mt2, mt3⟩, ⟨mn1, mn2, mn3⟩, ⟨mb1, mb2, mb3⟩, ⟨ml1, ml2, ml3⟩⟩ := hM
  have z1 : zix (Int32.ofNat q) 108 = true := zix_of hq (by omega)
  intro c
  induction c with
  | zero =>
    intro k u hk
    obtain rfl : k = pnt L q := hk
    refine zat_in zP_X6_holds zk_X6_holds_8 ?_; simp (disch := omega) only [b_X6_holds_8, zif, zdr, zkb, mK_wi, mN_wi, mJ_wi, mI_wi, sI_wi, beq_self_eq_true, Bool.true_or, Bool.or_true, Bool.or_false, Bool.and_self, Bool.and_true, Bool.true_and, ↓reduceIte, m0, mt1, mt2, mt3, z1, i_cl, k2, i_4, i_addN, i_le, Nat.le_refl]
    refine ev_bk ?_
    refine zat_in zP_X6_holds zk_X6_holds_93 ?_; simp (disch := omega) only [b_X6_holds_93, zif, zdr, zkb, mK_wi, mN_wi, mJ_wi, mI_wi, sI_wi, beq_self_eq_true, Bool.true_or, Bool.or_true, Bool.or_false, Bool.and_self, Bool.and_true, Bool.true_and, ↓reduceIte, z01 (tall_b _)]
    exact ev_r
  | succ c ih =>
    intro k u hk
    have hle : (4 * q + pnt L q ≤ 4 * q + k) = False := eq_false (by omega)
    obtain ⟨k5, k6, k7⟩ := k4 k (by omega)
    have z2 : zix (Int32.ofNat (4 * q + k)) 432 = true := zix_of (by omega) (by omega)
    refine zat_in zP_X6_holds zk_X6_holds_8 ?_; simp (disch := omega) only [b_X6_holds_8, zif, zdr, zkb, mK_wi, mN_wi, mJ_wi, mI_wi, sI_wi, beq_self_eq_true, Bool.true_or, Bool.or_true, Bool.or_false, Bool.and_self, Bool.and_true, Bool.true_and, ↓reduceIte, m0, mt1, mt2, mt3, mn1, mn2, mn3, z1, z2, i_cl, k2, k5, i_4, i_addN, i_le, hle]
    refine ev_ci (sp_X6_valueOf hS hW hn hP hL hV h0 hl hlg hs hb) ?_
    have h3 := fun u => ih (k + 1) u (by omega)
    have h4 : tall (ttold T V nd lg s) L q (k + 1) = if tall (ttold T V nd lg s) L q k = 0 then 0 else tth (ttold T V nd lg s (pA L 3 (4 * q + k))) (pA L 4 (4 * q + k)) (pA L 5 (4 * q + k)) := rfl
    rw [h4] at h3
    generalize ttold T V nd lg s (pA L 3 (4 * q + k)) = v at h3 ⊢
    generalize tall (ttold T V nd lg s) L q k = a at h3 ⊢
    have e9 : 4 * q + (k + 1) = 4 * q + k + 1 := by omega
    unfold tth at h3
    rw [e9] at h3
    simp (disch := omega) only [zif, zdr, zkb, mK_wi, mN_wi, mJ_wi, mI_wi, sI_wi, beq_self_eq_true, Bool.true_or, Bool.or_true, Bool.or_false, Bool.and_self, Bool.and_true, Bool.true_and, ↓reduceIte, m0, mb1, mb2, mb3, ml1, ml2, ml3, z2, i_cl, k6, k7, zkb]
    refine ev_th _ (fun h => ?_) (fun h => ?_)
    · rw [if_pos h] at h3
      refine ev_bk ?_
      refine zat_in zP_X6_holds zk_X6_holds_84 ?_; simp (disch := omega) only [b_X6_holds_84, zc_X6_holds_85, b_X6_holds_85, zif, zdr, zkb, mK_wi, mN_wi, mJ_wi, mI_wi, sI_wi, beq_self_eq_true, Bool.true_or, Bool.or_true, Bool.or_false, Bool.and_self, Bool.and_true, Bool.true_and, ↓reduceIte, i_succ]
      exact ev_bk (h3 _)
    · rw [if_neg h] at h3
      refine ev_th _ (fun h => ?_) (fun h => ?_)
      · rw [if_pos h] at h3
        refine ev_bk ?_
        refine zat_in zP_X6_holds zk_X6_holds_68 ?_; simp (disch := omega) only [b_X6_holds_68, zc_X6_holds_80, b_X6_holds_80, zif, zdr, zkb, mK_wi, mN_wi, mJ_wi, mI_wi, sI_wi, beq_self_eq_true, Bool.true_or, Bool.or_true, Bool.or_false, Bool.and_self, Bool.and_true, Bool.true_and, ↓reduceIte, m0, mb1, mb2, mb3, z2, i_cl, k7]
        refine ev_th _ (fun h => ?_) (fun h => ?_)
        · rw [if_pos h] at h3
          refine ev_bk ?_
          refine zat_in zP_X6_holds zk_X6_holds_84 ?_; simp (disch := omega) only [b_X6_holds_84, zc_X6_holds_85, b_X6_holds_85, zif, zdr, zkb, mK_wi, mN_wi, mJ_wi, mI_wi, sI_wi, beq_self_eq_true, Bool.true_or, Bool.or_true, Bool.or_false, Bool.and_self, Bool.and_true, Bool.true_and, ↓reduceIte, i_succ]
          exact ev_bk (h3 _)
        · rw [if_neg h] at h3
          refine ev_bk ?_
          refine zat_in zP_X6_holds zk_X6_holds_85 ?_; simp (disch := omega) only [b_X6_holds_85, zif, zdr, zkb, mK_wi, mN_wi, mJ_wi, mI_wi, sI_wi, beq_self_eq_true, Bool.true_or, Bool.or_true, Bool.or_false, Bool.and_self, Bool.and_true, Bool.true_and, ↓reduceIte, i_succ]
          exact ev_bk (h3 _)
      · rw [if_neg h] at h3
        refine ev_th _ (fun h => ?_) (fun h => ?_)
        · rw [if_pos h] at h3
          refine ev_bk ?_
          refine zat_in zP_X6_holds zk_X6_holds_84 ?_; simp (disch := omega) only [b_X6_holds_84, zc_X6_holds_85, b_X6_holds_85, zif, zdr, zkb, mK_wi, mN_wi, mJ_wi, mI_wi, sI_wi, beq_self_eq_true, Bool.true_or, Bool.or_true, Bool.or_false, Bool.and_self, Bool.and_true, Bool.true_and, ↓reduceIte, i_succ]
          exact ev_bk (h3 _)
        · rw [if_neg h] at h3
          refine ev_bk ?_
          refine zat_in zP_X6_holds zk_X6_holds_80 ?_; simp (disch := omega) only [b_X6_holds_80, zif, zdr, zkb, mK_wi, mN_wi, mJ_wi, mI_wi, sI_wi, beq_self_eq_true, Bool.true_or, Bool.or_true, Bool.or_false, Bool.and_self, Bool.and_true, Bool.true_and, ↓reduceIte]
          refine ev_bk ?_
          refine zat_in zP_X6_holds zk_X6_holds_85 ?_; simp (disch := omega) only [b_X6_holds_85, zif, zdr, zkb, mK_wi, mN_wi, mJ_wi, mI_wi, sI_wi, beq_self_eq_true, Bool.true_or, Bool.or_true, Bool.or_false, Bool.and_self, Bool.and_true, Bool.true_and, ↓reduceIte, i_succ]
          exact ev_bk (h3 _)
theorem sp_X6_holds (hR : mRu I w q L) (hM : mPS S w) (hS : mTS S t) (hW : mWS S w) (hn : nd ≤ 16) (hP : mP I t nd ng T) (hL : I t 1 = tload T nd) (hV : wP I w V) (h0 : T 0 0 = Int32.ofNat nd) (hl : T 0 6 = Int32.ofNat lg) (hlg : lg < 12) (hs : s < 2000) (hb : tweak T nd = some b) (hq : q < 108) : zCl E (d + 4) 157 [zr (some w), zr (some t), zi (Int32.ofNat q), zi (Int32.ofNat s)] (zwi S I) (Sum.inl (some (zi (tall (ttold T V nd lg s) L q (pnt L q)))), zwi S I) := by
  refine zcl_in' zP_X6_holds ?_; rw [zn_4_7]
  refine zat_in zP_X6_holds zk_X6_holds_0 ?_
  simp only [b_X6_holds_0, i_4]
  exact ev_tl zP_X6_holds zk_X6_holds_8 (lp_X6_holds (u := none) hR hM hS hW hn hP hL hV h0 hl hlg hs hb hq (pnt L q) 0 none (by omega))
end
