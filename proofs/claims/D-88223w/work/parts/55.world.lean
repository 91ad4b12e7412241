/-! ===== the world: rows 0 (legs, teams, steps, each), 1 lengths, 2 hardness, 3 cold; what a team is told ===== -/
set_option maxRecDepth 100000
theorem i_div {a b : Nat} (ha : a < 2147483648) (hb : b < 2147483648) (h0 : 0 < b) : Int32.ofNat a / Int32.ofNat b = Int32.ofNat (a / b) := by
  have h1 : a / b ≤ a := Nat.div_le_self _ _
  rw [← Int32.toInt_inj, Int32.toInt_div_of_ne_left _ _ (by
    intro e
    have := i_int ha
    rw [e] at this
    have h2 : Int32.minValue.toInt = -2147483648 := by decide
    rw [h2] at this
    omega), i_int ha, i_int hb, i_int (by omega)]
  rfl
theorem i_div6 {a : Nat} (ha : a < 2147483648) : Int32.ofNat a / 6 = Int32.ofNat (a / 6) := i_div ha (by decide) (by decide)
def xWS (S : zM) (w : Nat) : Prop := mK S w = 4 ∧ (mK S (w + 1) = 101 ∧ mN S (w + 1) = 12 ∧ mJ S w 0 = some (w + 1)) ∧ (mK S (w + 2) = 101 ∧ mN S (w + 2) = 12 ∧ mJ S w 1 = some (w + 2)) ∧ (mK S (w + 3) = 101 ∧ mN S (w + 3) = 334 ∧ mJ S w 2 = some (w + 3))
def mWS (S : zM) (w : Nat) : Prop := mK S w = 7 ∧ (mK S (w + 1) = 101 ∧ mN S (w + 1) = 12 ∧ mJ S w 8 = some (w + 1)) ∧ (mK S (w + 2) = 101 ∧ mN S (w + 2) = 12 ∧ mJ S w 9 = some (w + 2)) ∧ (mK S (w + 3) = 101 ∧ mN S (w + 3) = 334 ∧ mJ S w 10 = some (w + 3))
def wP (I : Nat → Nat → Int32) (w : Nat) (V : zT) : Prop := (∀ j, j < 4 → I w (4 + j) = V 0 j) ∧ (∀ j, j < 12 → I (w + 1) j = V 1 j) ∧ (∀ j, j < 12 → I (w + 2) j = V 2 j) ∧ ∀ j, j < 334 → I (w + 3) j = V 3 j
def tway (a : Int32) (V : zT) : Nat → Int32
  | 0 => a
  | k + 1 => tway a V k + V 1 k
def tload (T : zT) (nd : Nat) : Int32 := T 0 1 + 25 * tcnt T 1 nd
def tstr (T : zT) (o : Option Nat) : Int32 := match o with
  | none => 0
  | some b => T 1 b
def ttold (T V : zT) (nd lg s : Nat) (n : Int32) : Int32 := if n = 0 then T 0 9 else if n = 1 then T 0 10 else if n = 2 then tstr T (tweak T nd) else if n = 3 then tmean T nd else if n = 4 then V 3 (s / 6) + 100 else if n = 5 then T 0 8 else if n = 6 then tcnt T 0 nd else if n = 7 then V 1 lg - T 0 7 else if n = 8 then Int32.ofNat (s / 6) - Int32.ofNat (s / 6) / 24 * 24 else if n = 9 then (if T 0 7 = 0 then Int32.ofNat lg else 99) else tload T nd
section
variable {E : zE} {d t w nd ng lg : Nat} {M S : zM} {I : Nat → Nat → Int32} {T V : zT}
theorem lp_X4_way (hS : xTS S t) (hW : xWS S w) (hP : xP I t nd ng T) (hV : wP I w V) (hl : T 0 6 = Int32.ofNat lg) (hlg : lg ≤ 12) : ∀ c k : Nat, k + c = lg → zAt E d 107 7 [some (zr (some t)), some (zr (some w)), some (zi (tway (T 0 7) V k)), some (zi (Int32.ofNat k))] [] (zwi S I) (Sum.inl (some (zi (tway (T 0 7) V lg))), zwi S I) := by
  obtain ⟨⟨q1, q2, q3, q4⟩, ⟨qi1, qi2, qi3⟩, ⟨qa1, qa2, qa3⟩, ⟨qs1, qs2, qs3⟩, ⟨qf1, qf2, qf3⟩, ⟨qt1, qt2, qt3⟩, q5⟩ := hS
  obtain ⟨w0, ⟨wa1, wa2, wa3⟩, -, -⟩ := hW
  have e0 : I t 7 = Int32.ofNat lg := (hP 0 6 (Or.inl ⟨rfl, by omega⟩)).trans hl
  intro c
  induction c with
  | zero =>
    intro k hk
    obtain rfl : k = lg := hk
    refine zat_in zP_X4_way zk_X4_way_7 ?_; simp (disch := omega) only [b_X4_way_7, zif, zdr, zkb, mK_wi, mN_wi, mJ_wi, mI_wi, sI_wi, beq_self_eq_true, Bool.true_or, Bool.or_true, Bool.or_false, Bool.and_self, Bool.and_true, Bool.true_and, ↓reduceIte, q1, q2, q3, q4, qi1, qi2, qi3, qa1, qa2, qa3, qs1, qs2, qs3, qf1, qf2, qf3, qt1, qt2, qt3, w0, e0, i_le, Nat.le_refl]
    refine ev_bk ?_
    refine zat_in zP_X4_way zk_X4_way_30 ?_; simp (disch := omega) only [b_X4_way_30, zif, zdr, zkb, mK_wi, mN_wi, mJ_wi, mI_wi, sI_wi, beq_self_eq_true, Bool.true_or, Bool.or_true, Bool.or_false, Bool.and_self, Bool.and_true, Bool.true_and, ↓reduceIte]
    exact ev_r
  | succ c ih =>
    intro k hk
    have hl : (lg ≤ k) = False := eq_false (by omega)
    have hz : zix (Int32.ofNat k) 12 = true := zix_of (by omega) (by omega)
    have e1 : I (w + 1) k = V 1 k := hV.2.1 k (by omega)
    refine zat_in zP_X4_way zk_X4_way_7 ?_; simp (disch := omega) only [b_X4_way_7, zif, zdr, zkb, mK_wi, mN_wi, mJ_wi, mI_wi, sI_wi, beq_self_eq_true, Bool.true_or, Bool.or_true, Bool.or_false, Bool.and_self, Bool.and_true, Bool.true_and, ↓reduceIte, q1, q2, q3, q4, qi1, qi2, qi3, qa1, qa2, qa3, qs1, qs2, qs3, qf1, qf2, qf3, qt1, qt2, qt3, w0, wa1, wa2, wa3, e0, e1, i_le, i_cl, hl, hz, i_succ]
    exact ev_bk (ih (k + 1) (by omega))
theorem sp_X4_way (hS : xTS S t) (hW : xWS S w) (hP : xP I t nd ng T) (hV : wP I w V) (hl : T 0 6 = Int32.ofNat lg) (hlg : lg ≤ 12) : zCl E d 107 [zr (some t), zr (some w)] (zwi S I) (Sum.inl (some (zi (tway (T 0 7) V lg))), zwi S I) := by
  have e1 : I t 8 = T 0 7 := hP 0 7 (Or.inl ⟨rfl, by omega⟩)
  refine zcl_in' zP_X4_way ?_; rw [zn_2_4]
  refine zat_in zP_X4_way zk_X4_way_0 ?_
  simp only [b_X4_way_0, hS.1.1, zif, zdr, zkb, mK_wi, mN_wi, mJ_wi, mI_wi, sI_wi, beq_self_eq_true, Bool.true_or, Bool.or_true, Bool.or_false, Bool.and_self, Bool.and_true, Bool.true_and, ↓reduceIte, e1]
  exact ev_tl zP_X4_way zk_X4_way_7 (lp_X4_way hS hW hP hV hl hlg lg 0 (by omega))
theorem lp_X6_way (hS : mTS S t) (hW : mWS S w) (hP : mP I t nd ng T) (hV : wP I w V) (hl : T 0 6 = Int32.ofNat lg) (hlg : lg ≤ 12) : ∀ c k : Nat, k + c = lg → zAt E d 160 7 [some (zr (some w)), some (zr (some t)), some (zi (tway (T 0 7) V k)), some (zi (Int32.ofNat k))] [] (zwi S I) (Sum.inl (some (zi (tway (T 0 7) V lg))), zwi S I) := by
  obtain ⟨p0, ⟨ps1, ps2, ps3⟩, ⟨pt1, pt2, pt3⟩, ⟨pl1, pl2, pl3⟩, ⟨pc1, pc2, pc3⟩, ⟨pw1, pw2, pw3⟩, ⟨pn1, pn2, pn3⟩, ⟨py1, py2, py3⟩, ⟨pf1, pf2, pf3⟩, ⟨pg1, pg2, pg3⟩⟩ := hS
  obtain ⟨w0, ⟨wa1, wa2, wa3⟩, -, -⟩ := hW
  have e0 : I t 6 = Int32.ofNat lg := (hP 0 6 (Or.inl ⟨rfl, by omega⟩) (by omega)).trans hl
  intro c
  induction c with
  | zero =>
    intro k hk
    obtain rfl : k = lg := hk
    refine zat_in zP_X6_way zk_X6_way_7 ?_; simp (disch := omega) only [b_X6_way_7, zif, zdr, zkb, mK_wi, mN_wi, mJ_wi, mI_wi, sI_wi, beq_self_eq_true, Bool.true_or, Bool.or_true, Bool.or_false, Bool.and_self, Bool.and_true, Bool.true_and, ↓reduceIte, p0, ps1, ps2, ps3, pt1, pt2, pt3, pl1, pl2, pl3, pc1, pc2, pc3, pw1, pw2, pw3, pn1, pn2, pn3, py1, py2, py3, pf1, pf2, pf3, pg1, pg2, pg3, w0, e0, i_le, Nat.le_refl]
    refine ev_bk ?_
    refine zat_in zP_X6_way zk_X6_way_30 ?_; simp (disch := omega) only [b_X6_way_30, zif, zdr, zkb, mK_wi, mN_wi, mJ_wi, mI_wi, sI_wi, beq_self_eq_true, Bool.true_or, Bool.or_true, Bool.or_false, Bool.and_self, Bool.and_true, Bool.true_and, ↓reduceIte]
    exact ev_r
  | succ c ih =>
    intro k hk
    have hl : (lg ≤ k) = False := eq_false (by omega)
    have hz : zix (Int32.ofNat k) 12 = true := zix_of (by omega) (by omega)
    have e1 : I (w + 1) k = V 1 k := hV.2.1 k (by omega)
    refine zat_in zP_X6_way zk_X6_way_7 ?_; simp (disch := omega) only [b_X6_way_7, zif, zdr, zkb, mK_wi, mN_wi, mJ_wi, mI_wi, sI_wi, beq_self_eq_true, Bool.true_or, Bool.or_true, Bool.or_false, Bool.and_self, Bool.and_true, Bool.true_and, ↓reduceIte, p0, ps1, ps2, ps3, pt1, pt2, pt3, pl1, pl2, pl3, pc1, pc2, pc3, pw1, pw2, pw3, pn1, pn2, pn3, py1, py2, py3, pf1, pf2, pf3, pg1, pg2, pg3, w0, wa1, wa2, wa3, e0, e1, i_le, i_cl, hl, hz, i_succ]
    exact ev_bk (ih (k + 1) (by omega))
theorem sp_X6_way (hS : mTS S t) (hW : mWS S w) (hP : mP I t nd ng T) (hV : wP I w V) (hl : T 0 6 = Int32.ofNat lg) (hlg : lg ≤ 12) : zCl E d 160 [zr (some w), zr (some t)] (zwi S I) (Sum.inl (some (zi (tway (T 0 7) V lg))), zwi S I) := by
  have e1 : I t 7 = T 0 7 := hP 0 7 (Or.inl ⟨rfl, by omega⟩) (by omega)
  refine zcl_in' zP_X6_way ?_; rw [zn_2_4]
  refine zat_in zP_X6_way zk_X6_way_0 ?_
  simp only [b_X6_way_0, hS.1, zif, zdr, zkb, mK_wi, mN_wi, mJ_wi, mI_wi, sI_wi, beq_self_eq_true, Bool.true_or, Bool.or_true, Bool.or_false, Bool.and_self, Bool.and_true, Bool.true_and, ↓reduceIte, e1]
  exact ev_tl zP_X6_way zk_X6_way_7 (lp_X6_way hS hW hP hV hl hlg lg 0 (by omega))
theorem sp_X4_told {n : Int32} {s b : Nat} (hS : xTS S t) (hW : xWS S w) (hn : nd ≤ 16) (hP : xP I t nd ng T) (hV : wP I w V) (h0 : T 0 0 = Int32.ofNat nd) (hl : T 0 6 = Int32.ofNat lg) (hlg : lg < 12) (hs : s < 2000) (hb : tweak T nd = some b) : zCl E (d + 3) 95 [zr (some t), zi n, zr (some w), zi (Int32.ofNat s)] (zwi S I) (Sum.inl (some (zi (ttold T V nd lg s n))), zwi S I) := by
  have hS' := hS
  obtain ⟨⟨q1, q2, q3, q4⟩, ⟨qi1, qi2, qi3⟩, ⟨qa1, qa2, qa3⟩, ⟨qs1, qs2, qs3⟩, ⟨qf1, qf2, qf3⟩, ⟨qt1, qt2, qt3⟩, q5⟩ := hS
  obtain ⟨w0, ⟨wa1, wa2, wa3⟩, -, ⟨wc1, wc2, wc3⟩⟩ := hW
  have e6 : I t 7 = Int32.ofNat lg := (hP 0 6 (Or.inl ⟨rfl, by omega⟩)).trans hl
  have e7 : I t 8 = T 0 7 := hP 0 7 (Or.inl ⟨rfl, by omega⟩)
  have e8 : I t 9 = T 0 8 := hP 0 8 (Or.inl ⟨rfl, by omega⟩)
  have e9 : I t 10 = T 0 9 := hP 0 9 (Or.inl ⟨rfl, by omega⟩)
  have e10 : I t 11 = T 0 10 := hP 0 10 (Or.inl ⟨rfl, by omega⟩)
  have hbl := (tweak_lt nd b hb).1
  have e11 : I (t + 7 + b) 0 = T 1 b := hP 1 b (Or.inr (Or.inl ⟨rfl, by omega⟩))
  have e12 : I (w + 1) lg = V 1 lg := hV.2.1 lg (by omega)
  have e13 : I (w + 3) (s / 6) = V 3 (s / 6) := hV.2.2.2 (s / 6) (by omega)
  have z1 : zix (Int32.ofNat lg) 12 = true := zix_of (by omega) (by omega)
  have z2 : zix (Int32.ofNat (s / 6)) 334 = true := zix_of (by omega) (by omega)
  have n6 : ((6 : Int32) != 0) = true := by decide
  have n24 : ((24 : Int32) != 0) = true := by decide
  obtain ⟨q8, q9⟩ := q5 b (by omega)
  unfold ttold
  refine zcl_in' zP_X4_told ?_; rw [zn_4_4]
  refine zat_in zP_X4_told zk_X4_told_0 ?_
  simp only [b_X4_told_0]
  refine ev_th _ (fun h => ?_) (fun h => ?_)
  · rw [if_pos h]
    refine ev_bk ?_
    refine zat_in zP_X4_told zk_X4_told_56 ?_; simp (disch := omega) only [b_X4_told_56, zif, zdr, zkb, mK_wi, mN_wi, mJ_wi, mI_wi, sI_wi, beq_self_eq_true, Bool.true_or, Bool.or_true, Bool.or_false, Bool.and_self, Bool.and_true, Bool.true_and, ↓reduceIte, q1, q2, q3, q4, qi1, qi2, qi3, qa1, qa2, qa3, qs1, qs2, qs3, qf1, qf2, qf3, qt1, qt2, qt3, e9]
    exact ev_r
  rw [if_neg h]
  refine ev_th _ (fun h => ?_) (fun h => ?_)
  · rw [if_pos h]
    refine ev_bk ?_
    refine zat_in zP_X4_told zk_X4_told_61 ?_; simp (disch := omega) only [b_X4_told_61, zif, zdr, zkb, mK_wi, mN_wi, mJ_wi, mI_wi, sI_wi, beq_self_eq_true, Bool.true_or, Bool.or_true, Bool.or_false, Bool.and_self, Bool.and_true, Bool.true_and, ↓reduceIte, q1, q2, q3, q4, qi1, qi2, qi3, qa1, qa2, qa3, qs1, qs2, qs3, qf1, qf2, qf3, qt1, qt2, qt3, e10]
    exact ev_r
  rw [if_neg h]
  refine ev_th _ (fun h => ?_) (fun h => ?_)
  · rw [if_pos h]
    refine ev_bk ?_
    refine zat_in zP_X4_told zk_X4_told_66 ?_; simp (disch := omega) only [b_X4_told_66, zif, zdr, zkb, mK_wi, mN_wi, mJ_wi, mI_wi, sI_wi, beq_self_eq_true, Bool.true_or, Bool.or_true, Bool.or_false, Bool.and_self, Bool.and_true, Bool.true_and, ↓reduceIte, q1, q2, q3, q4, qi1, qi2, qi3, qa1, qa2, qa3, qs1, qs2, qs3, qf1, qf2, qf3, qt1, qt2, qt3]
    refine ev_cr (sp_X4_weakest hS' hn hP h0) ?_
    rw [hb]
    simp only [Option.map_some, zif, zdr, zkb, mK_wi, mN_wi, mJ_wi, mI_wi, sI_wi, beq_self_eq_true, Bool.true_or, Bool.or_true, Bool.or_false, Bool.and_self, Bool.and_true, Bool.true_and, ↓reduceIte, q8, e11]
    exact ev_r
  rw [if_neg h]
  refine ev_th _ (fun h => ?_) (fun h => ?_)
  · rw [if_pos h]
    refine ev_bk ?_
    refine zat_in zP_X4_told zk_X4_told_74 ?_; simp (disch := omega) only [b_X4_told_74, zif, zdr, zkb, mK_wi, mN_wi, mJ_wi, mI_wi, sI_wi, beq_self_eq_true, Bool.true_or, Bool.or_true, Bool.or_false, Bool.and_self, Bool.and_true, Bool.true_and, ↓reduceIte, q1, q2, q3, q4, qi1, qi2, qi3, qa1, qa2, qa3, qs1, qs2, qs3, qf1, qf2, qf3, qt1, qt2, qt3]
    exact ev_ci (sp_X4_mean hS' hn hP h0) ev_r
  rw [if_neg h]
  refine ev_th _ (fun h => ?_) (fun h => ?_)
  · rw [if_pos h]
    refine ev_bk ?_
    refine zat_in zP_X4_told zk_X4_told_79 ?_; simp (disch := omega) only [b_X4_told_79, zif, zdr, zkb, mK_wi, mN_wi, mJ_wi, mI_wi, sI_wi, beq_self_eq_true, Bool.true_or, Bool.or_true, Bool.or_false, Bool.and_self, Bool.and_true, Bool.true_and, ↓reduceIte, q1, q2, q3, q4, qi1, qi2, qi3, qa1, qa2, qa3, qs1, qs2, qs3, qf1, qf2, qf3, qt1, qt2, qt3, w0, wc1, wc2, wc3, i_div6, z2, i_cl, e13, n6]
    exact ev_r
  rw [if_neg h]
  refine ev_th _ (fun h => ?_) (fun h => ?_)
  · rw [if_pos h]
    refine ev_bk ?_
    refine zat_in zP_X4_told zk_X4_told_92 ?_; simp (disch := omega) only [b_X4_told_92, zif, zdr, zkb, mK_wi, mN_wi, mJ_wi, mI_wi, sI_wi, beq_self_eq_true, Bool.true_or, Bool.or_true, Bool.or_false, Bool.and_self, Bool.and_true, Bool.true_and, ↓reduceIte, q1, q2, q3, q4, qi1, qi2, qi3, qa1, qa2, qa3, qs1, qs2, qs3, qf1, qf2, qf3, qt1, qt2, qt3, e8]
    exact ev_r
  rw [if_neg h]
  refine ev_th _ (fun h => ?_) (fun h => ?_)
  · rw [if_pos h]
    refine ev_bk ?_
    refine zat_in zP_X4_told zk_X4_told_97 ?_; simp (disch := omega) only [b_X4_told_97, zif, zdr, zkb, mK_wi, mN_wi, mJ_wi, mI_wi, sI_wi, beq_self_eq_true, Bool.true_or, Bool.or_true, Bool.or_false, Bool.and_self, Bool.and_true, Bool.true_and, ↓reduceIte, q1, q2, q3, q4, qi1, qi2, qi3, qa1, qa2, qa3, qs1, qs2, qs3, qf1, qf2, qf3, qt1, qt2, qt3]
    exact ev_ci (sp_X4_pulling hS' hn hP h0) ev_r
  rw [if_neg h]
  refine ev_th _ (fun h => ?_) (fun h => ?_)
  · rw [if_pos h]
    refine ev_bk ?_
    refine zat_in zP_X4_told zk_X4_told_102 ?_; simp (disch := omega) only [b_X4_told_102, zif, zdr, zkb, mK_wi, mN_wi, mJ_wi, mI_wi, sI_wi, beq_self_eq_true, Bool.true_or, Bool.or_true, Bool.or_false, Bool.and_self, Bool.and_true, Bool.true_and, ↓reduceIte, q1, q2, q3, q4, qi1, qi2, qi3, qa1, qa2, qa3, qs1, qs2, qs3, qf1, qf2, qf3, qt1, qt2, qt3, w0, wa1, wa2, wa3, e6, e7, z1, i_cl, e12]
    exact ev_r
  rw [if_neg h]
  refine ev_th _ (fun h => ?_) (fun h => ?_)
  · rw [if_pos h]
    refine ev_bk ?_
    refine zat_in zP_X4_told zk_X4_told_117 ?_; simp (disch := omega) only [b_X4_told_117, zif, zdr, zkb, mK_wi, mN_wi, mJ_wi, mI_wi, sI_wi, beq_self_eq_true, Bool.true_or, Bool.or_true, Bool.or_false, Bool.and_self, Bool.and_true, Bool.true_and, ↓reduceIte, i_div6, n6, n24]
    exact ev_r
  rw [if_neg h]
  refine ev_th _ (fun h => ?_) (fun h => ?_)
  · rw [if_pos h]
    refine ev_bk ?_
    refine zat_in zP_X4_told zk_X4_told_125 ?_; simp (disch := omega) only [b_X4_told_125, zif, zdr, zkb, mK_wi, mN_wi, mJ_wi, mI_wi, sI_wi, beq_self_eq_true, Bool.true_or, Bool.or_true, Bool.or_false, Bool.and_self, Bool.and_true, Bool.true_and, ↓reduceIte, q1, q2, q3, q4, qi1, qi2, qi3, qa1, qa2, qa3, qs1, qs2, qs3, qf1, qf2, qf3, qt1, qt2, qt3, e6, e7]
    refine ev_th _ (fun h => ?_) (fun h => ?_)
    · rw [if_pos h]
      refine ev_bk ?_
      refine zat_in zP_X4_told zk_X4_told_141 ?_; simp (disch := omega) only [b_X4_told_141, zif, zdr, zkb, mK_wi, mN_wi, mJ_wi, mI_wi, sI_wi, beq_self_eq_true, Bool.true_or, Bool.or_true, Bool.or_false, Bool.and_self, Bool.and_true, Bool.true_and, ↓reduceIte]
      exact ev_r
    · rw [if_neg h]
      refine ev_bk ?_
      refine zat_in zP_X4_told zk_X4_told_139 ?_; simp (disch := omega) only [b_X4_told_139, zc_X4_told_141, b_X4_told_141, zif, zdr, zkb, mK_wi, mN_wi, mJ_wi, mI_wi, sI_wi, beq_self_eq_true, Bool.true_or, Bool.or_true, Bool.or_false, Bool.and_self, Bool.and_true, Bool.true_and, ↓reduceIte]
      exact ev_r
  rw [if_neg h]
  refine ev_bk ?_
  refine zat_in zP_X4_told zk_X4_told_142 ?_; simp (disch := omega) only [b_X4_told_142, zif, zdr, zkb, mK_wi, mN_wi, mJ_wi, mI_wi, sI_wi, beq_self_eq_true, Bool.true_or, Bool.or_true, Bool.or_false, Bool.and_self, Bool.and_true, Bool.true_and, ↓reduceIte, q1, q2, q3, q4, qi1, qi2, qi3, qa1, qa2, qa3, qs1, qs2, qs3, qf1, qf2, qf3, qt1, qt2, qt3]
  exact ev_ci (sp_X4_load hS' hn hP h0) ev_r
theorem sp_X6_valueOf {n : Int32} {s b : Nat} (hS : mTS S t) (hW : mWS S w) (hn : nd ≤ 16) (hP : mP I t nd ng T) (hL : I t 1 = tload T nd) (hV : wP I w V) (h0 : T 0 0 = Int32.ofNat nd) (hl : T 0 6 = Int32.ofNat lg) (hlg : lg < 12) (hs : s < 2000) (hb : tweak T nd = some b) : zCl E (d + 3) 158 [zr (some w), zr (some t), zi n, zi (Int32.ofNat s)] (zwi S I) (Sum.inl (some (zi (ttold T V nd lg s n))), zwi S I) := by
  have hS' := hS
  obtain ⟨p0, ⟨ps1, ps2, ps3⟩, ⟨pt1, pt2, pt3⟩, ⟨pl1, pl2, pl3⟩, ⟨pc1, pc2, pc3⟩, ⟨pw1, pw2, pw3⟩, ⟨pn1, pn2, pn3⟩, ⟨py1, py2, py3⟩, ⟨pf1, pf2, pf3⟩, ⟨pg1, pg2, pg3⟩⟩ := hS
  obtain ⟨w0, ⟨wa1, wa2, wa3⟩, -, ⟨wc1, wc2, wc3⟩⟩ := hW
  have e6 : I t 6 = Int32.ofNat lg := (hP 0 6 (Or.inl ⟨rfl, by omega⟩) (by omega)).trans hl
  have e7 : I t 7 = T 0 7 := hP 0 7 (Or.inl ⟨rfl, by omega⟩) (by omega)
  have e8 : I t 2 = T 0 8 := hP 0 8 (Or.inl ⟨rfl, by omega⟩) (by omega)
  have e9 : I t 8 = T 0 9 := hP 0 9 (Or.inl ⟨rfl, by omega⟩) (by omega)
  have e10 : I t 9 = T 0 10 := hP 0 10 (Or.inl ⟨rfl, by omega⟩) (by omega)
  have hbl := (tweak_lt nd b hb).1
  have e11 : I (t + 1) b = T 1 b := hP 1 b (Or.inr (Or.inl ⟨rfl, by omega⟩)) (by omega)
  have e12 : I (w + 1) lg = V 1 lg := hV.2.1 lg (by omega)
  have e13 : I (w + 3) (s / 6) = V 3 (s / 6) := hV.2.2.2 (s / 6) (by omega)
  have z1 : zix (Int32.ofNat lg) 12 = true := zix_of (by omega) (by omega)
  have z2 : zix (Int32.ofNat (s / 6)) 334 = true := zix_of (by omega) (by omega)
  have z3 : zix (Int32.ofNat b) 16 = true := zix_of (by omega) (by omega)
  have n6 : ((6 : Int32) != 0) = true := by decide
  have n24 : ((24 : Int32) != 0) = true := by decide
  unfold ttold
  refine zcl_in' zP_X6_valueOf ?_; rw [zn_4_4]
  refine zat_in zP_X6_valueOf zk_X6_valueOf_0 ?_
  simp only [b_X6_valueOf_0]
  refine ev_th _ (fun h => ?_) (fun h => ?_)
  · rw [if_pos h]
    refine ev_bk ?_
    refine zat_in zP_X6_valueOf zk_X6_valueOf_56 ?_; simp (disch := omega) only [b_X6_valueOf_56, zif, zdr, zkb, mK_wi, mN_wi, mJ_wi, mI_wi, sI_wi, beq_self_eq_true, Bool.true_or, Bool.or_true, Bool.or_false, Bool.and_self, Bool.and_true, Bool.true_and, ↓reduceIte, p0, ps1, ps2, ps3, pt1, pt2, pt3, pl1, pl2, pl3, pc1, pc2, pc3, pw1, pw2, pw3, pn1, pn2, pn3, py1, py2, py3, pf1, pf2, pf3, pg1, pg2, pg3, e9]
    exact ev_r
  rw [if_neg h]
  refine ev_th _ (fun h => ?_) (fun h => ?_)
  · rw [if_pos h]
    refine ev_bk ?_
    refine zat_in zP_X6_valueOf zk_X6_valueOf_61 ?_; simp (disch := omega) only [b_X6_valueOf_61, zif, zdr, zkb, mK_wi, mN_wi, mJ_wi, mI_wi, sI_wi, beq_self_eq_true, Bool.true_or, Bool.or_true, Bool.or_false, Bool.and_self, Bool.and_true, Bool.true_and, ↓reduceIte, p0, ps1, ps2, ps3, pt1, pt2, pt3, pl1, pl2, pl3, pc1, pc2, pc3, pw1, pw2, pw3, pn1, pn2, pn3, py1, py2, py3, pf1, pf2, pf3, pg1, pg2, pg3, e10]
    exact ev_r
  rw [if_neg h]
  refine ev_th _ (fun h => ?_) (fun h => ?_)
  · rw [if_pos h]
    refine ev_bk ?_
    refine zat_in zP_X6_valueOf zk_X6_valueOf_66 ?_; simp (disch := omega) only [b_X6_valueOf_66, zif, zdr, zkb, mK_wi, mN_wi, mJ_wi, mI_wi, sI_wi, beq_self_eq_true, Bool.true_or, Bool.or_true, Bool.or_false, Bool.and_self, Bool.and_true, Bool.true_and, ↓reduceIte, p0, ps1, ps2, ps3, pt1, pt2, pt3, pl1, pl2, pl3, pc1, pc2, pc3, pw1, pw2, pw3, pn1, pn2, pn3, py1, py2, py3, pf1, pf2, pf3, pg1, pg2, pg3]
    refine ev_ci (sp_X7_weakest hS' hn hP h0) ?_
    rw [hb]
    simp (disch := omega) only [wI, zif, zdr, zkb, mK_wi, mN_wi, mJ_wi, mI_wi, sI_wi, beq_self_eq_true, Bool.true_or, Bool.or_true, Bool.or_false, Bool.and_self, Bool.and_true, Bool.true_and, ↓reduceIte, p0, ps1, ps2, ps3, pt1, pt2, pt3, pl1, pl2, pl3, pc1, pc2, pc3, pw1, pw2, pw3, pn1, pn2, pn3, py1, py2, py3, pf1, pf2, pf3, pg1, pg2, pg3, z3, i_cl, e11]
    exact ev_r
  rw [if_neg h]
  refine ev_th _ (fun h => ?_) (fun h => ?_)
  · rw [if_pos h]
    refine ev_bk ?_
    refine zat_in zP_X6_valueOf zk_X6_valueOf_76 ?_; simp (disch := omega) only [b_X6_valueOf_76, zif, zdr, zkb, mK_wi, mN_wi, mJ_wi, mI_wi, sI_wi, beq_self_eq_true, Bool.true_or, Bool.or_true, Bool.or_false, Bool.and_self, Bool.and_true, Bool.true_and, ↓reduceIte, p0, ps1, ps2, ps3, pt1, pt2, pt3, pl1, pl2, pl3, pc1, pc2, pc3, pw1, pw2, pw3, pn1, pn2, pn3, py1, py2, py3, pf1, pf2, pf3, pg1, pg2, pg3]
    exact ev_ci (sp_X7_mean hS' hn hP h0) ev_r
  rw [if_neg h]
  refine ev_th _ (fun h => ?_) (fun h => ?_)
  · rw [if_pos h]
    refine ev_bk ?_
    refine zat_in zP_X6_valueOf zk_X6_valueOf_81 ?_; simp (disch := omega) only [b_X6_valueOf_81, zif, zdr, zkb, mK_wi, mN_wi, mJ_wi, mI_wi, sI_wi, beq_self_eq_true, Bool.true_or, Bool.or_true, Bool.or_false, Bool.and_self, Bool.and_true, Bool.true_and, ↓reduceIte, p0, ps1, ps2, ps3, pt1, pt2, pt3, pl1, pl2, pl3, pc1, pc2, pc3, pw1, pw2, pw3, pn1, pn2, pn3, py1, py2, py3, pf1, pf2, pf3, pg1, pg2, pg3, w0, wc1, wc2, wc3, i_div6, z2, i_cl, e13, n6]
    exact ev_r
  rw [if_neg h]
  refine ev_th _ (fun h => ?_) (fun h => ?_)
  · rw [if_pos h]
    refine ev_bk ?_
    refine zat_in zP_X6_valueOf zk_X6_valueOf_94 ?_; simp (disch := omega) only [b_X6_valueOf_94, zif, zdr, zkb, mK_wi, mN_wi, mJ_wi, mI_wi, sI_wi, beq_self_eq_true, Bool.true_or, Bool.or_true, Bool.or_false, Bool.and_self, Bool.and_true, Bool.true_and, ↓reduceIte, p0, ps1, ps2, ps3, pt1, pt2, pt3, pl1, pl2, pl3, pc1, pc2, pc3, pw1, pw2, pw3, pn1, pn2, pn3, py1, py2, py3, pf1, pf2, pf3, pg1, pg2, pg3, e8]
    exact ev_r
  rw [if_neg h]
  refine ev_th _ (fun h => ?_) (fun h => ?_)
  · rw [if_pos h]
    refine ev_bk ?_
    refine zat_in zP_X6_valueOf zk_X6_valueOf_99 ?_; simp (disch := omega) only [b_X6_valueOf_99, zif, zdr, zkb, mK_wi, mN_wi, mJ_wi, mI_wi, sI_wi, beq_self_eq_true, Bool.true_or, Bool.or_true, Bool.or_false, Bool.and_self, Bool.and_true, Bool.true_and, ↓reduceIte, p0, ps1, ps2, ps3, pt1, pt2, pt3, pl1, pl2, pl3, pc1, pc2, pc3, pw1, pw2, pw3, pn1, pn2, pn3, py1, py2, py3, pf1, pf2, pf3, pg1, pg2, pg3]
    exact ev_ci (sp_X7_of hS' hn hP h0) ev_r
  rw [if_neg h]
  refine ev_th _ (fun h => ?_) (fun h => ?_)
  · rw [if_pos h]
    refine ev_bk ?_
    refine zat_in zP_X6_valueOf zk_X6_valueOf_105 ?_; simp (disch := omega) only [b_X6_valueOf_105, zif, zdr, zkb, mK_wi, mN_wi, mJ_wi, mI_wi, sI_wi, beq_self_eq_true, Bool.true_or, Bool.or_true, Bool.or_false, Bool.and_self, Bool.and_true, Bool.true_and, ↓reduceIte, p0, ps1, ps2, ps3, pt1, pt2, pt3, pl1, pl2, pl3, pc1, pc2, pc3, pw1, pw2, pw3, pn1, pn2, pn3, py1, py2, py3, pf1, pf2, pf3, pg1, pg2, pg3, w0, wa1, wa2, wa3, e6, e7, z1, i_cl, e12]
    exact ev_r
  rw [if_neg h]
  refine ev_th _ (fun h => ?_) (fun h => ?_)
  · rw [if_pos h]
    refine ev_bk ?_
    refine zat_in zP_X6_valueOf zk_X6_valueOf_120 ?_; simp (disch := omega) only [b_X6_valueOf_120, zif, zdr, zkb, mK_wi, mN_wi, mJ_wi, mI_wi, sI_wi, beq_self_eq_true, Bool.true_or, Bool.or_true, Bool.or_false, Bool.and_self, Bool.and_true, Bool.true_and, ↓reduceIte, i_div6, n6, n24]
    exact ev_r
  rw [if_neg h]
  refine ev_th _ (fun h => ?_) (fun h => ?_)
  · rw [if_pos h]
    refine ev_bk ?_
    refine zat_in zP_X6_valueOf zk_X6_valueOf_128 ?_; simp (disch := omega) only [b_X6_valueOf_128, zif, zdr, zkb, mK_wi, mN_wi, mJ_wi, mI_wi, sI_wi, beq_self_eq_true, Bool.true_or, Bool.or_true, Bool.or_false, Bool.and_self, Bool.and_true, Bool.true_and, ↓reduceIte, p0, ps1, ps2, ps3, pt1, pt2, pt3, pl1, pl2, pl3, pc1, pc2, pc3, pw1, pw2, pw3, pn1, pn2, pn3, py1, py2, py3, pf1, pf2, pf3, pg1, pg2, pg3, e6, e7]
    refine ev_th _ (fun h => ?_) (fun h => ?_)
    · rw [if_pos h]
      refine ev_bk ?_
      refine zat_in zP_X6_valueOf zk_X6_valueOf_144 ?_; simp (disch := omega) only [b_X6_valueOf_144, zif, zdr, zkb, mK_wi, mN_wi, mJ_wi, mI_wi, sI_wi, beq_self_eq_true, Bool.true_or, Bool.or_true, Bool.or_false, Bool.and_self, Bool.and_true, Bool.true_and, ↓reduceIte]
      exact ev_r
    · rw [if_neg h]
      refine ev_bk ?_
      refine zat_in zP_X6_valueOf zk_X6_valueOf_142 ?_; simp (disch := omega) only [b_X6_valueOf_142, zc_X6_valueOf_144, b_X6_valueOf_144, zif, zdr, zkb, mK_wi, mN_wi, mJ_wi, mI_wi, sI_wi, beq_self_eq_true, Bool.true_or, Bool.or_true, Bool.or_false, Bool.and_self, Bool.and_true, Bool.true_and, ↓reduceIte]
      exact ev_r
  rw [if_neg h]
  refine ev_bk ?_
  refine zat_in zP_X6_valueOf zk_X6_valueOf_145 ?_; simp (disch := omega) only [b_X6_valueOf_145, zif, zdr, zkb, mK_wi, mN_wi, mJ_wi, mI_wi, sI_wi, beq_self_eq_true, Bool.true_or, Bool.or_true, Bool.or_false, Bool.and_self, Bool.and_true, Bool.true_and, ↓reduceIte, p0, ps1, ps2, ps3, pt1, pt2, pt3, pl1, pl2, pl3, pc1, pc2, pc3, pw1, pw2, pw3, pn1, pn2, pn3, py1, py2, py3, pf1, pf2, pf3, pg1, pg2, pg3, hL]
  exact ev_r
end
