/-! ===== whether it goes on; the trail; both sides ===== -/
set_option maxRecDepth 100000
def tlive (TT : Nat → zT) : Nat → Int32
  | 0 => 0
  | k + 1 => if tlive TT k = 0 then (if 2 ≤ TT k 0 5 then 0 else 1) else 1
theorem tlive_b {TT : Nat → zT} : ∀ k, tlive TT k = 0 ∨ tlive TT k = 1
  | 0 => Or.inl rfl
  | k + 1 => by
    unfold tlive
    split
    · split
      · exact Or.inl rfl
      · exact Or.inr rfl
    · exact Or.inr rfl
theorem tlive_1 {TT : Nat → zT} {k : Nat} (h : ¬ tlive TT k = 0) : ∀ c, tlive TT (k + c) = 1
  | 0 => (tlive_b k).resolve_left h
  | c + 1 => by
    show tlive TT (k + c + 1) = 1
    unfold tlive
    rw [if_neg (by rw [tlive_1 h c]; decide)]
def tgon (TT : Nat → zT) (V : zT) : Int32 := if tlive TT (nn (V 0 1)) = 0 then 0 else if 2000 ≤ V 0 2 then 0 else 1
theorem i_nle {a b : Int32} : (a < b) = ¬ (b ≤ a) := by
  rw [Int32.lt_iff_toInt_lt, Int32.le_iff_toInt_le]
  exact propext (by omega)
section
variable {E : zE} {d w nt : Nat} {S : zM} {I : Nat → Nat → Int32} {V : zT} {TT : Nat → zT}
theorem lp_X3_goesOn (hS : xWT S w) (hnt : nt ≤ 6) (e0 : I w 5 = Int32.ofNat nt) (hT : ∀ k, k < nt → I (w + 5 + 23 * k) 6 = TT k 0 5) : ∀ c k : Nat, k + c = nt → ∀ r, (∀ j, zAt E d 88 41 [some (zr (some w)), some (zi (tlive TT nt)), some (zi (Int32.ofNat j))] [] (zwi S I) r) → zAt E d 88 4 [some (zr (some w)), some (zi (tlive TT k)), some (zi (Int32.ofNat k))] [] (zwi S I) r := by
  obtain ⟨⟨w0, -⟩, ⟨w1, w2, w3⟩, w4⟩ := hS
  intro c
  induction c with
  | zero =>
    intro k hk r hr
    obtain rfl : k = nt := hk
    refine zat_in zP_X3_goesOn zk_X3_goesOn_4 ?_
    simp (disch := omega) only [b_X3_goesOn_4, zif, zdr, zkb, mK_wi, mN_wi, mJ_wi, mI_wi, sI_wi, beq_self_eq_true, Bool.true_or, Bool.or_true, Bool.or_false, Bool.and_self, Bool.and_true, Bool.true_and, ↓reduceIte, w0, e0, i_le, Nat.le_refl]
    exact ev_bk (hr k)
  | succ c ih =>
    intro k hk r hr
    have hl : (nt ≤ k) = False := eq_false (by omega)
    obtain ⟨g1, g2⟩ := w4 k (by omega)
    have e1 := hT k (by omega)
    have h3 := ih (k + 1) (by omega) r hr
    have hu : tlive TT (k + 1) = if tlive TT k = 0 then (if 2 ≤ TT k 0 5 then 0 else 1) else 1 := rfl
    rw [hu] at h3
    by_cases h : tlive TT k = 0
    · rw [if_pos h] at h3
      refine zat_in zP_X3_goesOn zk_X3_goesOn_4 ?_
      simp (disch := omega) only [b_X3_goesOn_4, zif, zdr, zkb, mK_wi, mN_wi, mJ_wi, mI_wi, sI_wi, beq_self_eq_true, Bool.true_or, Bool.or_true, Bool.or_false, Bool.and_self, Bool.and_true, Bool.true_and, ↓reduceIte, ble_up0, i_cl, i_succ, zix_of, zfl_k, zup_k, zup_q, w0, w1, w2, w3, e0, e1, g1.1.1, g2, i_le, hl, eq_true h]
      refine ev_th _ (fun h => ?_) (fun h => ?_)
      · rw [if_pos h] at h3
        refine ev_bk ?_
        refine zat_in zP_X3_goesOn zk_X3_goesOn_33 ?_; simp (disch := omega) only [b_X3_goesOn_33, zc_X3_goesOn_34, b_X3_goesOn_34, zif, zdr, zkb, mK_wi, mN_wi, mJ_wi, mI_wi, sI_wi, beq_self_eq_true, Bool.true_or, Bool.or_true, Bool.or_false, Bool.and_self, Bool.and_true, Bool.true_and, ↓reduceIte, i_succ]
        exact ev_bk h3
      · rw [if_neg h] at h3
        refine ev_bk ?_
        refine zat_in zP_X3_goesOn zk_X3_goesOn_34 ?_; simp (disch := omega) only [b_X3_goesOn_34, zif, zdr, zkb, mK_wi, mN_wi, mJ_wi, mI_wi, sI_wi, beq_self_eq_true, Bool.true_or, Bool.or_true, Bool.or_false, Bool.and_self, Bool.and_true, Bool.true_and, ↓reduceIte, i_succ]
        exact ev_bk h3
    · have h4 := tlive_1 h (c + 1)
      rw [hk] at h4
      have h5 := (tlive_b (TT := TT) k).resolve_left h
      refine zat_in zP_X3_goesOn zk_X3_goesOn_4 ?_
      simp (disch := omega) only [b_X3_goesOn_4, zif, zdr, zkb, mK_wi, mN_wi, mJ_wi, mI_wi, sI_wi, beq_self_eq_true, Bool.true_or, Bool.or_true, Bool.or_false, Bool.and_self, Bool.and_true, Bool.true_and, ↓reduceIte, ble_up0, i_cl, i_succ, zix_of, zfl_k, zup_k, zup_q, w0, e0, i_le, hl, eq_false h]
      refine ev_bk ?_
      have := hr k
      rw [h4] at this
      rw [h5]
      exact this
theorem sp_X3_goesOn (hS : xWT S w) (hnt : sm (V 0 1) 6) (hP : xW I w V TT) : zCl E d 88 [zr (some w)] (zwi S I) (Sum.inl (some (zi (tgon TT V))), zwi S I) := by
  have w0 := hS.1.1
  obtain ⟨⟨v0, v1, v2, v3⟩, -⟩ := hP.1.un
  have hj : ∀ j, zAt E d 88 41 [some (zr (some w)), some (zi (tlive TT (nn (V 0 1)))), some (zi (Int32.ofNat j))] [] (zwi S I) (Sum.inl (some (zi (tgon TT V))), zwi S I) := by
    intro j
    unfold tgon
    refine zat_in zP_X3_goesOn zk_X3_goesOn_41 ?_
    simp (disch := omega) only [b_X3_goesOn_41, zif, zdr, zkb, mK_wi, mN_wi, mJ_wi, mI_wi, sI_wi, beq_self_eq_true, Bool.true_or, Bool.or_true, Bool.or_false, Bool.and_self, Bool.and_true, Bool.true_and, ↓reduceIte, w0, v2]
    refine ev_th _ (fun h => ?_) (fun h => ?_)
    · rw [if_pos h]
      refine ev_bk ?_
      refine zat_in zP_X3_goesOn zk_X3_goesOn_59 ?_; simp (disch := omega) only [b_X3_goesOn_59, zc_X3_goesOn_60, b_X3_goesOn_60, zif, zdr, zkb, mK_wi, mN_wi, mJ_wi, mI_wi, sI_wi, beq_self_eq_true, Bool.true_or, Bool.or_true, Bool.or_false, Bool.and_self, Bool.and_true, Bool.true_and, ↓reduceIte, z01]
      exact ev_r
    · rw [if_neg h]
      refine ev_th _ (fun h => ?_) (fun h => ?_)
      · rw [if_pos h]
        refine ev_bk ?_
        refine zat_in zP_X3_goesOn zk_X3_goesOn_59 ?_; simp (disch := omega) only [b_X3_goesOn_59, zc_X3_goesOn_60, b_X3_goesOn_60, zif, zdr, zkb, mK_wi, mN_wi, mJ_wi, mI_wi, sI_wi, beq_self_eq_true, Bool.true_or, Bool.or_true, Bool.or_false, Bool.and_self, Bool.and_true, Bool.true_and, ↓reduceIte, z01]
        exact ev_r
      · rw [if_neg h]
        refine ev_bk ?_
        refine zat_in zP_X3_goesOn zk_X3_goesOn_60 ?_; simp (disch := omega) only [b_X3_goesOn_60, zif, zdr, zkb, mK_wi, mN_wi, mJ_wi, mI_wi, sI_wi, beq_self_eq_true, Bool.true_or, Bool.or_true, Bool.or_false, Bool.and_self, Bool.and_true, Bool.true_and, ↓reduceIte, z01]
        exact ev_r
  refine zcl_in' zP_X3_goesOn ?_; rw [zn_1_3]
  refine zat_in zP_X3_goesOn zk_X3_goesOn_0 ?_
  simp only [b_X3_goesOn_0]
  exact ev_tl zP_X3_goesOn zk_X3_goesOn_4 (lp_X3_goesOn hS hnt.2 (v1.trans hnt.1) (fun k hk => (hP.2 k hk).un.1.2.2.2.2.2.1) (nn (V 0 1)) 0 (by omega) _ hj)
theorem lp_X6_isOver (hS : mWT S w) (hnt : nt ≤ 6) (e0 : I w 5 = Int32.ofNat nt) (hT : ∀ k, k < nt → I (w + 28 + 20 * k) 5 = TT k 0 5) : ∀ c k : Nat, k + c = nt → ∀ r, (∀ j, zAt E d 155 41 [some (zr (some w)), some (zi (tlive TT nt)), some (zi (Int32.ofNat j))] [] (zwi S I) r) → zAt E d 155 4 [some (zr (some w)), some (zi (tlive TT k)), some (zi (Int32.ofNat k))] [] (zwi S I) r := by
  obtain ⟨⟨w0, -⟩, ⟨w1, w2, w3⟩, w4⟩ := hS
  intro c
  induction c with
  | zero =>
    intro k hk r hr
    obtain rfl : k = nt := hk
    refine zat_in zP_X6_isOver zk_X6_isOver_4 ?_
    simp (disch := omega) only [b_X6_isOver_4, zif, zdr, zkb, mK_wi, mN_wi, mJ_wi, mI_wi, sI_wi, beq_self_eq_true, Bool.true_or, Bool.or_true, Bool.or_false, Bool.and_self, Bool.and_true, Bool.true_and, ↓reduceIte, w0, e0, i_le, Nat.le_refl]
    exact ev_bk (hr k)
  | succ c ih =>
    intro k hk r hr
    have hl : (nt ≤ k) = False := eq_false (by omega)
    obtain ⟨g1, g2⟩ := w4 k (by omega)
    have e1 := hT k (by omega)
    have h3 := ih (k + 1) (by omega) r hr
    have hu : tlive TT (k + 1) = if tlive TT k = 0 then (if 2 ≤ TT k 0 5 then 0 else 1) else 1 := rfl
    rw [hu] at h3
    by_cases h : tlive TT k = 0
    · rw [if_pos h] at h3
      refine zat_in zP_X6_isOver zk_X6_isOver_4 ?_
      simp (disch := omega) only [b_X6_isOver_4, zif, zdr, zkb, mK_wi, mN_wi, mJ_wi, mI_wi, sI_wi, beq_self_eq_true, Bool.true_or, Bool.or_true, Bool.or_false, Bool.and_self, Bool.and_true, Bool.true_and, ↓reduceIte, ble_up0, i_cl, i_succ, zix_of, zfl_k, zup_k, zup_q, w0, w1, w2, w3, e0, e1, g1.1, g2, i_le, hl, eq_true h]
      refine ev_th _ (fun h => ?_) (fun h => ?_)
      · rw [if_pos h] at h3
        refine ev_bk ?_
        refine zat_in zP_X6_isOver zk_X6_isOver_33 ?_; simp (disch := omega) only [b_X6_isOver_33, zc_X6_isOver_34, b_X6_isOver_34, zif, zdr, zkb, mK_wi, mN_wi, mJ_wi, mI_wi, sI_wi, beq_self_eq_true, Bool.true_or, Bool.or_true, Bool.or_false, Bool.and_self, Bool.and_true, Bool.true_and, ↓reduceIte, i_succ]
        exact ev_bk h3
      · rw [if_neg h] at h3
        refine ev_tl zP_X6_isOver zk_X6_isOver_29 ?_
        refine zat_in zP_X6_isOver zk_X6_isOver_29 ?_; simp (disch := omega) only [b_X6_isOver_29, zif, zdr, zkb, mK_wi, mN_wi, mJ_wi, mI_wi, sI_wi, beq_self_eq_true, Bool.true_or, Bool.or_true, Bool.or_false, Bool.and_self, Bool.and_true, Bool.true_and, ↓reduceIte]
        refine ev_bk ?_
        refine zat_in zP_X6_isOver zk_X6_isOver_34 ?_; simp (disch := omega) only [b_X6_isOver_34, zif, zdr, zkb, mK_wi, mN_wi, mJ_wi, mI_wi, sI_wi, beq_self_eq_true, Bool.true_or, Bool.or_true, Bool.or_false, Bool.and_self, Bool.and_true, Bool.true_and, ↓reduceIte, i_succ]
        exact ev_bk h3
    · rw [if_neg h] at h3
      refine zat_in zP_X6_isOver zk_X6_isOver_4 ?_
      simp (disch := omega) only [b_X6_isOver_4, zif, zdr, zkb, mK_wi, mN_wi, mJ_wi, mI_wi, sI_wi, beq_self_eq_true, Bool.true_or, Bool.or_true, Bool.or_false, Bool.and_self, Bool.and_true, Bool.true_and, ↓reduceIte, ble_up0, i_cl, i_succ, zix_of, zfl_k, zup_k, zup_q, w0, e0, i_le, hl, eq_false h]
      refine ev_bk ?_
      refine zat_in zP_X6_isOver zk_X6_isOver_29 ?_; simp (disch := omega) only [b_X6_isOver_29, zif, zdr, zkb, mK_wi, mN_wi, mJ_wi, mI_wi, sI_wi, beq_self_eq_true, Bool.true_or, Bool.or_true, Bool.or_false, Bool.and_self, Bool.and_true, Bool.true_and, ↓reduceIte]
      refine ev_bk ?_
      refine zat_in zP_X6_isOver zk_X6_isOver_34 ?_; simp (disch := omega) only [b_X6_isOver_34, zif, zdr, zkb, mK_wi, mN_wi, mJ_wi, mI_wi, sI_wi, beq_self_eq_true, Bool.true_or, Bool.or_true, Bool.or_false, Bool.and_self, Bool.and_true, Bool.true_and, ↓reduceIte, i_succ]
      exact ev_bk h3
theorem sp_X6_isOver (hS : mWT S w) (hnt : sm (V 0 1) 6) (hP : mW I w V TT) : zCl E d 155 [zr (some w)] (zwi S I) (Sum.inl (some (zi (if tgon TT V = 0 then 1 else 0))), zwi S I) := by
  have w0 := hS.1.1
  obtain ⟨⟨v0, v1, v2, v3⟩, -⟩ := hP.1.un
  have hj : ∀ j, zAt E d 155 41 [some (zr (some w)), some (zi (tlive TT (nn (V 0 1)))), some (zi (Int32.ofNat j))] [] (zwi S I) (Sum.inl (some (zi (if tgon TT V = 0 then 1 else 0))), zwi S I) := by
    intro j
    unfold tgon
    refine zat_in zP_X6_isOver zk_X6_isOver_41 ?_
    simp (disch := omega) only [b_X6_isOver_41, zif, zdr, zkb, mK_wi, mN_wi, mJ_wi, mI_wi, sI_wi, beq_self_eq_true, Bool.true_or, Bool.or_true, Bool.or_false, Bool.and_self, Bool.and_true, Bool.true_and, ↓reduceIte, w0, v2]
    refine ev_th _ (fun h => ?_) (fun h => ?_)
    · rw [if_pos h]
      refine ev_bk ?_
      refine zat_in zP_X6_isOver zk_X6_isOver_55 ?_; simp (disch := omega) only [b_X6_isOver_55, zif, zdr, zkb, mK_wi, mN_wi, mJ_wi, mI_wi, sI_wi, beq_self_eq_true, Bool.true_or, Bool.or_true, Bool.or_false, Bool.and_self, Bool.and_true, Bool.true_and, ↓reduceIte]
      refine ev_bk ?_
      refine zat_in zP_X6_isOver zk_X6_isOver_60 ?_; simp (disch := omega) only [b_X6_isOver_60, zif, zdr, zkb, mK_wi, mN_wi, mJ_wi, mI_wi, sI_wi, beq_self_eq_true, Bool.true_or, Bool.or_true, Bool.or_false, Bool.and_self, Bool.and_true, Bool.true_and, ↓reduceIte, z01]
      exact ev_r
    · rw [if_neg h]
      refine ev_th _ (fun h => ?_) (fun h => ?_)
      · rw [i_nle] at h
        rw [if_neg h]
        refine ev_bk ?_
        refine zat_in zP_X6_isOver zk_X6_isOver_59 ?_; simp (disch := omega) only [b_X6_isOver_59, zc_X6_isOver_60, b_X6_isOver_60, zif, zdr, zkb, mK_wi, mN_wi, mJ_wi, mI_wi, sI_wi, beq_self_eq_true, Bool.true_or, Bool.or_true, Bool.or_false, Bool.and_self, Bool.and_true, Bool.true_and, ↓reduceIte, z01]
        exact ev_r
      · rw [i_nle, Decidable.not_not] at h
        rw [if_pos h]
        refine ev_tl zP_X6_isOver zk_X6_isOver_55 ?_
        refine zat_in zP_X6_isOver zk_X6_isOver_55 ?_; simp (disch := omega) only [b_X6_isOver_55, zif, zdr, zkb, mK_wi, mN_wi, mJ_wi, mI_wi, sI_wi, beq_self_eq_true, Bool.true_or, Bool.or_true, Bool.or_false, Bool.and_self, Bool.and_true, Bool.true_and, ↓reduceIte]
        refine ev_bk ?_
        refine zat_in zP_X6_isOver zk_X6_isOver_60 ?_; simp (disch := omega) only [b_X6_isOver_60, zif, zdr, zkb, mK_wi, mN_wi, mJ_wi, mI_wi, sI_wi, beq_self_eq_true, Bool.true_or, Bool.or_true, Bool.or_false, Bool.and_self, Bool.and_true, Bool.true_and, ↓reduceIte, z01]
        exact ev_r
  refine zcl_in' zP_X6_isOver ?_; rw [zn_1_3]
  refine zat_in zP_X6_isOver zk_X6_isOver_0 ?_
  simp only [b_X6_isOver_0]
  exact ev_tl zP_X6_isOver zk_X6_isOver_4 (lp_X6_isOver hS hnt.2 (v1.trans hnt.1) (fun k hk => (hP.2 k hk).1.un.1.2.2.2.2.2.1) (nn (V 0 1)) 0 (by omega) _ hj)
theorem lp_X3_trail (hW : xWS S w) (hV : wP I w V) (h0 : sm (V 0 0) 12) : ∀ c k : Nat, k + c = nn (V 0 0) → zAt E d 89 4 [some (zr (some w)), some (zi (tway 0 V k)), some (zi (Int32.ofNat k))] [] (zwi S I) (Sum.inl (some (zi (tway 0 V (nn (V 0 0))))), zwi S I) := by
  obtain ⟨w0, ⟨wa1, wa2, wa3⟩, -, -⟩ := hW
  obtain ⟨⟨v0, v1, v2, v3⟩, r1, -⟩ := hV.un
  have e0 := v0.trans h0.1
  have h2 := h0.2
  generalize nn (V 0 0) = n at *
  intro c
  induction c with
  | zero =>
    intro k hk
    obtain rfl : k = n := hk
    refine zat_in zP_X3_trail zk_X3_trail_4 ?_; simp (disch := omega) only [b_X3_trail_4, zif, zdr, zkb, mK_wi, mN_wi, mJ_wi, mI_wi, sI_wi, beq_self_eq_true, Bool.true_or, Bool.or_true, Bool.or_false, Bool.and_self, Bool.and_true, Bool.true_and, ↓reduceIte, w0, e0, i_le, Nat.le_refl]
    refine ev_bk ?_
    refine zat_in zP_X3_trail zk_X3_trail_27 ?_; simp (disch := omega) only [b_X3_trail_27, zif, zdr, zkb, mK_wi, mN_wi, mJ_wi, mI_wi, sI_wi, beq_self_eq_true, Bool.true_or, Bool.or_true, Bool.or_false, Bool.and_self, Bool.and_true, Bool.true_and, ↓reduceIte]
    exact ev_r
  | succ c ih =>
    intro k hk
    have hl : (n ≤ k) = False := eq_false (by omega)
    refine zat_in zP_X3_trail zk_X3_trail_4 ?_; simp (disch := omega) only [b_X3_trail_4, zif, zdr, zkb, mK_wi, mN_wi, mJ_wi, mI_wi, sI_wi, beq_self_eq_true, Bool.true_or, Bool.or_true, Bool.or_false, Bool.and_self, Bool.and_true, Bool.true_and, ↓reduceIte, ble_up0, i_cl, i_succ, zix_of, zfl_k, zup_k, zup_q, w0, wa1, wa2, wa3, e0, r1, i_le, hl]
    exact ev_bk (ih (k + 1) (by omega))
theorem sp_X3_trail (hW : xWS S w) (hV : wP I w V) (h0 : sm (V 0 0) 12) : zCl E d 89 [zr (some w)] (zwi S I) (Sum.inl (some (zi (tway 0 V (nn (V 0 0))))), zwi S I) := by
  refine zcl_in' zP_X3_trail ?_; rw [zn_1_3]
  refine zat_in zP_X3_trail zk_X3_trail_0 ?_
  simp only [b_X3_trail_0]
  exact ev_tl zP_X3_trail zk_X3_trail_4 (lp_X3_trail hW hV h0 (nn (V 0 0)) 0 (by omega))
theorem lp_X6_trail (hW : mWS S w) (hV : wP I w V) (h0 : sm (V 0 0) 12) : ∀ c k : Nat, k + c = nn (V 0 0) → zAt E d 174 4 [some (zr (some w)), some (zi (tway 0 V k)), some (zi (Int32.ofNat k))] [] (zwi S I) (Sum.inl (some (zi (tway 0 V (nn (V 0 0))))), zwi S I) := by
  obtain ⟨w0, ⟨wa1, wa2, wa3⟩, -, -⟩ := hW
  obtain ⟨⟨v0, v1, v2, v3⟩, r1, -⟩ := hV.un
  have e0 := v0.trans h0.1
  have h2 := h0.2
  generalize nn (V 0 0) = n at *
  intro c
  induction c with
  | zero =>
    intro k hk
    obtain rfl : k = n := hk
    refine zat_in zP_X6_trail zk_X6_trail_4 ?_; simp (disch := omega) only [b_X6_trail_4, zif, zdr, zkb, mK_wi, mN_wi, mJ_wi, mI_wi, sI_wi, beq_self_eq_true, Bool.true_or, Bool.or_true, Bool.or_false, Bool.and_self, Bool.and_true, Bool.true_and, ↓reduceIte, w0, e0, i_le, Nat.le_refl]
    refine ev_bk ?_
    refine zat_in zP_X6_trail zk_X6_trail_27 ?_; simp (disch := omega) only [b_X6_trail_27, zif, zdr, zkb, mK_wi, mN_wi, mJ_wi, mI_wi, sI_wi, beq_self_eq_true, Bool.true_or, Bool.or_true, Bool.or_false, Bool.and_self, Bool.and_true, Bool.true_and, ↓reduceIte]
    exact ev_r
  | succ c ih =>
    intro k hk
    have hl : (n ≤ k) = False := eq_false (by omega)
    refine zat_in zP_X6_trail zk_X6_trail_4 ?_; simp (disch := omega) only [b_X6_trail_4, zif, zdr, zkb, mK_wi, mN_wi, mJ_wi, mI_wi, sI_wi, beq_self_eq_true, Bool.true_or, Bool.or_true, Bool.or_false, Bool.and_self, Bool.and_true, Bool.true_and, ↓reduceIte, ble_up0, i_cl, i_succ, zix_of, zfl_k, zup_k, zup_q, w0, wa1, wa2, wa3, e0, r1, i_le, hl]
    exact ev_bk (ih (k + 1) (by omega))
theorem sp_X6_trail (hW : mWS S w) (hV : wP I w V) (h0 : sm (V 0 0) 12) : zCl E d 174 [zr (some w)] (zwi S I) (Sum.inl (some (zi (tway 0 V (nn (V 0 0))))), zwi S I) := by
  refine zcl_in' zP_X6_trail ?_; rw [zn_1_3]
  refine zat_in zP_X6_trail zk_X6_trail_0 ?_
  simp only [b_X6_trail_0]
  exact ev_tl zP_X6_trail zk_X6_trail_4 (lp_X6_trail hW hV h0 (nn (V 0 0)) 0 (by omega))
end
