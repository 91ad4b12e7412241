/-! ===== a world, a reader are made (class) ===== -/
set_option maxRecDepth 100000
section
variable {E : zE} {d t w B : Nat} {S : zM} {I : Nat → Nat → Int32}
theorem lp_X3_cold (hB : E.1 ≤ w) (kw : mK S w = 4) (jw : mJ S w 2 = some (w + 3)) (k3 : mK S (w + 3) = 101) (n3 : mN S (w + 3) = 334) : ∀ c k, k + c = 334 → ∀ I, (∀ j, j < k → I (w + 3) j = -20) → ∃ I', (∀ z, zAt E d 87 67 [some (zr (some w)), some (zi (Int32.ofNat 334))] [] (zwi S I') z → zAt E d 87 46 [some (zr (some w)), some (zi (Int32.ofNat k))] [] (zwi S I) z) ∧ (∀ j, j < 334 → I' (w + 3) j = -20) ∧ ∀ a i, a ≠ w + 3 → I' a i = I a i := by
  have e46 := @b_X3_init_46
  intro c
  induction c with
  | zero =>
    intro k hk I h
    obtain rfl : k = 334 := by omega
    have l : ((334 : Int32) ≤ Int32.ofNat 334) = True := eq_true (by decide)
    refine ⟨I, fun z hz => ?_, h, fun _ _ _ => rfl⟩
    refine zat_in zP_X3_init zk_X3_init_46 ?_
    simp (disch := omega) only [e46, zif, zdr, zkb, mK_wi, mN_wi, mJ_wi, mI_wi, sI_wi, beq_self_eq_true, Bool.true_or, Bool.or_true, Bool.or_false, Bool.and_self, Bool.and_true, Bool.true_and, ↓reduceIte, ble_up0, i_cl, i_succ, zix_of, zfl_k, zup_k, zup_q, l]
    exact ev_bk hz
  | succ c ih =>
    intro k hk I h
    have l : ((334 : Int32) ≤ Int32.ofNat k) = False := by
      rw [show (334 : Int32) = Int32.ofNat 334 from rfl, i_le (by omega) (by omega)]
      exact eq_false (by omega)
    obtain ⟨I', a', b', c'⟩ := ih (k + 1) (by omega) (zup I (w + 3) k (-20)) (fun j hj => by
      by_cases q : j = k
      · rw [q, zup_q]
      · rw [zup_k (by omega)]
        exact h j (by omega))
    refine ⟨I', fun z hz => ?_, b', fun a i q => (c' a i q).trans (zup_k (by omega))⟩
    refine zat_in zP_X3_init zk_X3_init_46 ?_
    simp (disch := omega) only [e46, zif, zdr, zkb, mK_wi, mN_wi, mJ_wi, mI_wi, sI_wi, beq_self_eq_true, Bool.true_or, Bool.or_true, Bool.or_false, Bool.and_self, Bool.and_true, Bool.true_and, ↓reduceIte, ble_up0, i_cl, i_succ, zix_of, zfl_k, zup_k, zup_q, l, kw, jw, k3, n3]
    exact ev_bk (a' z hz)
theorem lp_X3_teams (hB : E.1 ≤ w) : ∀ c k, k + c = 6 → ∀ S I, (mK S w = 4 ∧ mJ S w 3 = some (w + 4) ∧ mK S (w + 4) = 106 ∧ mN S (w + 4) = 6 ∧ mS S = w + 5 + 23 * k ∧ ∀ j, j < k → xTS S (w + 5 + 23 * j) ∧ mJ S (w + 4) j = some (w + 5 + 23 * j)) → (∀ a, mS S ≤ a → mK S a = 0) → ∃ S' I', zAt E (d + 2) 87 69 [some (zr (some w)), some (zi (Int32.ofNat k))] [] (zwi S I) (Sum.inl none, zwi S' I') ∧ (mS S' = w + 143 ∧ mU S' ≤ mU S + 2118 * c) ∧ (∀ j, j < 6 → xTS S' (w + 5 + 23 * j) ∧ mJ S' (w + 4) j = some (w + 5 + 23 * j)) ∧ (∀ a, a < w + 5 + 23 * k → mK S' a = mK S a ∧ mN S' a = mN S a) ∧ (∀ a i, a < w + 5 + 23 * k → a ≠ w + 4 → mJ S' a i = mJ S a i) ∧ (∀ a i, a < w + 5 + 23 * k → I' a i = I a i) ∧ (∀ a, mS S' ≤ a → mK S' a = 0) := by
  have e69 := @b_X3_init_69
  have e94 := @b_X3_init_94
  intro c
  induction c with
  | zero =>
    intro k hk S I ⟨q1, q2, q3, q4, q5, q6⟩ hz
    obtain rfl : k = 6 := by omega
    have l : ((6 : Int32) ≤ Int32.ofNat 6) = True := eq_true (by decide)
    refine ⟨S, I, ?_, ⟨q5, Nat.le_refl _⟩, q6, fun _ _ => ⟨rfl, rfl⟩, fun _ _ _ _ => rfl, fun _ _ _ => rfl, hz⟩
    refine zat_in zP_X3_init zk_X3_init_69 ?_
    simp (disch := omega) only [e69, zif, zdr, zkb, mK_wi, mN_wi, mJ_wi, mI_wi, sI_wi, beq_self_eq_true, Bool.true_or, Bool.or_true, Bool.or_false, Bool.and_self, Bool.and_true, Bool.true_and, ↓reduceIte, ble_up0, i_cl, i_succ, zix_of, zfl_k, zup_k, zup_q, l]
    refine ev_bk ?_
    refine zat_in zP_X3_init zk_X3_init_94 ?_
    simp only [e94]
    exact ev_r
  | succ c ih =>
    intro k hk S I ⟨q1, q2, q3, q4, q5, q6⟩ hz
    have l : ((6 : Int32) ≤ Int32.ofNat k) = False := by
      rw [show (6 : Int32) = Int32.ofNat 6 from rfl, i_le (by omega) (by omega)]
      exact eq_false (by omega)
    have hz1 : ∀ a, mS (zal S 5 0 20) ≤ a → mK (zal S 5 0 20) a = 0 := fun a ha => by
      have ha : mS S + 1 ≤ a := ha
      rw [mK_al_k (by omega)]
      exact hz a (by omega)
    obtain ⟨S2, I2, a2, t2, ⟨m2, u2⟩, f2, f3, f4, z2⟩ := sp_X4_init (E := E) (d := d) (t := mS S) (S := zal S 5 0 20) (I := zwn I (mS S)) (by omega) (mK_al_q rfl) rfl hz1
    have m2 : mS S2 = mS S + 1 + 22 := m2
    have u2 : mU S2 ≤ mU S + 20 + 2098 := u2
    have ms1 : mS (zal S 5 0 20) = mS S + 1 := rfl
    rw [ms1] at f2 f3 f4
    have K2 : ∀ a, a < mS S → mK S2 a = mK S a ∧ mN S2 a = mN S a := fun a ha => ⟨(f2 a (by omega)).1.trans (mK_al_k (by omega)), (f2 a (by omega)).2.trans (mN_al_k (by omega))⟩
    have J2 : ∀ a i, a < mS S → mJ S2 a i = mJ S a i := fun a i ha => (f3 a i (by omega) (by omega)).trans (mJ_al_k (by omega))
    have J3 : ∀ a i, mJ (sJ S2 (w + 4) k (some (mS S))) a i = if a = w + 4 ∧ i = k then some (mS S) else mJ S2 a i := fun _ _ => rfl
    obtain ⟨S', I', a', ⟨y1, y2⟩, y3, y4, y5, y6, y7⟩ := ih (k + 1) (by omega) (sJ S2 (w + 4) k (some (mS S))) I2 ⟨(K2 _ (by omega)).1.trans q1, by rw [J3, if_neg (by omega), J2 _ _ (by omega)]; exact q2, (K2 _ (by omega)).1.trans q3, (K2 _ (by omega)).2.trans q4, by show mS S2 = _; omega, fun j hj => by
      by_cases z : j = k
      · subst z
        refine ⟨?_, by rw [J3, if_pos ⟨rfl, rfl⟩]; exact congrArg some q5⟩
        rw [← q5]
        exact t2.gr (lo := mS S) (m := mS S + 23) (fun a l1 l2 => ⟨rfl, rfl, fun i => by rw [J3, if_neg (by omega)]⟩) (Nat.le_refl _) (Nat.le_refl _)
      · obtain ⟨z1, z2⟩ := q6 j (by omega)
        refine ⟨z1.gr (lo := w + 5) (m := mS S) (fun a l1 l2 => ⟨(K2 a l2).1, (K2 a l2).2, fun i => by rw [J3, if_neg (by omega)]; exact J2 a i l2⟩) (by omega) (by omega), ?_⟩
        rw [J3, if_neg (by omega), J2 _ _ (by omega)]
        exact z2⟩ z2
    have y2 : mU S' ≤ mU S2 + 2118 * c := y2
    refine ⟨S', I', ?_, ⟨y1, by omega⟩, y3, fun a ha => ?_, fun a i ha hn => ?_, fun a i ha => ?_, y7⟩
    · have k5 : mK S2 (mS S) = 5 := t2.1.1
      have k106 : mK S2 (w + 4) = 106 := (K2 _ (by omega)).1.trans q3
      have n6 : mN S2 (w + 4) = 6 := (K2 _ (by omega)).2.trans q4
      refine zat_in zP_X3_init zk_X3_init_69 ?_
      simp (disch := omega) only [e69, zif, zdr, zkb, mK_wi, mN_wi, mJ_wi, mI_wi, sI_wi, beq_self_eq_true, Bool.true_or, Bool.or_true, Bool.or_false, Bool.and_self, Bool.and_true, Bool.true_and, ↓reduceIte, ble_up0, i_cl, i_succ, zix_of, zfl_k, zup_k, zup_q, l, q1, al_wi, mS_wi]
      refine ev_cv a2 ?_
      try simp (disch := omega) only [zif, zdr, zkb, mK_wi, mN_wi, mJ_wi, mI_wi, sI_wi, beq_self_eq_true, Bool.true_or, Bool.or_true, Bool.or_false, Bool.and_self, Bool.and_true, Bool.true_and, ↓reduceIte, ble_up0, i_cl, i_succ, zix_of, zfl_k, zup_k, zup_q, q2, k106, k5, n6, sJ_wi]
      exact ev_bk a'
    · obtain ⟨z1, z2⟩ := y4 a (by omega)
      exact ⟨z1.trans (K2 a (by omega)).1, z2.trans (K2 a (by omega)).2⟩
    · exact (y5 a i (by omega) hn).trans (by rw [J3, if_neg (by omega)]; exact J2 a i (by omega))
    · exact (y6 a i (by omega)).trans ((f4 a i (by omega)).trans (zwn_k (by omega)))
theorem sp_X3_init (hB : E.1 ≤ w) (kw : mK S w = 4) (hS : mS S = w + 1) (hz : ∀ a, mS S ≤ a → mK S a = 0) (hI : ∀ k, I w k = 0) : ∃ S' I', zCl E (d + 2) 87 [zr (some w)] (zwi S I) (Sum.inl none, zwi S' I') ∧ xWT S' w ∧ ((∀ k, k ≠ 7 → I' w k = 0) ∧ I' w 7 = 6 ∧ (∀ j, I' (w + 1) j = 0) ∧ (∀ j, I' (w + 2) j = 0) ∧ ∀ j, j < 334 → I' (w + 3) j = -20) ∧ (mS S' = mS S + 142 ∧ mU S' ≤ mU S + 13072) ∧ (∀ a, a < mS S → mK S' a = mK S a ∧ mN S' a = mN S a) ∧ (∀ a i, a < mS S → a ≠ w → mJ S' a i = mJ S a i ∧ I' a i = I a i) ∧ (∀ a, mS S' ≤ a → mK S' a = 0) := by
  have z6 : zsz 6 = true := by decide
  have c6 : Int32.toNatClampNeg 6 = 6 := by decide
  have z12 : zsz 12 = true := by decide
  have c12 : Int32.toNatClampNeg 12 = 12 := by decide
  have z334 : zsz 334 = true := by decide
  have c334 : Int32.toNatClampNeg 334 = 334 := by decide
  obtain ⟨S0, hS0⟩ : ∃ S0, S0 = S := ⟨_, rfl⟩
  obtain ⟨I0, hI0⟩ : ∃ I0, I0 = I := ⟨_, rfl⟩
  rw [← hS0] at kw hS hz
  have k0 := kw
  have m0 := hS
  have hz0 := hz
  have f1 : sB w 0 (mS S0) 1 12 S0 (nA S0 101 12 w 0) I0 (zwn I0 (mS S0)) := sB_A (by omega) hz0
  generalize hT1 : nA S0 101 12 w 0 = S1 at f1
  generalize hJ1 : zwn I0 (mS S0) = I1 at f1
  obtain ⟨⟨m1, u1⟩, g1, ⟨kb1, nb1⟩, ⟨j1, q1, i1⟩, hz1⟩ := id f1
  have tk1 : mK S1 (mS S0) = 101 := by rw [← hT1]; exact nA_Kq rfl
  have tn1 : mN S1 (mS S0) = 12 := by rw [← hT1]; exact nA_Nq rfl
  have tz1 : ∀ k, I1 (mS S0) k = 0 := fun k => by rw [← hJ1]; exact zwn_q rfl
  have k1 : mK S1 w = 4 := kb1.trans k0
  have f2 : sB w 1 (mS S1) 1 12 S1 (nA S1 101 12 w 1) I1 (zwn I1 (mS S1)) := sB_A (by omega) hz1
  generalize hT2 : nA S1 101 12 w 1 = S2 at f2
  generalize hJ2 : zwn I1 (mS S1) = I2 at f2
  obtain ⟨⟨m2, u2⟩, g2, ⟨kb2, nb2⟩, ⟨j2, q2, i2⟩, hz2⟩ := id f2
  have tk2 : mK S2 (mS S1) = 101 := by rw [← hT2]; exact nA_Kq rfl
  have tn2 : mN S2 (mS S1) = 12 := by rw [← hT2]; exact nA_Nq rfl
  have tz2 : ∀ k, I2 (mS S1) k = 0 := fun k => by rw [← hJ2]; exact zwn_q rfl
  have k2 : mK S2 w = 4 := kb2.trans k1
  have f3 : sB w 2 (mS S2) 1 334 S2 (nA S2 101 334 w 2) I2 (zwn I2 (mS S2)) := sB_A (by omega) hz2
  generalize hT3 : nA S2 101 334 w 2 = S3 at f3
  generalize hJ3 : zwn I2 (mS S2) = I3 at f3
  obtain ⟨⟨m3, u3⟩, g3, ⟨kb3, nb3⟩, ⟨j3, q3, i3⟩, hz3⟩ := id f3
  have tk3 : mK S3 (mS S2) = 101 := by rw [← hT3]; exact nA_Kq rfl
  have tn3 : mN S3 (mS S2) = 334 := by rw [← hT3]; exact nA_Nq rfl
  have tz3 : ∀ k, I3 (mS S2) k = 0 := fun k => by rw [← hJ3]; exact zwn_q rfl
  have k3 : mK S3 w = 4 := kb3.trans k2
  have f4 : sB w 3 (mS S3) 1 6 S3 (nA S3 106 6 w 3) I3 (zwn I3 (mS S3)) := sB_A (by omega) hz3
  generalize hT4 : nA S3 106 6 w 3 = S4 at f4
  generalize hJ4 : zwn I3 (mS S3) = I4 at f4
  obtain ⟨⟨m4, u4⟩, g4, ⟨kb4, nb4⟩, ⟨j4, q4, i4⟩, hz4⟩ := id f4
  have tk4 : mK S4 (mS S3) = 106 := by rw [← hT4]; exact nA_Kq rfl
  have tn4 : mN S4 (mS S3) = 6 := by rw [← hT4]; exact nA_Nq rfl
  have tz4 : ∀ k, I4 (mS S3) k = 0 := fun k => by rw [← hJ4]; exact zwn_q rfl
  have k4 : mK S4 w = 4 := kb4.trans k3
  have G3 : gB w (mS S3) S3 S4 I3 I4 := g4
  have G2 : gB w (mS S2) S2 S4 I2 I4 := g3.tr G3 (by omega)
  have G1 : gB w (mS S1) S1 S4 I1 I4 := g2.tr G2 (by omega)
  have G0 : gB w (mS S0) S0 S4 I0 I4 := g1.tr G1 (by omega)
  have n1 : mS S1 = w + 2 := by omega
  have n2 : mS S2 = w + 3 := by omega
  have n3 : mS S3 = w + 4 := by omega
  have n4 : mS S4 = w + 5 := by omega
  rw [m0] at tk1 tn1 tz1 q1
  rw [n1] at tk2 tn2 tz2 q2
  rw [n2] at tk3 tn3 tz3 q3
  rw [n3] at tk4 tn4 tz4 q4
  have K1 : mK S4 (w + 1) = 101 := (G1 _ (by omega) (by omega)).1.trans tk1
  have N1 : mN S4 (w + 1) = 12 := (G1 _ (by omega) (by omega)).2.1.trans tn1
  have Z1 : ∀ k, I4 (w + 1) k = 0 := fun k => ((G1 _ (by omega) (by omega)).2.2 k).2.trans (tz1 k)
  have Q1 : mJ S4 w 0 = some (w + 1) := by
    rw [j4 _ (by omega), j3 _ (by omega), j2 _ (by omega)]
    exact q1
  have K2 : mK S4 (w + 2) = 101 := (G2 _ (by omega) (by omega)).1.trans tk2
  have N2 : mN S4 (w + 2) = 12 := (G2 _ (by omega) (by omega)).2.1.trans tn2
  have Z2 : ∀ k, I4 (w + 2) k = 0 := fun k => ((G2 _ (by omega) (by omega)).2.2 k).2.trans (tz2 k)
  have Q2 : mJ S4 w 1 = some (w + 2) := by
    rw [j4 _ (by omega), j3 _ (by omega)]
    exact q2
  have K3 : mK S4 (w + 3) = 101 := (G3 _ (by omega) (by omega)).1.trans tk3
  have N3 : mN S4 (w + 3) = 334 := (G3 _ (by omega) (by omega)).2.1.trans tn3
  have Z3 : ∀ k, I4 (w + 3) k = 0 := fun k => ((G3 _ (by omega) (by omega)).2.2 k).2.trans (tz3 k)
  have Q3 : mJ S4 w 2 = some (w + 3) := by
    rw [j4 _ (by omega)]
    exact q3
  have K4 : mK S4 (w + 4) = 106 := tk4
  have N4 : mN S4 (w + 4) = 6 := tn4
  have Z4 : ∀ k, I4 (w + 4) k = 0 := tz4
  have Q4 : mJ S4 w 3 = some (w + 4) := q4
  have iT : ∀ k, I4 w k = I w k := fun k => by rw [i4, i3, i2, i1, hI0]
  have nT : mN S4 w = mN S w := by rw [nb4, nb3, nb2, nb1, hS0]
  have al : ∀ (T : zM) (κ n : Nat), w < mS T → mK (zal T κ n n) w = mK T w := fun T κ n h => mK_al_k (by omega)
  obtain ⟨I5, a5, b5, c5⟩ := lp_X3_cold (E := E) (d := d + 2) (S := S4) hB k4 Q3 K3 N3 334 0 rfl (zup I4 w 7 6) (fun j hj => absurd hj (by omega))
  obtain ⟨S', I', a', ⟨y1, y2⟩, y3, y4, y5, y6, y7⟩ := lp_X3_teams (E := E) (d := d) hB 6 0 rfl S4 I5 ⟨k4, Q4, K4, N4, by omega, fun j hj => absurd hj (by omega)⟩ hz4
  have v : ∀ a, a < w + 5 → mK S' a = mK S4 a ∧ mN S' a = mN S4 a ∧ ∀ i, (a ≠ w + 4 → mJ S' a i = mJ S4 a i) ∧ (a ≠ w → a ≠ w + 3 → I' a i = I4 a i) := fun a h => ⟨(y4 a (by omega)).1, (y4 a (by omega)).2, fun i => ⟨fun q => y5 a i (by omega) q, fun q1 q2 => (y6 a i (by omega)).trans ((c5 a i q2).trans (zup_k (by omega)))⟩⟩
  have vw : ∀ i, I' w i = zup I4 w 7 6 w i := fun i => (y6 w i (by omega)).trans (c5 w i (by omega))
  have x : ∀ i, mJ S' w i = mJ S4 w i := fun i => ((v w (by omega)).2.2 i).1 (by omega)
  rw [← hS0, ← hI0]
  refine ⟨S', I', ?_, ⟨⟨(v w (by omega)).1.trans k4, ⟨(v _ (by omega)).1.trans K1, (v _ (by omega)).2.1.trans N1, (x _).trans Q1⟩, ⟨(v _ (by omega)).1.trans K2, (v _ (by omega)).2.1.trans N2, (x _).trans Q2⟩, ⟨(v _ (by omega)).1.trans K3, (v _ (by omega)).2.1.trans N3, (x _).trans Q3⟩⟩, ⟨(v _ (by omega)).1.trans K4, (v _ (by omega)).2.1.trans N4, (x _).trans Q4⟩, y3⟩, ⟨fun k hk => ?_, ?_, fun j => ?_, fun j => ?_, fun j hj => ?_⟩, ⟨by omega, by omega⟩, fun a ha => ?_, fun a i ha hn => ?_, y7⟩
  · refine zcl_in' zP_X3_init ?_; rw [zn_1_2]
    have e0 := @b_X3_init_0
    refine zat_in zP_X3_init zk_X3_init_0 ?_
    simp (disch := omega) only [e0, zif, zdr, zkb, mK_wi, mN_wi, mJ_wi, mI_wi, sI_wi, beq_self_eq_true, Bool.true_or, Bool.or_true, Bool.or_false, Bool.and_self, Bool.and_true, Bool.true_and, ↓reduceIte, ble_up0, i_cl, i_succ, zix_of, zfl_k, zup_k, zup_q, z6, c6, z12, c12, z334, c334, al_wi, sJ_wi, mS_wi, nA_e, al, hT1, hJ1, k0, hT2, hJ2, k1]
    have e20 := @b_X3_init_20
    refine ev_tl zP_X3_init zk_X3_init_20 ?_
    refine zat_in zP_X3_init zk_X3_init_20 ?_
    simp (disch := omega) only [e20, zif, zdr, zkb, mK_wi, mN_wi, mJ_wi, mI_wi, sI_wi, beq_self_eq_true, Bool.true_or, Bool.or_true, Bool.or_false, Bool.and_self, Bool.and_true, Bool.true_and, ↓reduceIte, ble_up0, i_cl, i_succ, zix_of, zfl_k, zup_k, zup_q, z6, c6, z12, c12, z334, c334, al_wi, sJ_wi, mS_wi, nA_e, al, hT3, hJ3, k2, hT4, hJ4, k3]
    refine ev_tl zP_X3_init zk_X3_init_38 ?_
    have e38 := @b_X3_init_38
    refine zat_in zP_X3_init zk_X3_init_38 ?_
    simp (disch := omega) only [e38, zif, zdr, zkb, mK_wi, mN_wi, mJ_wi, mI_wi, sI_wi, beq_self_eq_true, Bool.true_or, Bool.or_true, Bool.or_false, Bool.and_self, Bool.and_true, Bool.true_and, ↓reduceIte, ble_up0, i_cl, i_succ, zix_of, zfl_k, zup_k, zup_q, k4]
    refine ev_tl zP_X3_init zk_X3_init_46 ?_
    refine a5 _ ?_
    have e67 := @b_X3_init_67
    refine zat_in zP_X3_init zk_X3_init_67 ?_
    simp only [e67]
    exact ev_tl zP_X3_init zk_X3_init_69 a'
  · rw [vw, zup_k (by omega), iT]
    exact hI k
  · rw [vw, zup_q]
  · exact (((v _ (by omega)).2.2 j).2 (by omega) (by omega)).trans (Z1 j)
  · exact (((v _ (by omega)).2.2 j).2 (by omega) (by omega)).trans (Z2 j)
  · exact (y6 _ _ (by omega)).trans (b5 j hj)
  · by_cases z : a = w
    · rw [z]
      exact ⟨(v w (by omega)).1.trans (k4.trans k0.symm), (v w (by omega)).2.1.trans (nT.trans (by rw [hS0]))⟩
    · exact ⟨(v a (by omega)).1.trans (G0 a z ha).1, (v a (by omega)).2.1.trans (G0 a z ha).2.1⟩
  · exact ⟨(((v a (by omega)).2.2 i).1 (by omega)).trans ((G0 a hn ha).2.2 i).1, (((v a (by omega)).2.2 i).2 hn (by omega)).trans ((G0 a hn ha).2.2 i).2⟩
/-- an exception's cell: its references are set, its ints but the place stay -/
theorem sp_J0_init (a4 : Int32) {q : Nat} (hB : E.1 ≤ q) (kq : mK S q = 3 ∨ mK S q = 9) : ∃ S', zCl E (d + 2) 4 [zr (some q), zr none, zr none, zi 0, zi 0] (zwi S I) (Sum.inl none, zwi S' I) ∧ (mK S' = mK S ∧ mN S' = mN S ∧ mS S' = mS S ∧ mU S' = mU S) ∧ ∀ a i, a ≠ q → mJ S' a i = mJ S a i := by
  have e0 := @b_J0_init_2_0
  have e36 := @b_J0_init_2_36
  have e60 := @b_J0_init_2_60
  have z00 : ((0 : Int32) = 0) = True := eq_true rfl
  refine ⟨sJ (sJ (sJ (sJ (sJ (sJ (sJ S q 0 (some q)) q 1 (E.2.2 1)) q 2 (E.2.2 2)) q 1 none) q 3 none) q 0 none) q 2 none, ?_, ⟨rfl, rfl, rfl, rfl⟩, fun a i h => by simp (disch := omega) only [mJ_sJ, zup_k]⟩
  have hk : zkb (mK S q) [3, 9] = true := by
    rcases kq with z | z <;> (rw [z]; rfl)
  have c2 : zCl E d 2 [zr (some q), zr none, zr none, zi 0, zi 0] (zwi S I) (Sum.inl none, zwi (sJ (sJ (sJ (sJ (sJ (sJ (sJ S q 0 (some q)) q 1 (E.2.2 1)) q 2 (E.2.2 2)) q 1 none) q 3 none) q 0 none) q 2 none) I) := by
    have hk1 : zkb (mK (zwi S I) q) [3, 9] = true := hk
    have hB' : Nat.ble E.1 q = true := ble_up0 hB
    refine zcl_in' zP_J0_init_2 ?_; rw [zn_5_5]
    refine zat_in zP_J0_init_2 zk_J0_init_2_0 ?_
    simp only [e0, sJ_wi, mK_wi, mK_sJ, hk, hB', zif, ↓reduceIte]
    refine ev_bk ?_
    refine zat_in zP_J0_init_2 zk_J0_init_2_36 ?_
    simp only [e36, sJ_wi, mK_wi, mK_sJ, hk, hB', zif, ↓reduceIte]
    refine ev_tl zP_J0_init_2 zk_J0_init_2_60 ?_
    refine zat_in zP_J0_init_2 zk_J0_init_2_60 ?_
    simp only [e60]
    exact ev_r
  have c1 : zCl E (d + 1) 3 [zr (some q), zr none, zr none, zi 0, zi 0] (zwi S I) (Sum.inl none, zwi (sJ (sJ (sJ (sJ (sJ (sJ (sJ S q 0 (some q)) q 1 (E.2.2 1)) q 2 (E.2.2 2)) q 1 none) q 3 none) q 0 none) q 2 none) I) := by
    have e := @b_J1_init_0
    refine zcl_in' zP_J1_init ?_; rw [zn_5_5]
    refine zat_in zP_J1_init zk_J1_init_0 ?_
    simp only [e]
    refine ev_cv c2 ?_
    exact ev_r
  have e := @b_J2_init_0
  refine zcl_in' zP_J2_init ?_; rw [zn_5_5]
  refine zat_in zP_J2_init zk_J2_init_0 ?_
  simp only [e]
  refine ev_cv c1 ?_
  exact ev_r
end
