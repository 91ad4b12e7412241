/-! ===== the model is made: printed by gen/initM.py ===== -/
set_option maxRecDepth 100000
section
variable {E : zE} {d t w B : Nat} {S : zM} {I : Nat → Nat → Int32}
theorem sp_X8_init {q : Nat} (hB : E.1 ≤ q) (kq : mK S q = 9) : ∃ S', zCl E (d + 3) 187 [zr (some q)] (zwi S I) (Sum.inl none, zwi S' I) ∧ (mK S' = mK S ∧ mN S' = mN S ∧ mS S' = mS S ∧ mU S' = mU S) ∧ ∀ a i, a ≠ q → mJ S' a i = mJ S a i := by
  obtain ⟨S', a', b', c'⟩ := sp_J0_init (E := E) (d := d) (S := S) (I := I) 0 hB (Or.inr kq)
  refine ⟨S', ?_, b', c'⟩
  have e := @b_X8_init_0
  refine zcl_in' zP_X8_init ?_; rw [zn_1_1]
  refine zat_in zP_X8_init zk_X8_init_0 ?_
  simp only [e]
  refine ev_cv a' ?_
  exact ev_r
theorem sp_X7_init (hB : E.1 ≤ t) (k0 : mK S t = 8) (m0 : mS S = t + 1) (hz0 : ∀ a, mS S ≤ a → mK S a = 0) : ∃ S' I', zCl E d 179 [zr (some t)] (zwi S I) (Sum.inl none, zwi S' I') ∧ mTS S' t ∧ cW t 9 4082 S S' I I' := by
  have z16 : zsz 16 = true := by decide
  have c16 : Int32.toNatClampNeg 16 = 16 := by decide
  have z13 : zsz 13 = true := by decide
  have c13 : Int32.toNatClampNeg 13 = 13 := by decide
  have z2000 : zsz 2000 = true := by decide
  have c2000 : Int32.toNatClampNeg 2000 = 2000 := by decide
  have z4 : zsz 4 = true := by decide
  have c4 : Int32.toNatClampNeg 4 = 4 := by decide
  obtain ⟨S0, hS0⟩ : ∃ S0, S0 = S := ⟨_, rfl⟩
  obtain ⟨I0, hI0⟩ : ∃ I0, I0 = I := ⟨_, rfl⟩
  rw [← hS0] at k0 m0 hz0
  have f1 : sB t 15 (mS S0) 1 16 S0 (nA S0 101 16 t 15) I0 (zwn I0 (mS S0)) := sB_A (by omega) hz0
  generalize hT1 : nA S0 101 16 t 15 = S1 at f1
  generalize hJ1 : zwn I0 (mS S0) = I1 at f1
  obtain ⟨⟨m1, u1⟩, g1, ⟨kb1, nb1⟩, ⟨j1, q1, i1⟩, hz1⟩ := id f1
  have tk1 : mK S1 (mS S0) = 101 := by rw [← hT1]; exact nA_Kq rfl
  have tn1 : mN S1 (mS S0) = 16 := by rw [← hT1]; exact nA_Nq rfl
  have tz1 : ∀ k, I1 (mS S0) k = 0 := fun k => by rw [← hJ1]; exact zwn_q rfl
  have k1 : mK S1 t = 8 := kb1.trans k0
  have f2 : sB t 16 (mS S1) 1 16 S1 (nA S1 101 16 t 16) I1 (zwn I1 (mS S1)) := sB_A (by omega) hz1
  generalize hT2 : nA S1 101 16 t 16 = S2 at f2
  generalize hJ2 : zwn I1 (mS S1) = I2 at f2
  obtain ⟨⟨m2, u2⟩, g2, ⟨kb2, nb2⟩, ⟨j2, q2, i2⟩, hz2⟩ := id f2
  have tk2 : mK S2 (mS S1) = 101 := by rw [← hT2]; exact nA_Kq rfl
  have tn2 : mN S2 (mS S1) = 16 := by rw [← hT2]; exact nA_Nq rfl
  have tz2 : ∀ k, I2 (mS S1) k = 0 := fun k => by rw [← hJ2]; exact zwn_q rfl
  have k2 : mK S2 t = 8 := kb2.trans k1
  have f3 : sB t 17 (mS S2) 1 16 S2 (nA S2 101 16 t 17) I2 (zwn I2 (mS S2)) := sB_A (by omega) hz2
  generalize hT3 : nA S2 101 16 t 17 = S3 at f3
  generalize hJ3 : zwn I2 (mS S2) = I3 at f3
  obtain ⟨⟨m3, u3⟩, g3, ⟨kb3, nb3⟩, ⟨j3, q3, i3⟩, hz3⟩ := id f3
  have tk3 : mK S3 (mS S2) = 101 := by rw [← hT3]; exact nA_Kq rfl
  have tn3 : mN S3 (mS S2) = 16 := by rw [← hT3]; exact nA_Nq rfl
  have tz3 : ∀ k, I3 (mS S2) k = 0 := fun k => by rw [← hJ3]; exact zwn_q rfl
  have k3 : mK S3 t = 8 := kb3.trans k2
  have f4 : sB t 18 (mS S3) 1 13 S3 (nA S3 101 13 t 18) I3 (zwn I3 (mS S3)) := sB_A (by omega) hz3
  generalize hT4 : nA S3 101 13 t 18 = S4 at f4
  generalize hJ4 : zwn I3 (mS S3) = I4 at f4
  obtain ⟨⟨m4, u4⟩, g4, ⟨kb4, nb4⟩, ⟨j4, q4, i4⟩, hz4⟩ := id f4
  have tk4 : mK S4 (mS S3) = 101 := by rw [← hT4]; exact nA_Kq rfl
  have tn4 : mN S4 (mS S3) = 13 := by rw [← hT4]; exact nA_Nq rfl
  have tz4 : ∀ k, I4 (mS S3) k = 0 := fun k => by rw [← hJ4]; exact zwn_q rfl
  have k4 : mK S4 t = 8 := kb4.trans k3
  have f5 : sB t 19 (mS S4) 1 13 S4 (nA S4 101 13 t 19) I4 (zwn I4 (mS S4)) := sB_A (by omega) hz4
  generalize hT5 : nA S4 101 13 t 19 = S5 at f5
  generalize hJ5 : zwn I4 (mS S4) = I5 at f5
  obtain ⟨⟨m5, u5⟩, g5, ⟨kb5, nb5⟩, ⟨j5, q5, i5⟩, hz5⟩ := id f5
  have tk5 : mK S5 (mS S4) = 101 := by rw [← hT5]; exact nA_Kq rfl
  have tn5 : mN S5 (mS S4) = 13 := by rw [← hT5]; exact nA_Nq rfl
  have tz5 : ∀ k, I5 (mS S4) k = 0 := fun k => by rw [← hJ5]; exact zwn_q rfl
  have k5 : mK S5 t = 8 := kb5.trans k4
  have f6 : sB t 20 (mS S5) 1 2000 S5 (nA S5 101 2000 t 20) I5 (zwn I5 (mS S5)) := sB_A (by omega) hz5
  generalize hT6 : nA S5 101 2000 t 20 = S6 at f6
  generalize hJ6 : zwn I5 (mS S5) = I6 at f6
  obtain ⟨⟨m6, u6⟩, g6, ⟨kb6, nb6⟩, ⟨j6, q6, i6⟩, hz6⟩ := id f6
  have tk6 : mK S6 (mS S5) = 101 := by rw [← hT6]; exact nA_Kq rfl
  have tn6 : mN S6 (mS S5) = 2000 := by rw [← hT6]; exact nA_Nq rfl
  have tz6 : ∀ k, I6 (mS S5) k = 0 := fun k => by rw [← hJ6]; exact zwn_q rfl
  have k6 : mK S6 t = 8 := kb6.trans k5
  have f7 : sB t 21 (mS S6) 1 2000 S6 (nA S6 101 2000 t 21) I6 (zwn I6 (mS S6)) := sB_A (by omega) hz6
  generalize hT7 : nA S6 101 2000 t 21 = S7 at f7
  generalize hJ7 : zwn I6 (mS S6) = I7 at f7
  obtain ⟨⟨m7, u7⟩, g7, ⟨kb7, nb7⟩, ⟨j7, q7, i7⟩, hz7⟩ := id f7
  have tk7 : mK S7 (mS S6) = 101 := by rw [← hT7]; exact nA_Kq rfl
  have tn7 : mN S7 (mS S6) = 2000 := by rw [← hT7]; exact nA_Nq rfl
  have tz7 : ∀ k, I7 (mS S6) k = 0 := fun k => by rw [← hJ7]; exact zwn_q rfl
  have k7 : mK S7 t = 8 := kb7.trans k6
  have f8 : sB t 22 (mS S7) 1 4 S7 (nA S7 101 4 t 22) I7 (zwn I7 (mS S7)) := sB_A (by omega) hz7
  generalize hT8 : nA S7 101 4 t 22 = S8 at f8
  generalize hJ8 : zwn I7 (mS S7) = I8 at f8
  obtain ⟨⟨m8, u8⟩, g8, ⟨kb8, nb8⟩, ⟨j8, q8, i8⟩, hz8⟩ := id f8
  have tk8 : mK S8 (mS S7) = 101 := by rw [← hT8]; exact nA_Kq rfl
  have tn8 : mN S8 (mS S7) = 4 := by rw [← hT8]; exact nA_Nq rfl
  have tz8 : ∀ k, I8 (mS S7) k = 0 := fun k => by rw [← hJ8]; exact zwn_q rfl
  have k8 : mK S8 t = 8 := kb8.trans k7
  have f9 : sB t 23 (mS S8) 1 4 S8 (nA S8 101 4 t 23) I8 (zwn I8 (mS S8)) := sB_A (by omega) hz8
  generalize hT9 : nA S8 101 4 t 23 = S9 at f9
  generalize hJ9 : zwn I8 (mS S8) = I9 at f9
  obtain ⟨⟨m9, u9⟩, g9, ⟨kb9, nb9⟩, ⟨j9, q9, i9⟩, hz9⟩ := id f9
  have tk9 : mK S9 (mS S8) = 101 := by rw [← hT9]; exact nA_Kq rfl
  have tn9 : mN S9 (mS S8) = 4 := by rw [← hT9]; exact nA_Nq rfl
  have tz9 : ∀ k, I9 (mS S8) k = 0 := fun k => by rw [← hJ9]; exact zwn_q rfl
  have k9 : mK S9 t = 8 := kb9.trans k8
  have G8 : gB t (mS S8) S8 S9 I8 I9 := g9
  have G7 : gB t (mS S7) S7 S9 I7 I9 := g8.tr G8 (by omega)
  have G6 : gB t (mS S6) S6 S9 I6 I9 := g7.tr G7 (by omega)
  have G5 : gB t (mS S5) S5 S9 I5 I9 := g6.tr G6 (by omega)
  have G4 : gB t (mS S4) S4 S9 I4 I9 := g5.tr G5 (by omega)
  have G3 : gB t (mS S3) S3 S9 I3 I9 := g4.tr G4 (by omega)
  have G2 : gB t (mS S2) S2 S9 I2 I9 := g3.tr G3 (by omega)
  have G1 : gB t (mS S1) S1 S9 I1 I9 := g2.tr G2 (by omega)
  have G0 : gB t (mS S0) S0 S9 I0 I9 := g1.tr G1 (by omega)
  have n1 : mS S1 = t + 2 := by omega
  have n2 : mS S2 = t + 3 := by omega
  have n3 : mS S3 = t + 4 := by omega
  have n4 : mS S4 = t + 5 := by omega
  have n5 : mS S5 = t + 6 := by omega
  have n6 : mS S6 = t + 7 := by omega
  have n7 : mS S7 = t + 8 := by omega
  have n8 : mS S8 = t + 9 := by omega
  have n9 : mS S9 = t + 10 := by omega
  rw [m0] at tk1 tn1 q1
  rw [n1] at tk2 tn2 q2
  rw [n2] at tk3 tn3 q3
  rw [n3] at tk4 tn4 q4
  rw [n4] at tk5 tn5 q5
  rw [n5] at tk6 tn6 q6
  rw [n6] at tk7 tn7 q7
  rw [n7] at tk8 tn8 q8
  rw [n8] at tk9 tn9 q9
  rw [← hS0, ← hI0]
  refine ⟨S9, I9, ?_, ⟨k9, ⟨?_, ?_, ?_⟩, ⟨?_, ?_, ?_⟩, ⟨?_, ?_, ?_⟩, ⟨?_, ?_, ?_⟩, ⟨?_, ?_, ?_⟩, ⟨?_, ?_, ?_⟩, ⟨?_, ?_, ?_⟩, ⟨?_, ?_, ?_⟩, ⟨?_, ?_, ?_⟩⟩, ⟨by omega, by omega⟩, fun a ha => ?_, fun a i ha hn => ?_, hz9⟩
  · have al : ∀ (T : zM) (κ n : Nat), t < mS T → mK (zal T κ n n) t = mK T t := fun T κ n h => mK_al_k (by omega)
    have e0 := @b_X7_init_0
    have e20 := @b_X7_init_20
    have e36 := @b_X7_init_36
    have e53 := @b_X7_init_53
    have e69 := @b_X7_init_69
    refine zcl_in' zP_X7_init ?_; rw [zn_1_1]
    refine zat_in zP_X7_init zk_X7_init_0 ?_
    simp (disch := omega) only [e0, zif, zdr, zkb, mK_wi, mN_wi, mJ_wi, mI_wi, sI_wi, beq_self_eq_true, Bool.true_or, Bool.or_true, Bool.or_false, Bool.and_self, Bool.and_true, Bool.true_and, ↓reduceIte, ble_up0, i_cl, i_succ, zix_of, zfl_k, zup_k, zup_q, z16, z13, z2000, z4, c16, c13, c2000, c4, al_wi, sJ_wi, mS_wi, nA_e, al, hT1, hJ1, k0, hT2, hJ2, k1]
    refine ev_tl zP_X7_init zk_X7_init_20 ?_
    refine zat_in zP_X7_init zk_X7_init_20 ?_
    simp (disch := omega) only [e20, zif, zdr, zkb, mK_wi, mN_wi, mJ_wi, mI_wi, sI_wi, beq_self_eq_true, Bool.true_or, Bool.or_true, Bool.or_false, Bool.and_self, Bool.and_true, Bool.true_and, ↓reduceIte, ble_up0, i_cl, i_succ, zix_of, zfl_k, zup_k, zup_q, z16, z13, z2000, z4, c16, c13, c2000, c4, al_wi, sJ_wi, mS_wi, nA_e, al, hT3, hJ3, k2, hT4, hJ4, k3]
    refine ev_tl zP_X7_init zk_X7_init_36 ?_
    refine zat_in zP_X7_init zk_X7_init_36 ?_
    simp (disch := omega) only [e36, zif, zdr, zkb, mK_wi, mN_wi, mJ_wi, mI_wi, sI_wi, beq_self_eq_true, Bool.true_or, Bool.or_true, Bool.or_false, Bool.and_self, Bool.and_true, Bool.true_and, ↓reduceIte, ble_up0, i_cl, i_succ, zix_of, zfl_k, zup_k, zup_q, z16, z13, z2000, z4, c16, c13, c2000, c4, al_wi, sJ_wi, mS_wi, nA_e, al, hT5, hJ5, k4, hT6, hJ6, k5]
    refine ev_tl zP_X7_init zk_X7_init_53 ?_
    refine zat_in zP_X7_init zk_X7_init_53 ?_
    simp (disch := omega) only [e53, zif, zdr, zkb, mK_wi, mN_wi, mJ_wi, mI_wi, sI_wi, beq_self_eq_true, Bool.true_or, Bool.or_true, Bool.or_false, Bool.and_self, Bool.and_true, Bool.true_and, ↓reduceIte, ble_up0, i_cl, i_succ, zix_of, zfl_k, zup_k, zup_q, z16, z13, z2000, z4, c16, c13, c2000, c4, al_wi, sJ_wi, mS_wi, nA_e, al, hT7, hJ7, k6, hT8, hJ8, k7]
    refine ev_tl zP_X7_init zk_X7_init_69 ?_
    refine zat_in zP_X7_init zk_X7_init_69 ?_
    simp (disch := omega) only [e69, zif, zdr, zkb, mK_wi, mN_wi, mJ_wi, mI_wi, sI_wi, beq_self_eq_true, Bool.true_or, Bool.or_true, Bool.or_false, Bool.and_self, Bool.and_true, Bool.true_and, ↓reduceIte, ble_up0, i_cl, i_succ, zix_of, zfl_k, zup_k, zup_q, z16, z13, z2000, z4, c16, c13, c2000, c4, al_wi, sJ_wi, mS_wi, nA_e, al, hT9, hJ9, k8]
    exact ev_r
  · exact (G1 _ (by omega) (by omega)).1.trans tk1
  · exact (G1 _ (by omega) (by omega)).2.1.trans tn1
  · rw [j9 _ (by omega), j8 _ (by omega), j7 _ (by omega), j6 _ (by omega), j5 _ (by omega), j4 _ (by omega), j3 _ (by omega), j2 _ (by omega)]
    exact q1
  · exact (G2 _ (by omega) (by omega)).1.trans tk2
  · exact (G2 _ (by omega) (by omega)).2.1.trans tn2
  · rw [j9 _ (by omega), j8 _ (by omega), j7 _ (by omega), j6 _ (by omega), j5 _ (by omega), j4 _ (by omega), j3 _ (by omega)]
    exact q2
  · exact (G3 _ (by omega) (by omega)).1.trans tk3
  · exact (G3 _ (by omega) (by omega)).2.1.trans tn3
  · rw [j9 _ (by omega), j8 _ (by omega), j7 _ (by omega), j6 _ (by omega), j5 _ (by omega), j4 _ (by omega)]
    exact q3
  · exact (G4 _ (by omega) (by omega)).1.trans tk4
  · exact (G4 _ (by omega) (by omega)).2.1.trans tn4
  · rw [j9 _ (by omega), j8 _ (by omega), j7 _ (by omega), j6 _ (by omega), j5 _ (by omega)]
    exact q4
  · exact (G5 _ (by omega) (by omega)).1.trans tk5
  · exact (G5 _ (by omega) (by omega)).2.1.trans tn5
  · rw [j9 _ (by omega), j8 _ (by omega), j7 _ (by omega), j6 _ (by omega)]
    exact q5
  · exact (G6 _ (by omega) (by omega)).1.trans tk6
  · exact (G6 _ (by omega) (by omega)).2.1.trans tn6
  · rw [j9 _ (by omega), j8 _ (by omega), j7 _ (by omega)]
    exact q6
  · exact (G7 _ (by omega) (by omega)).1.trans tk7
  · exact (G7 _ (by omega) (by omega)).2.1.trans tn7
  · rw [j9 _ (by omega), j8 _ (by omega)]
    exact q7
  · exact (G8 _ (by omega) (by omega)).1.trans tk8
  · exact (G8 _ (by omega) (by omega)).2.1.trans tn8
  · rw [j9 _ (by omega)]
    exact q8
  · exact tk9
  · exact tn9
  · exact q9
  · by_cases z : a = t
    · rw [z]
      exact ⟨k9.trans k0.symm, by rw [nb9, nb8, nb7, nb6, nb5, nb4, nb3, nb2, nb1]⟩
    · exact ⟨(G0 a z ha).1, (G0 a z ha).2.1⟩
  · exact (G0 a hn ha).2.2 i
theorem lp_X6_cold (hB : E.1 ≤ w) (kw : mK S w = 7) (jw : mJ S w 10 = some (w + 3)) (k3 : mK S (w + 3) = 101) (n3 : mN S (w + 3) = 334) : ∀ c k, k + c = 334 → ∀ I, (∀ j, j < k → I (w + 3) j = -20) → ∃ I', (∀ z, zAt E d 114 201 [some (zr (some w)), some (zi (Int32.ofNat 334))] [] (zwi S I') z → zAt E d 114 180 [some (zr (some w)), some (zi (Int32.ofNat k))] [] (zwi S I) z) ∧ (∀ j, j < 334 → I' (w + 3) j = -20) ∧ ∀ a i, a ≠ w + 3 → I' a i = I a i := by
  have e180 := @b_X6_init_180
  intro c
  induction c with
  | zero =>
    intro k hk I h
    obtain rfl : k = 334 := by omega
    have l : ((334 : Int32) ≤ Int32.ofNat 334) = True := eq_true (by decide)
    refine ⟨I, fun z hz => ?_, h, fun _ _ _ => rfl⟩
    refine zat_in zP_X6_init zk_X6_init_180 ?_
    simp (disch := omega) only [e180, zif, zdr, zkb, mK_wi, mN_wi, mJ_wi, mI_wi, sI_wi, beq_self_eq_true, Bool.true_or, Bool.or_true, Bool.or_false, Bool.and_self, Bool.and_true, Bool.true_and, ↓reduceIte, ble_up0, i_cl, i_succ, zix_of, zfl_k, zup_k, zup_q, l]
    exact ev_bk hz
  | succ c ih =>
    intro k hk I h
    have l : ((334 : Int32) ≤ Int32.ofNat k) = False := by
      rw [show (334 : Int32) = Int32.ofNat 334 from rfl, i_le (by omega) (by omega)]
      exact eq_false (by omega)
    obtain ⟨I', a', b', c'⟩ := ih (k + 1) (by omega) (zup I (w + 3) k (-20)) (fun j hj => by
      by_cases q : j = k
      · rw [q, zup_q]
      · rw [zup_k (by omega)]
        exact h j (by omega))
    refine ⟨I', fun z hz => ?_, b', fun a i q => (c' a i q).trans (zup_k (by omega))⟩
    refine zat_in zP_X6_init zk_X6_init_180 ?_
    simp (disch := omega) only [e180, zif, zdr, zkb, mK_wi, mN_wi, mJ_wi, mI_wi, sI_wi, beq_self_eq_true, Bool.true_or, Bool.or_true, Bool.or_false, Bool.and_self, Bool.and_true, Bool.true_and, ↓reduceIte, ble_up0, i_cl, i_succ, zix_of, zfl_k, zup_k, zup_q, l, kw, jw, k3, n3]
    exact ev_bk (a' z hz)
/-- a team of the model is made in place k of the array in field fld -/
theorem mk_team {T T' : zM} {J J' : Nat → Nat → Int32} {p k : Nat} (hp : p < mS T) (hw : cW (mS T) 9 4082 (zal T 8 0 24) T' (zwn J (mS T)) J') (ht : mTS T' (mS T)) : mTS (sJ T' p k (some (mS T))) (mS T) ∧ mJ (sJ T' p k (some (mS T))) p k = some (mS T) ∧ (mS (sJ T' p k (some (mS T))) = mS T + 10 ∧ mU (sJ T' p k (some (mS T))) ≤ mU T + 4106) ∧ (∀ a, a < mS T → mK (sJ T' p k (some (mS T))) a = mK T a ∧ mN (sJ T' p k (some (mS T))) a = mN T a ∧ ∀ i, (¬ (a = p ∧ i = k) → mJ (sJ T' p k (some (mS T))) a i = mJ T a i) ∧ J' a i = J a i) ∧ ∀ a, mS (sJ T' p k (some (mS T))) ≤ a → mK (sJ T' p k (some (mS T))) a = 0 := by
  obtain ⟨⟨h1, h2⟩, h3, h4, h5⟩ := hw
  have h1 : mS T' = mS T + 1 + 9 := h1
  have h2 : mU T' ≤ mU T + 24 + 4082 := h2
  have ms : mS (zal T 8 0 24) = mS T + 1 := rfl
  rw [ms] at h3 h4
  refine ⟨ht.gr (lo := mS T) (m := mS T + 10) (fun a l1 l2 => ⟨rfl, rfl, fun i => if_neg (by omega)⟩) (by omega) (by omega), if_pos ⟨rfl, rfl⟩, ⟨by show mS T' = _; omega, by show mU T' ≤ _; omega⟩, fun a ha => ⟨(h3 a (by omega)).1.trans (mK_al_k (by omega)), (h3 a (by omega)).2.trans (mN_al_k (by omega)), fun i => ⟨fun q => (if_neg q).trans ((h4 a i (by omega) (by omega)).1.trans (mJ_al_k (by omega))), (h4 a i (by omega) (by omega)).2.trans (zwn_k (by omega))⟩⟩, h5⟩
theorem lp_X6_init (hB : E.1 ≤ w) : ∀ c k, k + c = 6 → ∀ S I, (mK S w = 7 ∧ mJ S w 11 = some (w + 4) ∧ mK S (w + 4) = 111 ∧ mN S (w + 4) = 6 ∧ mJ S w 19 = some (w + 8) ∧ mK S (w + 8) = 111 ∧ mN S (w + 8) = 6 ∧ mS S = w + 28 + 20 * k ∧ ∀ j, j < k → (mTS S (w + 28 + 20 * j) ∧ mJ S (w + 4) j = some (w + 28 + 20 * j)) ∧ mTS S (w + 38 + 20 * j) ∧ mJ S (w + 8) j = some (w + 38 + 20 * j)) → (∀ a, mS S ≤ a → mK S a = 0) → ∃ S' I', zAt E (d + 1) 114 203 [some (zr (some w)), some (zi (Int32.ofNat k))] [] (zwi S I) (Sum.inl none, zwi S' I') ∧ (mS S' = w + 148 ∧ mU S' ≤ mU S + 8212 * c) ∧ (∀ j, j < 6 → (mTS S' (w + 28 + 20 * j) ∧ mJ S' (w + 4) j = some (w + 28 + 20 * j)) ∧ mTS S' (w + 38 + 20 * j) ∧ mJ S' (w + 8) j = some (w + 38 + 20 * j)) ∧ (∀ a, a < w + 28 + 20 * k → mK S' a = mK S a ∧ mN S' a = mN S a) ∧ (∀ a i, a < w + 28 + 20 * k → a ≠ w + 4 → a ≠ w + 8 → mJ S' a i = mJ S a i) ∧ (∀ a i, a < w + 28 + 20 * k → I' a i = I a i) ∧ (∀ a, mS S' ≤ a → mK S' a = 0) := by
  have e203 := @b_X6_init_203
  have e235 := @b_X6_init_235
  have e241 := @b_X6_init_241
  intro c
  induction c with
  | zero =>
    intro k hk S I ⟨q1, q2, q3, q4, q5, q6, q7, q8, q9⟩ hz
    obtain rfl : k = 6 := by omega
    have l : ((6 : Int32) ≤ Int32.ofNat 6) = True := eq_true (by decide)
    refine ⟨S, I, ?_, ⟨q8, Nat.le_refl _⟩, q9, fun _ _ => ⟨rfl, rfl⟩, fun _ _ _ _ _ => rfl, fun _ _ _ => rfl, hz⟩
    refine zat_in zP_X6_init zk_X6_init_203 ?_
    simp (disch := omega) only [e203, zif, zdr, zkb, mK_wi, mN_wi, mJ_wi, mI_wi, sI_wi, beq_self_eq_true, Bool.true_or, Bool.or_true, Bool.or_false, Bool.and_self, Bool.and_true, Bool.true_and, ↓reduceIte, ble_up0, i_cl, i_succ, zix_of, zfl_k, zup_k, zup_q, l]
    refine ev_bk ?_
    refine zat_in zP_X6_init zk_X6_init_241 ?_
    simp only [e241]
    exact ev_r
  | succ c ih =>
    intro k hk S I ⟨q1, q2, q3, q4, q5, q6, q7, q8, q9⟩ hz
    have l : ((6 : Int32) ≤ Int32.ofNat k) = False := by
      rw [show (6 : Int32) = Int32.ofNat 6 from rfl, i_le (by omega) (by omega)]
      exact eq_false (by omega)
    have zz : ∀ {T : zM}, (∀ a, mS T ≤ a → mK T a = 0) → ∀ a, mS (zal T 8 0 24) ≤ a → mK (zal T 8 0 24) a = 0 := fun {T} h a ha => by
      have ha : mS T + 1 ≤ a := ha
      rw [mK_al_k (by omega)]
      exact h a (by omega)
    obtain ⟨T1, I1, a1, t1, c1⟩ := sp_X7_init (E := E) (d := d) (t := mS S) (S := zal S 8 0 24) (I := zwn I (mS S)) (by omega) (mK_al_q rfl) rfl (zz hz)
    have K1 : mK T1 (w + 4) = 111 := (c1.2.1 _ (show w + 4 < mS S + 1 by omega)).1.trans ((mK_al_k (by omega)).trans q3)
    have N1 : mN T1 (w + 4) = 6 := (c1.2.1 _ (show w + 4 < mS S + 1 by omega)).2.trans ((mN_al_k (by omega)).trans q4)
    have K1s : mK T1 (mS S) = 8 := t1.1
    have K1w : mK T1 w = 7 := (c1.2.1 _ (show w < mS S + 1 by omega)).1.trans ((mK_al_k (by omega)).trans q1)
    obtain ⟨v1, v2, ⟨v3, v3'⟩, v4, v5⟩ := mk_team (p := w + 4) (k := k) (by omega) c1 t1
    obtain ⟨S1, hS1⟩ : ∃ S1, S1 = sJ T1 (w + 4) k (some (mS S)) := ⟨_, rfl⟩
    rw [← hS1] at v1 v2 v3 v3' v4 v5
    obtain ⟨T2, I2, a2, t2, c2⟩ := sp_X7_init (E := E) (d := d) (t := mS S1) (S := zal S1 8 0 24) (I := zwn I1 (mS S1)) (by omega) (mK_al_q rfl) rfl (zz v5)
    have K2 : mK T2 (w + 8) = 111 := (c2.2.1 _ (show w + 8 < mS S1 + 1 by omega)).1.trans ((mK_al_k (by omega)).trans ((v4 _ (by omega)).1.trans q6))
    have N2 : mN T2 (w + 8) = 6 := (c2.2.1 _ (show w + 8 < mS S1 + 1 by omega)).2.trans ((mN_al_k (by omega)).trans ((v4 _ (by omega)).2.1.trans q7))
    have K2s : mK T2 (mS S1) = 8 := t2.1
    obtain ⟨y1, y2, ⟨y3, y3'⟩, y4, y5⟩ := mk_team (p := w + 8) (k := k) (by omega) c2 t2
    have J19 : mJ S1 w 19 = some (w + 8) := (((v4 _ (by omega)).2.2 _).1 (by omega)).trans q5
    obtain ⟨S2, hS2⟩ : ∃ S2, S2 = sJ T2 (w + 8) k (some (mS S1)) := ⟨_, rfl⟩
    rw [← hS2] at y1 y2 y3 y3' y4 y5
    have n1 : mS S1 = w + 38 + 20 * k := by omega
    rw [q8] at v1 v2
    rw [n1] at y1 y2
    have P : ∀ a, a < mS S → mK S2 a = mK S a ∧ mN S2 a = mN S a ∧ ∀ i, (¬ (a = w + 4 ∧ i = k) → ¬ (a = w + 8 ∧ i = k) → mJ S2 a i = mJ S a i) ∧ I2 a i = I a i := fun a ha => by
      obtain ⟨b1, b2, b3⟩ := v4 a ha
      obtain ⟨b4, b5, b6⟩ := y4 a (by omega)
      exact ⟨b4.trans b1, b5.trans b2, fun i => ⟨fun h1 h2 => ((b6 i).1 h2).trans ((b3 i).1 h1), (b6 i).2.trans (b3 i).2⟩⟩
    have Q : ∀ a, mS S ≤ a → a < mS S1 → mK S2 a = mK S1 a ∧ mN S2 a = mN S1 a ∧ ∀ i, mJ S2 a i = mJ S1 a i := fun a h1 h2 => by
      obtain ⟨b4, b5, b6⟩ := y4 a h2
      exact ⟨b4, b5, fun i => (b6 i).1 (by omega)⟩
    obtain ⟨S', I', a', ⟨x1, x2⟩, x3, x4, x5, x6, x7⟩ := ih (k + 1) (by omega) S2 I2 ⟨(P w (by omega)).1.trans q1, (((P w (by omega)).2.2 11).1 (by omega) (by omega)).trans q2, (P _ (by omega)).1.trans q3, (P _ (by omega)).2.1.trans q4, (((P w (by omega)).2.2 19).1 (by omega) (by omega)).trans q5, (P _ (by omega)).1.trans q6, (P _ (by omega)).2.1.trans q7, by omega, fun j hj => by
      by_cases z : j = k
      · subst z
        exact ⟨⟨v1.gr (lo := mS S) (m := mS S1) (fun a l1 l2 => Q a l1 l2) (by omega) (by omega), (((y4 _ (by omega)).2.2 _).1 (by omega)).trans v2⟩, y1, y2⟩
      · obtain ⟨⟨r1, r2⟩, r3, r4⟩ := q9 j (by omega)
        exact ⟨⟨r1.gr (lo := w + 28) (m := mS S) (fun a l1 l2 => ⟨(P a l2).1, (P a l2).2.1, fun i => ((P a l2).2.2 i).1 (by omega) (by omega)⟩) (by omega) (by omega), (((P _ (by omega)).2.2 _).1 (by omega) (by omega)).trans r2⟩, r3.gr (lo := w + 28) (m := mS S) (fun a l1 l2 => ⟨(P a l2).1, (P a l2).2.1, fun i => ((P a l2).2.2 i).1 (by omega) (by omega)⟩) (by omega) (by omega), (((P _ (by omega)).2.2 _).1 (by omega) (by omega)).trans r4⟩⟩ y5
    refine ⟨S', I', ?_, ⟨x1, by omega⟩, x3, fun a ha => ?_, fun a i ha h1 h2 => ?_, fun a i ha => ?_, x7⟩
    · have K1w' : mK (sJ T1 (w + 4) k (some (mS S))) w = 7 := K1w
      have J19' : mJ (sJ T1 (w + 4) k (some (mS S))) w 19 = some (w + 8) := by rw [← hS1]; exact J19
      refine zat_in zP_X6_init zk_X6_init_203 ?_
      simp (disch := omega) only [e203, zif, zdr, zkb, mK_wi, mN_wi, mJ_wi, mI_wi, sI_wi, beq_self_eq_true, Bool.true_or, Bool.or_true, Bool.or_false, Bool.and_self, Bool.and_true, Bool.true_and, ↓reduceIte, ble_up0, i_cl, i_succ, zix_of, zfl_k, zup_k, zup_q, l, q1, al_wi, mS_wi]
      refine ev_cv a1 ?_
      try simp (disch := omega) only [zif, zdr, zkb, mK_wi, mN_wi, mJ_wi, mI_wi, sI_wi, beq_self_eq_true, Bool.true_or, Bool.or_true, Bool.or_false, Bool.and_self, Bool.and_true, Bool.true_and, ↓reduceIte, ble_up0, i_cl, i_succ, zix_of, zfl_k, zup_k, zup_q, q2, K1, K1s, N1, K1w', sJ_wi, al_wi, mS_wi, ← hS1]
      refine ev_cv a2 ?_
      try simp (disch := omega) only [zif, zdr, zkb, mK_wi, mN_wi, mJ_wi, mI_wi, sI_wi, beq_self_eq_true, Bool.true_or, Bool.or_true, Bool.or_false, Bool.and_self, Bool.and_true, Bool.true_and, ↓reduceIte, ble_up0, i_cl, i_succ, zix_of, zfl_k, zup_k, zup_q, J19, K2, K2s, N2, sJ_wi, ← hS2]
      refine ev_tl zP_X6_init zk_X6_init_235 ?_
      refine zat_in zP_X6_init zk_X6_init_235 ?_
      simp only [e235, i_succ]
      exact ev_bk a'
    · exact ⟨(x4 a (by omega)).1.trans (P a (by omega)).1, (x4 a (by omega)).2.trans (P a (by omega)).2.1⟩
    · exact (x5 a i (by omega) h1 h2).trans (((P a (by omega)).2.2 i).1 (by omega) (by omega))
    · exact (x6 a i (by omega)).trans ((P a (by omega)).2.2 i).2
theorem sp_X6_init (hB : E.1 ≤ w) (kw : mK S w = 7) (ms : mS S = w + 1) (hz : ∀ a, mS S ≤ a → mK S a = 0) (hI : ∀ k, I w k = 0) : ∃ S' I', zCl E (d + 4) 114 [zr (some w)] (zwi S I) (Sum.inl none, zwi S' I') ∧ mCS S' w ∧ ((∀ k, k ≠ 2 → k ≠ 7 → k ≠ 12 → I' w k = 0) ∧ I' w 2 = -1 ∧ I' w 7 = 6 ∧ I' w 12 = -1 ∧ (∀ j, I' (w + 20) j = 0) ∧ wP I' w V0) ∧ (mS S' = w + 148 ∧ mU S' ≤ mU S + 55928) ∧ gB w (w + 1) S S' I I' ∧ ∀ a, mS S' ≤ a → mK S' a = 0 := by
  have z12 : zsz 12 = true := by decide
  have c12 : Int32.toNatClampNeg 12 = 12 := by decide
  have z334 : zsz 334 = true := by decide
  have c334 : Int32.toNatClampNeg 334 = 334 := by decide
  have z6 : zsz 6 = true := by decide
  have c6 : Int32.toNatClampNeg 6 = 6 := by decide
  have z400 : zsz 400 = true := by decide
  have c400 : Int32.toNatClampNeg 400 = 400 := by decide
  have z9 : zsz 9 = true := by decide
  have c9 : Int32.toNatClampNeg 9 = 9 := by decide
  have z108 : zsz 108 = true := by decide
  have c108 : Int32.toNatClampNeg 108 = 108 := by decide
  have z432 : zsz 432 = true := by decide
  have c432 : Int32.toNatClampNeg 432 = 432 := by decide
  have z44 : zsz 44 = true := by decide
  have c44 : Int32.toNatClampNeg 44 = 44 := by decide
  have zz : ∀ {T : zM} (κ f : Nat), (∀ a, mS T ≤ a → mK T a = 0) → ∀ a, mS (zal T κ 0 f) ≤ a → mK (zal T κ 0 f) a = 0 := fun {T} κ f h a ha => by
    have ha : mS T + 1 ≤ a := ha
    rw [mK_al_k (by omega)]
    exact h a (by omega)
  obtain ⟨S0, hS0⟩ : ∃ S0, S0 = S := ⟨_, rfl⟩
  obtain ⟨I0, hI0⟩ : ∃ I0, I0 = zup (zup I w 2 (-1)) w 7 6 := ⟨_, rfl⟩
  rw [← hS0] at kw ms hz ⊢
  have k0 := kw
  have hz0 := hz
  have g00 : gB w (mS S0) S0 S0 I I0 := fun a h1 h2 => ⟨rfl, rfl, fun k => ⟨rfl, by rw [hI0, zup_k (by omega), zup_k (by omega)]⟩⟩
  have f1 : sB w 8 (mS S0) 1 12 S0 (nA S0 101 12 w 8) I0 (zwn I0 (mS S0)) := sB_A (by omega) hz0
  generalize hT1 : nA S0 101 12 w 8 = S1 at f1
  generalize hJ1 : zwn I0 (mS S0) = I1 at f1
  obtain ⟨⟨m1, u1⟩, g1, ⟨kb1, nb1⟩, ⟨j1, q1, i1⟩, hz1⟩ := id f1
  have tk1 : mK S1 (mS S0) = 101 := by rw [← hT1]; exact nA_Kq rfl
  have tn1 : mN S1 (mS S0) = 12 := by rw [← hT1]; exact nA_Nq rfl
  have tz1 : ∀ k, I1 (mS S0) k = 0 := fun k => by rw [← hJ1]; exact zwn_q rfl
  have k1 : mK S1 w = 7 := kb1.trans k0
  have f2 : sB w 9 (mS S1) 1 12 S1 (nA S1 101 12 w 9) I1 (zwn I1 (mS S1)) := sB_A (by omega) hz1
  generalize hT2 : nA S1 101 12 w 9 = S2 at f2
  generalize hJ2 : zwn I1 (mS S1) = I2 at f2
  obtain ⟨⟨m2, u2⟩, g2, ⟨kb2, nb2⟩, ⟨j2, q2, i2⟩, hz2⟩ := id f2
  have tk2 : mK S2 (mS S1) = 101 := by rw [← hT2]; exact nA_Kq rfl
  have tn2 : mN S2 (mS S1) = 12 := by rw [← hT2]; exact nA_Nq rfl
  have tz2 : ∀ k, I2 (mS S1) k = 0 := fun k => by rw [← hJ2]; exact zwn_q rfl
  have k2 : mK S2 w = 7 := kb2.trans k1
  have f3 : sB w 10 (mS S2) 1 334 S2 (nA S2 101 334 w 10) I2 (zwn I2 (mS S2)) := sB_A (by omega) hz2
  generalize hT3 : nA S2 101 334 w 10 = S3 at f3
  generalize hJ3 : zwn I2 (mS S2) = I3 at f3
  obtain ⟨⟨m3, u3⟩, g3, ⟨kb3, nb3⟩, ⟨j3, q3, i3⟩, hz3⟩ := id f3
  have tk3 : mK S3 (mS S2) = 101 := by rw [← hT3]; exact nA_Kq rfl
  have tn3 : mN S3 (mS S2) = 334 := by rw [← hT3]; exact nA_Nq rfl
  have tz3 : ∀ k, I3 (mS S2) k = 0 := fun k => by rw [← hJ3]; exact zwn_q rfl
  have k3 : mK S3 w = 7 := kb3.trans k2
  have f4 : sB w 11 (mS S3) 1 6 S3 (nA S3 111 6 w 11) I3 (zwn I3 (mS S3)) := sB_A (by omega) hz3
  generalize hT4 : nA S3 111 6 w 11 = S4 at f4
  generalize hJ4 : zwn I3 (mS S3) = I4 at f4
  obtain ⟨⟨m4, u4⟩, g4, ⟨kb4, nb4⟩, ⟨j4, q4, i4⟩, hz4⟩ := id f4
  have tk4 : mK S4 (mS S3) = 111 := by rw [← hT4]; exact nA_Kq rfl
  have tn4 : mN S4 (mS S3) = 6 := by rw [← hT4]; exact nA_Nq rfl
  have tz4 : ∀ k, I4 (mS S3) k = 0 := fun k => by rw [← hJ4]; exact zwn_q rfl
  have k4 : mK S4 w = 7 := kb4.trans k3
  obtain ⟨S5, hT5⟩ : ∃ T, T = S4 := ⟨_, rfl⟩
  obtain ⟨I5, hJ5⟩ : ∃ J, J = zup I4 w 12 (-1) := ⟨_, rfl⟩
  have k5 : mK S5 w = 7 := by rw [hT5]; exact k4
  have hz5 : ∀ a, mS S5 ≤ a → mK S5 a = 0 := by rw [hT5]; exact hz4
  have m5 : mS S5 = mS S4 := by rw [hT5]
  have u5 : mU S5 ≤ mU S4 := by rw [hT5]; exact Nat.le_refl _
  have g5 : gB w (mS S4) S4 S5 I4 I5 := fun a h1 h2 => ⟨by rw [hT5], by rw [hT5], fun k => ⟨by rw [hT5], by rw [hJ5, zup_k (by omega)]⟩⟩
  have j5 : ∀ i, i ≠ 999 → mJ S5 w i = mJ S4 w i := fun i _ => by rw [hT5]
  have f6 : sB w 16 (mS S5) 1 12 S5 (nA S5 101 12 w 16) I5 (zwn I5 (mS S5)) := sB_A (by omega) hz5
  generalize hT6 : nA S5 101 12 w 16 = S6 at f6
  generalize hJ6 : zwn I5 (mS S5) = I6 at f6
  obtain ⟨⟨m6, u6⟩, g6, ⟨kb6, nb6⟩, ⟨j6, q6, i6⟩, hz6⟩ := id f6
  have tk6 : mK S6 (mS S5) = 101 := by rw [← hT6]; exact nA_Kq rfl
  have tn6 : mN S6 (mS S5) = 12 := by rw [← hT6]; exact nA_Nq rfl
  have tz6 : ∀ k, I6 (mS S5) k = 0 := fun k => by rw [← hJ6]; exact zwn_q rfl
  have k6 : mK S6 w = 7 := kb6.trans k5
  have f7 : sB w 17 (mS S6) 1 12 S6 (nA S6 101 12 w 17) I6 (zwn I6 (mS S6)) := sB_A (by omega) hz6
  generalize hT7 : nA S6 101 12 w 17 = S7 at f7
  generalize hJ7 : zwn I6 (mS S6) = I7 at f7
  obtain ⟨⟨m7, u7⟩, g7, ⟨kb7, nb7⟩, ⟨j7, q7, i7⟩, hz7⟩ := id f7
  have tk7 : mK S7 (mS S6) = 101 := by rw [← hT7]; exact nA_Kq rfl
  have tn7 : mN S7 (mS S6) = 12 := by rw [← hT7]; exact nA_Nq rfl
  have tz7 : ∀ k, I7 (mS S6) k = 0 := fun k => by rw [← hJ7]; exact zwn_q rfl
  have k7 : mK S7 w = 7 := kb7.trans k6
  have f8 : sB w 18 (mS S7) 1 334 S7 (nA S7 101 334 w 18) I7 (zwn I7 (mS S7)) := sB_A (by omega) hz7
  generalize hT8 : nA S7 101 334 w 18 = S8 at f8
  generalize hJ8 : zwn I7 (mS S7) = I8 at f8
  obtain ⟨⟨m8, u8⟩, g8, ⟨kb8, nb8⟩, ⟨j8, q8, i8⟩, hz8⟩ := id f8
  have tk8 : mK S8 (mS S7) = 101 := by rw [← hT8]; exact nA_Kq rfl
  have tn8 : mN S8 (mS S7) = 334 := by rw [← hT8]; exact nA_Nq rfl
  have tz8 : ∀ k, I8 (mS S7) k = 0 := fun k => by rw [← hJ8]; exact zwn_q rfl
  have k8 : mK S8 w = 7 := kb8.trans k7
  have f9 : sB w 19 (mS S8) 1 6 S8 (nA S8 111 6 w 19) I8 (zwn I8 (mS S8)) := sB_A (by omega) hz8
  generalize hT9 : nA S8 111 6 w 19 = S9 at f9
  generalize hJ9 : zwn I8 (mS S8) = I9 at f9
  obtain ⟨⟨m9, u9⟩, g9, ⟨kb9, nb9⟩, ⟨j9, q9, i9⟩, hz9⟩ := id f9
  have tk9 : mK S9 (mS S8) = 111 := by rw [← hT9]; exact nA_Kq rfl
  have tn9 : mN S9 (mS S8) = 6 := by rw [← hT9]; exact nA_Nq rfl
  have tz9 : ∀ k, I9 (mS S8) k = 0 := fun k => by rw [← hJ9]; exact zwn_q rfl
  have k9 : mK S9 w = 7 := kb9.trans k8
  obtain ⟨T10, I10, a10, w10, c10w⟩ := sp_X7_init (E := E) (d := d + 3) (t := mS S9) (S := zal S9 8 0 24) (I := zwn I9 (mS S9)) (by omega) (mK_al_q rfl) rfl (zz 8 24 hz9)
  have f10 : sB w 20 (mS S9) 10 4106 S9 (sJ T10 w 20 (some (mS S9))) I9 I10 := sB_O (by omega) c10w
  have kT10 : mK T10 w = 7 := f10.2.2.1.1.trans k9
  have W10 : mTS (sJ T10 w 20 (some (mS S9))) (mS S9) := w10.gr (lo := w + 1) (m := mS S9 + 10) (fun a h1 h2 => ⟨rfl, rfl, fun k => if_neg (by omega)⟩) (by omega) (by omega)
  generalize hT10 : sJ T10 w 20 (some (mS S9)) = S10 at f10 W10
  obtain ⟨⟨m10, u10⟩, g10, ⟨kb10, nb10⟩, ⟨j10, q10, i10⟩, hz10⟩ := id f10
  have k10 : mK S10 w = 7 := kb10.trans k9
  obtain ⟨T11, a11, ⟨b1, b2, b3, b4⟩, cb⟩ := sp_X8_init (E := E) (d := d) (q := mS S10) (S := zal S10 9 0 8) (I := zwn I10 (mS S10)) (by omega) (mK_al_q rfl)
  have f11 : sB w 21 (mS S10) 1 8 S10 (sJ T11 w 21 (some (mS S10))) I10 (zwn I10 (mS S10)) := sB_O (n := 0) (u := 0) (by omega) ⟨⟨b3, Nat.le_of_eq b4⟩, fun a _ => ⟨by rw [b1], by rw [b2]⟩, fun a i _ h => ⟨cb a i h, rfl⟩, fun a ha => by rw [b1]; exact zz 9 8 hz10 a (by rw [← b3]; exact ha)⟩
  have kT11 : mK T11 w = 7 := f11.2.2.1.1.trans k10
  have tk11 : mK (sJ T11 w 21 (some (mS S10))) (mS S10) = 9 := by
    show mK T11 (mS S10) = 9
    rw [b1]
    exact mK_al_q rfl
  generalize hT11 : sJ T11 w 21 (some (mS S10)) = S11 at f11 tk11
  generalize hJ11 : zwn I10 (mS S10) = I11 at f11 a11
  obtain ⟨⟨m11, u11⟩, g11, ⟨kb11, nb11⟩, ⟨j11, q11, i11⟩, hz11⟩ := id f11
  have k11 : mK S11 w = 7 := kb11.trans k10
  have f12 : sB w 22 (mS S11) 1 400 S11 (nA S11 102 400 w 22) I11 (zwn I11 (mS S11)) := sB_A (by omega) hz11
  generalize hT12 : nA S11 102 400 w 22 = S12 at f12
  generalize hJ12 : zwn I11 (mS S11) = I12 at f12
  obtain ⟨⟨m12, u12⟩, g12, ⟨kb12, nb12⟩, ⟨j12, q12, i12⟩, hz12⟩ := id f12
  have tk12 : mK S12 (mS S11) = 102 := by rw [← hT12]; exact nA_Kq rfl
  have tn12 : mN S12 (mS S11) = 400 := by rw [← hT12]; exact nA_Nq rfl
  have tz12 : ∀ k, I12 (mS S11) k = 0 := fun k => by rw [← hJ12]; exact zwn_q rfl
  have k12 : mK S12 w = 7 := kb12.trans k11
  have f13 : sB w 32 (mS S12) 1 9 S12 (nA S12 101 9 w 32) I12 (zwn I12 (mS S12)) := sB_A (by omega) hz12
  generalize hT13 : nA S12 101 9 w 32 = S13 at f13
  generalize hJ13 : zwn I12 (mS S12) = I13 at f13
  obtain ⟨⟨m13, u13⟩, g13, ⟨kb13, nb13⟩, ⟨j13, q13, i13⟩, hz13⟩ := id f13
  have tk13 : mK S13 (mS S12) = 101 := by rw [← hT13]; exact nA_Kq rfl
  have tn13 : mN S13 (mS S12) = 9 := by rw [← hT13]; exact nA_Nq rfl
  have tz13 : ∀ k, I13 (mS S12) k = 0 := fun k => by rw [← hJ13]; exact zwn_q rfl
  have k13 : mK S13 w = 7 := kb13.trans k12
  have f14 : sB w 33 (mS S13) 1 108 S13 (nA S13 101 108 w 33) I13 (zwn I13 (mS S13)) := sB_A (by omega) hz13
  generalize hT14 : nA S13 101 108 w 33 = S14 at f14
  generalize hJ14 : zwn I13 (mS S13) = I14 at f14
  obtain ⟨⟨m14, u14⟩, g14, ⟨kb14, nb14⟩, ⟨j14, q14, i14⟩, hz14⟩ := id f14
  have tk14 : mK S14 (mS S13) = 101 := by rw [← hT14]; exact nA_Kq rfl
  have tn14 : mN S14 (mS S13) = 108 := by rw [← hT14]; exact nA_Nq rfl
  have tz14 : ∀ k, I14 (mS S13) k = 0 := fun k => by rw [← hJ14]; exact zwn_q rfl
  have k14 : mK S14 w = 7 := kb14.trans k13
  have f15 : sB w 34 (mS S14) 1 108 S14 (nA S14 101 108 w 34) I14 (zwn I14 (mS S14)) := sB_A (by omega) hz14
  generalize hT15 : nA S14 101 108 w 34 = S15 at f15
  generalize hJ15 : zwn I14 (mS S14) = I15 at f15
  obtain ⟨⟨m15, u15⟩, g15, ⟨kb15, nb15⟩, ⟨j15, q15, i15⟩, hz15⟩ := id f15
  have tk15 : mK S15 (mS S14) = 101 := by rw [← hT15]; exact nA_Kq rfl
  have tn15 : mN S15 (mS S14) = 108 := by rw [← hT15]; exact nA_Nq rfl
  have tz15 : ∀ k, I15 (mS S14) k = 0 := fun k => by rw [← hJ15]; exact zwn_q rfl
  have k15 : mK S15 w = 7 := kb15.trans k14
  have f16 : sB w 35 (mS S15) 1 432 S15 (nA S15 101 432 w 35) I15 (zwn I15 (mS S15)) := sB_A (by omega) hz15
  generalize hT16 : nA S15 101 432 w 35 = S16 at f16
  generalize hJ16 : zwn I15 (mS S15) = I16 at f16
  obtain ⟨⟨m16, u16⟩, g16, ⟨kb16, nb16⟩, ⟨j16, q16, i16⟩, hz16⟩ := id f16
  have tk16 : mK S16 (mS S15) = 101 := by rw [← hT16]; exact nA_Kq rfl
  have tn16 : mN S16 (mS S15) = 432 := by rw [← hT16]; exact nA_Nq rfl
  have tz16 : ∀ k, I16 (mS S15) k = 0 := fun k => by rw [← hJ16]; exact zwn_q rfl
  have k16 : mK S16 w = 7 := kb16.trans k15
  have f17 : sB w 36 (mS S16) 1 432 S16 (nA S16 101 432 w 36) I16 (zwn I16 (mS S16)) := sB_A (by omega) hz16
  generalize hT17 : nA S16 101 432 w 36 = S17 at f17
  generalize hJ17 : zwn I16 (mS S16) = I17 at f17
  obtain ⟨⟨m17, u17⟩, g17, ⟨kb17, nb17⟩, ⟨j17, q17, i17⟩, hz17⟩ := id f17
  have tk17 : mK S17 (mS S16) = 101 := by rw [← hT17]; exact nA_Kq rfl
  have tn17 : mN S17 (mS S16) = 432 := by rw [← hT17]; exact nA_Nq rfl
  have tz17 : ∀ k, I17 (mS S16) k = 0 := fun k => by rw [← hJ17]; exact zwn_q rfl
  have k17 : mK S17 w = 7 := kb17.trans k16
  have f18 : sB w 37 (mS S17) 1 432 S17 (nA S17 104 432 w 37) I17 (zwn I17 (mS S17)) := sB_A (by omega) hz17
  generalize hT18 : nA S17 104 432 w 37 = S18 at f18
  generalize hJ18 : zwn I17 (mS S17) = I18 at f18
  obtain ⟨⟨m18, u18⟩, g18, ⟨kb18, nb18⟩, ⟨j18, q18, i18⟩, hz18⟩ := id f18
  have tk18 : mK S18 (mS S17) = 104 := by rw [← hT18]; exact nA_Kq rfl
  have tn18 : mN S18 (mS S17) = 432 := by rw [← hT18]; exact nA_Nq rfl
  have tz18 : ∀ k, I18 (mS S17) k = 0 := fun k => by rw [← hJ18]; exact zwn_q rfl
  have k18 : mK S18 w = 7 := kb18.trans k17
  have f19 : sB w 39 (mS S18) 1 44 S18 (nA S18 101 44 w 39) I18 (zwn I18 (mS S18)) := sB_A (by omega) hz18
  generalize hT19 : nA S18 101 44 w 39 = S19 at f19
  generalize hJ19 : zwn I18 (mS S18) = I19 at f19
  obtain ⟨⟨m19, u19⟩, g19, ⟨kb19, nb19⟩, ⟨j19, q19, i19⟩, hz19⟩ := id f19
  have tk19 : mK S19 (mS S18) = 101 := by rw [← hT19]; exact nA_Kq rfl
  have tn19 : mN S19 (mS S18) = 44 := by rw [← hT19]; exact nA_Nq rfl
  have tz19 : ∀ k, I19 (mS S18) k = 0 := fun k => by rw [← hJ19]; exact zwn_q rfl
  have k19 : mK S19 w = 7 := kb19.trans k18
  have G18 : gB w (mS S18) S18 S19 I18 I19 := g19
  have G17 : gB w (mS S17) S17 S19 I17 I19 := g18.tr G18 (by omega)
  have G16 : gB w (mS S16) S16 S19 I16 I19 := g17.tr G17 (by omega)
  have G15 : gB w (mS S15) S15 S19 I15 I19 := g16.tr G16 (by omega)
  have G14 : gB w (mS S14) S14 S19 I14 I19 := g15.tr G15 (by omega)
  have G13 : gB w (mS S13) S13 S19 I13 I19 := g14.tr G14 (by omega)
  have G12 : gB w (mS S12) S12 S19 I12 I19 := g13.tr G13 (by omega)
  have G11 : gB w (mS S11) S11 S19 I11 I19 := g12.tr G12 (by omega)
  have G10 : gB w (mS S10) S10 S19 I10 I19 := g11.tr G11 (by omega)
  have G9 : gB w (mS S9) S9 S19 I9 I19 := g10.tr G10 (by omega)
  have G8 : gB w (mS S8) S8 S19 I8 I19 := g9.tr G9 (by omega)
  have G7 : gB w (mS S7) S7 S19 I7 I19 := g8.tr G8 (by omega)
  have G6 : gB w (mS S6) S6 S19 I6 I19 := g7.tr G7 (by omega)
  have G5 : gB w (mS S5) S5 S19 I5 I19 := g6.tr G6 (by omega)
  have G4 : gB w (mS S4) S4 S19 I4 I19 := g5.tr G5 (by omega)
  have G3 : gB w (mS S3) S3 S19 I3 I19 := g4.tr G4 (by omega)
  have G2 : gB w (mS S2) S2 S19 I2 I19 := g3.tr G3 (by omega)
  have G1 : gB w (mS S1) S1 S19 I1 I19 := g2.tr G2 (by omega)
  have G0 : gB w (mS S0) S0 S19 I0 I19 := g1.tr G1 (by omega)
  have n1 : mS S1 = w + 2 := by omega
  have n2 : mS S2 = w + 3 := by omega
  have n3 : mS S3 = w + 4 := by omega
  have n4 : mS S4 = w + 5 := by omega
  have n5 : mS S5 = w + 5 := by omega
  have n6 : mS S6 = w + 6 := by omega
  have n7 : mS S7 = w + 7 := by omega
  have n8 : mS S8 = w + 8 := by omega
  have n9 : mS S9 = w + 9 := by omega
  have n10 : mS S10 = w + 19 := by omega
  have n11 : mS S11 = w + 20 := by omega
  have n12 : mS S12 = w + 21 := by omega
  have n13 : mS S13 = w + 22 := by omega
  have n14 : mS S14 = w + 23 := by omega
  have n15 : mS S15 = w + 24 := by omega
  have n16 : mS S16 = w + 25 := by omega
  have n17 : mS S17 = w + 26 := by omega
  have n18 : mS S18 = w + 27 := by omega
  have n19 : mS S19 = w + 28 := by omega
  rw [ms] at tk1 tn1 q1 tz1
  rw [n1] at tk2 tn2 q2 tz2
  rw [n2] at tk3 tn3 q3 tz3
  rw [n3] at tk4 tn4 q4 tz4
  rw [n5] at tk6 tn6 q6 tz6
  rw [n6] at tk7 tn7 q7 tz7
  rw [n7] at tk8 tn8 q8 tz8
  rw [n8] at tk9 tn9 q9 tz9
  rw [n9] at q10 W10
  rw [n10] at q11 tk11
  rw [n11] at tk12 tn12 q12 tz12
  rw [n12] at tk13 tn13 q13 tz13
  rw [n13] at tk14 tn14 q14 tz14
  rw [n14] at tk15 tn15 q15 tz15
  rw [n15] at tk16 tn16 q16 tz16
  rw [n16] at tk17 tn17 q17 tz17
  rw [n17] at tk18 tn18 q18 tz18
  rw [n18] at tk19 tn19 q19 tz19
  have iw : ∀ k, I19 w k = if k = 12 then -1 else I0 w k := fun k => by
    rw [i19, i18, i17, i16, i15, i14, i13, i12, i11, i10, i9, i8, i7, i6]
    by_cases z : k = 12
    · rw [if_pos z, z, hJ5, zup_q]
    · rw [if_neg z, hJ5, zup_k (by omega), i4, i3, i2, i1]
  have J10 : mJ S19 w 10 = some (w + 3) := (show mJ S19 w _ = _ by rw [j19 _ (by omega), j18 _ (by omega), j17 _ (by omega), j16 _ (by omega), j15 _ (by omega), j14 _ (by omega), j13 _ (by omega), j12 _ (by omega), j11 _ (by omega), j10 _ (by omega), j9 _ (by omega), j8 _ (by omega), j7 _ (by omega), j6 _ (by omega), j5 _ (by omega), j4 _ (by omega)]; exact q3)
  have K3 : mK S19 (w + 3) = 101 := (G3 _ (by omega) (by omega)).1.trans tk3
  have N3 : mN S19 (w + 3) = 334 := (G3 _ (by omega) (by omega)).2.1.trans tn3
  have J11 : mJ S19 w 11 = some (w + 4) := (show mJ S19 w _ = _ by rw [j19 _ (by omega), j18 _ (by omega), j17 _ (by omega), j16 _ (by omega), j15 _ (by omega), j14 _ (by omega), j13 _ (by omega), j12 _ (by omega), j11 _ (by omega), j10 _ (by omega), j9 _ (by omega), j8 _ (by omega), j7 _ (by omega), j6 _ (by omega), j5 _ (by omega)]; exact q4)
  have K4 : mK S19 (w + 4) = 111 := (G4 _ (by omega) (by omega)).1.trans tk4
  have N4 : mN S19 (w + 4) = 6 := (G4 _ (by omega) (by omega)).2.1.trans tn4
  have J19 : mJ S19 w 19 = some (w + 8) := (show mJ S19 w _ = _ by rw [j19 _ (by omega), j18 _ (by omega), j17 _ (by omega), j16 _ (by omega), j15 _ (by omega), j14 _ (by omega), j13 _ (by omega), j12 _ (by omega), j11 _ (by omega), j10 _ (by omega)]; exact q9)
  have K8 : mK S19 (w + 8) = 111 := (G9 _ (by omega) (by omega)).1.trans tk9
  have N8 : mN S19 (w + 8) = 6 := (G9 _ (by omega) (by omega)).2.1.trans tn9
  obtain ⟨I20, a20, b20, c20⟩ := lp_X6_cold (E := E) (d := d + 4) hB k19 J10 K3 N3 334 0 rfl I19 (fun j hj => absurd hj (by omega))
  obtain ⟨S', I', a', ⟨x1, x2⟩, x3, x4, x5, x6, x7⟩ := lp_X6_init (E := E) (d := d + 3) hB 6 0 rfl S19 I20 ⟨k19, J11, K4, N4, J19, K8, N8, by omega, fun j hj => absurd hj (by omega)⟩ hz19
  have vI : ∀ a i, a < w + 28 → a ≠ w + 3 → I' a i = I19 a i := fun a i h1 h2 => (x6 a i (by omega)).trans (c20 a i h2)
  have vW : ∀ i, I' w i = if i = 12 then -1 else I0 w i := fun i => (vI w i (by omega) (by omega)).trans (iw i)
  have vJ : ∀ a i, a < w + 28 → a ≠ w + 4 → a ≠ w + 8 → mJ S' a i = mJ S19 a i := fun a i h1 h2 h3 => x5 a i (by omega) h2 h3
  have vK : ∀ a, a < w + 28 → mK S' a = mK S19 a ∧ mN S' a = mN S19 a := fun a h => x4 a (by omega)
  have hw7 : mK S' w = 7 := (vK w (by omega)).1.trans k19
  refine ⟨S', I', ?_, ⟨⟨⟨hw7, ⟨(vK _ (by omega)).1.trans ((G1 _ (by omega) (by omega)).1.trans tk1), (vK _ (by omega)).2.trans ((G1 _ (by omega) (by omega)).2.1.trans tn1), (vJ _ _ (by omega) (by omega) (by omega)).trans (show mJ S19 w _ = _ by rw [j19 _ (by omega), j18 _ (by omega), j17 _ (by omega), j16 _ (by omega), j15 _ (by omega), j14 _ (by omega), j13 _ (by omega), j12 _ (by omega), j11 _ (by omega), j10 _ (by omega), j9 _ (by omega), j8 _ (by omega), j7 _ (by omega), j6 _ (by omega), j5 _ (by omega), j4 _ (by omega), j3 _ (by omega), j2 _ (by omega)]; exact q1)⟩, ⟨(vK _ (by omega)).1.trans ((G2 _ (by omega) (by omega)).1.trans tk2), (vK _ (by omega)).2.trans ((G2 _ (by omega) (by omega)).2.1.trans tn2), (vJ _ _ (by omega) (by omega) (by omega)).trans (show mJ S19 w _ = _ by rw [j19 _ (by omega), j18 _ (by omega), j17 _ (by omega), j16 _ (by omega), j15 _ (by omega), j14 _ (by omega), j13 _ (by omega), j12 _ (by omega), j11 _ (by omega), j10 _ (by omega), j9 _ (by omega), j8 _ (by omega), j7 _ (by omega), j6 _ (by omega), j5 _ (by omega), j4 _ (by omega), j3 _ (by omega)]; exact q2)⟩, ⟨(vK _ (by omega)).1.trans ((G3 _ (by omega) (by omega)).1.trans tk3), (vK _ (by omega)).2.trans ((G3 _ (by omega) (by omega)).2.1.trans tn3), (vJ _ _ (by omega) (by omega) (by omega)).trans (show mJ S19 w _ = _ by rw [j19 _ (by omega), j18 _ (by omega), j17 _ (by omega), j16 _ (by omega), j15 _ (by omega), j14 _ (by omega), j13 _ (by omega), j12 _ (by omega), j11 _ (by omega), j10 _ (by omega), j9 _ (by omega), j8 _ (by omega), j7 _ (by omega), j6 _ (by omega), j5 _ (by omega), j4 _ (by omega)]; exact q3)⟩⟩, ⟨(vK _ (by omega)).1.trans ((G4 _ (by omega) (by omega)).1.trans tk4), (vK _ (by omega)).2.trans ((G4 _ (by omega) (by omega)).2.1.trans tn4), (vJ _ _ (by omega) (by omega) (by omega)).trans (show mJ S19 w _ = _ by rw [j19 _ (by omega), j18 _ (by omega), j17 _ (by omega), j16 _ (by omega), j15 _ (by omega), j14 _ (by omega), j13 _ (by omega), j12 _ (by omega), j11 _ (by omega), j10 _ (by omega), j9 _ (by omega), j8 _ (by omega), j7 _ (by omega), j6 _ (by omega), j5 _ (by omega)]; exact q4)⟩, fun k hk => (x3 k hk).1⟩, ⟨⟨(vK _ (by omega)).1.trans ((G6 _ (by omega) (by omega)).1.trans tk6), (vK _ (by omega)).2.trans ((G6 _ (by omega) (by omega)).2.1.trans tn6), (vJ _ _ (by omega) (by omega) (by omega)).trans (show mJ S19 w _ = _ by rw [j19 _ (by omega), j18 _ (by omega), j17 _ (by omega), j16 _ (by omega), j15 _ (by omega), j14 _ (by omega), j13 _ (by omega), j12 _ (by omega), j11 _ (by omega), j10 _ (by omega), j9 _ (by omega), j8 _ (by omega), j7 _ (by omega)]; exact q6)⟩, ⟨(vK _ (by omega)).1.trans ((G7 _ (by omega) (by omega)).1.trans tk7), (vK _ (by omega)).2.trans ((G7 _ (by omega) (by omega)).2.1.trans tn7), (vJ _ _ (by omega) (by omega) (by omega)).trans (show mJ S19 w _ = _ by rw [j19 _ (by omega), j18 _ (by omega), j17 _ (by omega), j16 _ (by omega), j15 _ (by omega), j14 _ (by omega), j13 _ (by omega), j12 _ (by omega), j11 _ (by omega), j10 _ (by omega), j9 _ (by omega), j8 _ (by omega)]; exact q7)⟩, ⟨(vK _ (by omega)).1.trans ((G8 _ (by omega) (by omega)).1.trans tk8), (vK _ (by omega)).2.trans ((G8 _ (by omega) (by omega)).2.1.trans tn8), (vJ _ _ (by omega) (by omega) (by omega)).trans (show mJ S19 w _ = _ by rw [j19 _ (by omega), j18 _ (by omega), j17 _ (by omega), j16 _ (by omega), j15 _ (by omega), j14 _ (by omega), j13 _ (by omega), j12 _ (by omega), j11 _ (by omega), j10 _ (by omega), j9 _ (by omega)]; exact q8)⟩, ⟨(vK _ (by omega)).1.trans ((G9 _ (by omega) (by omega)).1.trans tk9), (vK _ (by omega)).2.trans ((G9 _ (by omega) (by omega)).2.1.trans tn9), (vJ _ _ (by omega) (by omega) (by omega)).trans (show mJ S19 w _ = _ by rw [j19 _ (by omega), j18 _ (by omega), j17 _ (by omega), j16 _ (by omega), j15 _ (by omega), j14 _ (by omega), j13 _ (by omega), j12 _ (by omega), j11 _ (by omega), j10 _ (by omega)]; exact q9)⟩, fun k hk => (x3 k hk).2⟩, ⟨hw7, ⟨(vK _ (by omega)).1.trans ((G13 _ (by omega) (by omega)).1.trans tk13), (vK _ (by omega)).2.trans ((G13 _ (by omega) (by omega)).2.1.trans tn13), (vJ _ _ (by omega) (by omega) (by omega)).trans (show mJ S19 w _ = _ by rw [j19 _ (by omega), j18 _ (by omega), j17 _ (by omega), j16 _ (by omega), j15 _ (by omega), j14 _ (by omega)]; exact q13)⟩, ⟨(vK _ (by omega)).1.trans ((G14 _ (by omega) (by omega)).1.trans tk14), (vK _ (by omega)).2.trans ((G14 _ (by omega) (by omega)).2.1.trans tn14), (vJ _ _ (by omega) (by omega) (by omega)).trans (show mJ S19 w _ = _ by rw [j19 _ (by omega), j18 _ (by omega), j17 _ (by omega), j16 _ (by omega), j15 _ (by omega)]; exact q14)⟩, ⟨(vK _ (by omega)).1.trans ((G15 _ (by omega) (by omega)).1.trans tk15), (vK _ (by omega)).2.trans ((G15 _ (by omega) (by omega)).2.1.trans tn15), (vJ _ _ (by omega) (by omega) (by omega)).trans (show mJ S19 w _ = _ by rw [j19 _ (by omega), j18 _ (by omega), j17 _ (by omega), j16 _ (by omega)]; exact q15)⟩, ⟨(vK _ (by omega)).1.trans ((G16 _ (by omega) (by omega)).1.trans tk16), (vK _ (by omega)).2.trans ((G16 _ (by omega) (by omega)).2.1.trans tn16), (vJ _ _ (by omega) (by omega) (by omega)).trans (show mJ S19 w _ = _ by rw [j19 _ (by omega), j18 _ (by omega), j17 _ (by omega)]; exact q16)⟩, ⟨(vK _ (by omega)).1.trans ((G17 _ (by omega) (by omega)).1.trans tk17), (vK _ (by omega)).2.trans ((G17 _ (by omega) (by omega)).2.1.trans tn17), (vJ _ _ (by omega) (by omega) (by omega)).trans (show mJ S19 w _ = _ by rw [j19 _ (by omega), j18 _ (by omega)]; exact q17)⟩, ⟨(vK _ (by omega)).1.trans ((G18 _ (by omega) (by omega)).1.trans tk18), (vK _ (by omega)).2.trans ((G18 _ (by omega) (by omega)).2.1.trans tn18), (vJ _ _ (by omega) (by omega) (by omega)).trans (show mJ S19 w _ = _ by rw [j19 _ (by omega)]; exact q18)⟩⟩, ⟨?_, ?_⟩, ⟨?_, ?_⟩, ⟨(vJ _ _ (by omega) (by omega) (by omega)).trans (show mJ S19 w _ = _ by rw [j19 _ (by omega), j18 _ (by omega), j17 _ (by omega), j16 _ (by omega), j15 _ (by omega), j14 _ (by omega), j13 _ (by omega)]; exact q12), (vK _ (by omega)).1.trans ((G12 _ (by omega) (by omega)).1.trans tk12), (vK _ (by omega)).2.trans ((G12 _ (by omega) (by omega)).2.1.trans tn12)⟩, (vJ _ _ (by omega) (by omega) (by omega)).trans q19, (vK _ (by omega)).1.trans tk19, (vK _ (by omega)).2.trans tn19⟩, ⟨fun k h1 h2 h3 => ?_, ?_, ?_, ?_, fun j => ?_, ?_⟩, ⟨x1, by omega⟩, fun a h1 h2 => ?_, x7⟩
  · have al : ∀ (T : zM) (κ n f : Nat), w < mS T → mK (zal T κ n f) w = mK T w := fun T κ n f h => mK_al_k (by omega)
    have e0 := @b_X6_init_0
    have e23 := @b_X6_init_23
    have e40 := @b_X6_init_40
    have e54 := @b_X6_init_54
    have e70 := @b_X6_init_70
    have e88 := @b_X6_init_88
    have e119 := @b_X6_init_119
    have e135 := @b_X6_init_135
    have e152 := @b_X6_init_152
    have e170 := @b_X6_init_170
    have e201 := @b_X6_init_201
    rw [hI0] at hJ1
    refine zcl_in' zP_X6_init ?_; rw [zn_1_2]
    refine zat_in zP_X6_init zk_X6_init_0 ?_
    simp (disch := omega) only [e0, zif, zdr, zkb, mK_wi, mN_wi, mJ_wi, mI_wi, sI_wi, beq_self_eq_true, Bool.true_or, Bool.or_true, Bool.or_false, Bool.and_self, Bool.and_true, Bool.true_and, ↓reduceIte, ble_up0, i_cl, i_succ, zix_of, zfl_k, zup_k, zup_q, z12, z334, z6, z400, z9, z108, z432, z44, c12, c334, c6, c400, c9, c108, c432, c44, al_wi, sJ_wi, mS_wi, nA_e, al, hT1, hJ1, k0]
    refine ev_tl zP_X6_init zk_X6_init_23 ?_
    refine zat_in zP_X6_init zk_X6_init_23 ?_
    simp (disch := omega) only [e23, zif, zdr, zkb, mK_wi, mN_wi, mJ_wi, mI_wi, sI_wi, beq_self_eq_true, Bool.true_or, Bool.or_true, Bool.or_false, Bool.and_self, Bool.and_true, Bool.true_and, ↓reduceIte, ble_up0, i_cl, i_succ, zix_of, zfl_k, zup_k, zup_q, z12, z334, z6, z400, z9, z108, z432, z44, c12, c334, c6, c400, c9, c108, c432, c44, al_wi, sJ_wi, mS_wi, nA_e, al, hT2, hJ2, k1, hT3, hJ3, k2]
    refine ev_tl zP_X6_init zk_X6_init_40 ?_
    refine zat_in zP_X6_init zk_X6_init_40 ?_
    simp (disch := omega) only [e40, zif, zdr, zkb, mK_wi, mN_wi, mJ_wi, mI_wi, sI_wi, beq_self_eq_true, Bool.true_or, Bool.or_true, Bool.or_false, Bool.and_self, Bool.and_true, Bool.true_and, ↓reduceIte, ble_up0, i_cl, i_succ, zix_of, zfl_k, zup_k, zup_q, z12, z334, z6, z400, z9, z108, z432, z44, c12, c334, c6, c400, c9, c108, c432, c44, al_wi, sJ_wi, mS_wi, nA_e, al, k3, k4, hT4, hJ4, ← hT5, ← hJ5]
    refine ev_tl zP_X6_init zk_X6_init_54 ?_
    refine zat_in zP_X6_init zk_X6_init_54 ?_
    simp (disch := omega) only [e54, zif, zdr, zkb, mK_wi, mN_wi, mJ_wi, mI_wi, sI_wi, beq_self_eq_true, Bool.true_or, Bool.or_true, Bool.or_false, Bool.and_self, Bool.and_true, Bool.true_and, ↓reduceIte, ble_up0, i_cl, i_succ, zix_of, zfl_k, zup_k, zup_q, z12, z334, z6, z400, z9, z108, z432, z44, c12, c334, c6, c400, c9, c108, c432, c44, al_wi, sJ_wi, mS_wi, nA_e, al, hT6, hJ6, k5, hT7, hJ7, k6]
    refine ev_tl zP_X6_init zk_X6_init_70 ?_
    refine zat_in zP_X6_init zk_X6_init_70 ?_
    simp (disch := omega) only [e70, zif, zdr, zkb, mK_wi, mN_wi, mJ_wi, mI_wi, sI_wi, beq_self_eq_true, Bool.true_or, Bool.or_true, Bool.or_false, Bool.and_self, Bool.and_true, Bool.true_and, ↓reduceIte, ble_up0, i_cl, i_succ, zix_of, zfl_k, zup_k, zup_q, z12, z334, z6, z400, z9, z108, z432, z44, c12, c334, c6, c400, c9, c108, c432, c44, al_wi, sJ_wi, mS_wi, nA_e, al, hT8, hJ8, k7, hT9, hJ9, k8]
    refine ev_tl zP_X6_init zk_X6_init_88 ?_
    refine zat_in zP_X6_init zk_X6_init_88 ?_
    simp only [e88, al_wi, mS_wi]
    refine ev_cv a10 ?_
    try simp (disch := omega) only [zif, zdr, zkb, mK_wi, mN_wi, mJ_wi, mI_wi, sI_wi, beq_self_eq_true, Bool.true_or, Bool.or_true, Bool.or_false, Bool.and_self, Bool.and_true, Bool.true_and, ↓reduceIte, ble_up0, i_cl, i_succ, zix_of, zfl_k, zup_k, zup_q, kT10, hT10, sJ_wi, al_wi, mS_wi, hJ11]
    refine ev_cv a11 ?_
    try simp (disch := omega) only [zif, zdr, zkb, mK_wi, mN_wi, mJ_wi, mI_wi, sI_wi, beq_self_eq_true, Bool.true_or, Bool.or_true, Bool.or_false, Bool.and_self, Bool.and_true, Bool.true_and, ↓reduceIte, ble_up0, i_cl, i_succ, zix_of, zfl_k, zup_k, zup_q, kT11, hT11, sJ_wi, al_wi, mS_wi, z12, z334, z6, z400, z9, z108, z432, z44, c12, c334, c6, c400, c9, c108, c432, c44, nA_e, al, k11, hT12, hJ12]
    refine ev_tl zP_X6_init zk_X6_init_119 ?_
    refine zat_in zP_X6_init zk_X6_init_119 ?_
    simp (disch := omega) only [e119, zif, zdr, zkb, mK_wi, mN_wi, mJ_wi, mI_wi, sI_wi, beq_self_eq_true, Bool.true_or, Bool.or_true, Bool.or_false, Bool.and_self, Bool.and_true, Bool.true_and, ↓reduceIte, ble_up0, i_cl, i_succ, zix_of, zfl_k, zup_k, zup_q, z12, z334, z6, z400, z9, z108, z432, z44, c12, c334, c6, c400, c9, c108, c432, c44, al_wi, sJ_wi, mS_wi, nA_e, al, hT13, hJ13, k12, hT14, hJ14, k13]
    refine ev_tl zP_X6_init zk_X6_init_135 ?_
    refine zat_in zP_X6_init zk_X6_init_135 ?_
    simp (disch := omega) only [e135, zif, zdr, zkb, mK_wi, mN_wi, mJ_wi, mI_wi, sI_wi, beq_self_eq_true, Bool.true_or, Bool.or_true, Bool.or_false, Bool.and_self, Bool.and_true, Bool.true_and, ↓reduceIte, ble_up0, i_cl, i_succ, zix_of, zfl_k, zup_k, zup_q, z12, z334, z6, z400, z9, z108, z432, z44, c12, c334, c6, c400, c9, c108, c432, c44, al_wi, sJ_wi, mS_wi, nA_e, al, hT15, hJ15, k14, hT16, hJ16, k15]
    refine ev_tl zP_X6_init zk_X6_init_152 ?_
    refine zat_in zP_X6_init zk_X6_init_152 ?_
    simp (disch := omega) only [e152, zif, zdr, zkb, mK_wi, mN_wi, mJ_wi, mI_wi, sI_wi, beq_self_eq_true, Bool.true_or, Bool.or_true, Bool.or_false, Bool.and_self, Bool.and_true, Bool.true_and, ↓reduceIte, ble_up0, i_cl, i_succ, zix_of, zfl_k, zup_k, zup_q, z12, z334, z6, z400, z9, z108, z432, z44, c12, c334, c6, c400, c9, c108, c432, c44, al_wi, sJ_wi, mS_wi, nA_e, al, hT17, hJ17, k16, hT18, hJ18, k17]
    refine ev_tl zP_X6_init zk_X6_init_170 ?_
    refine zat_in zP_X6_init zk_X6_init_170 ?_
    simp (disch := omega) only [e170, zif, zdr, zkb, mK_wi, mN_wi, mJ_wi, mI_wi, sI_wi, beq_self_eq_true, Bool.true_or, Bool.or_true, Bool.or_false, Bool.and_self, Bool.and_true, Bool.true_and, ↓reduceIte, ble_up0, i_cl, i_succ, zix_of, zfl_k, zup_k, zup_q, z12, z334, z6, z400, z9, z108, z432, z44, c12, c334, c6, c400, c9, c108, c432, c44, al_wi, sJ_wi, mS_wi, nA_e, al, hT19, hJ19, k18]
    refine ev_tl zP_X6_init zk_X6_init_180 ?_
    refine a20 _ ?_
    refine zat_in zP_X6_init zk_X6_init_201 ?_
    simp only [e201]
    exact ev_tl zP_X6_init zk_X6_init_203 a'
  · exact (vJ _ _ (by omega) (by omega) (by omega)).trans (show mJ S19 w _ = _ by rw [j19 _ (by omega), j18 _ (by omega), j17 _ (by omega), j16 _ (by omega), j15 _ (by omega), j14 _ (by omega), j13 _ (by omega), j12 _ (by omega), j11 _ (by omega)]; exact q10)
  · refine mTS.gr (lo := w + 9) (m := w + 19) W10 (fun a h1 h2 => ?_) (by omega) (by omega)
    have y := G10 a (by omega) (by omega)
    exact ⟨(vK a (by omega)).1.trans y.1, (vK a (by omega)).2.trans y.2.1, fun i => (vJ a i (by omega) (by omega) (by omega)).trans (y.2.2 i).1⟩
  · exact (vJ _ _ (by omega) (by omega) (by omega)).trans (show mJ S19 w _ = _ by rw [j19 _ (by omega), j18 _ (by omega), j17 _ (by omega), j16 _ (by omega), j15 _ (by omega), j14 _ (by omega), j13 _ (by omega), j12 _ (by omega)]; exact q11)
  · exact (vK _ (by omega)).1.trans ((G11 _ (by omega) (by omega)).1.trans tk11)
  · rw [vW, if_neg h3, hI0, zup_k (by omega), zup_k (by omega)]
    exact hI k
  · rw [vW, if_neg (by omega), hI0, zup_k (by omega), zup_q]
  · rw [vW, if_neg (by omega), hI0, zup_q]
  · rw [vW, if_pos rfl]
  · rw [vI _ _ (by omega) (by omega), ((G12 _ (by omega) (by omega)).2.2 j).2]
    exact tz12 j
  · refine wP_0 (fun k hk hk2 => ?_) ?_ (fun j => ?_) (fun j => ?_) (fun j hj => ?_)
    · rw [vW, if_neg (by omega), hI0, zup_k (by omega), zup_k (by omega)]
      exact hI k
    · rw [vW, if_neg (by omega), hI0, zup_q]
    · rw [vI _ _ (by omega) (by omega), ((G1 _ (by omega) (by omega)).2.2 j).2]
      exact tz1 j
    · rw [vI _ _ (by omega) (by omega), ((G2 _ (by omega) (by omega)).2.2 j).2]
      exact tz2 j
    · rw [x6 _ _ (by omega)]
      exact b20 j hj
  · obtain ⟨y1, y2, y3⟩ := G0 a h1 (by omega)
    obtain ⟨r1, r2, r3⟩ := g00 a h1 (by omega)
    refine ⟨((vK a (by omega)).1.trans y1).trans r1, ((vK a (by omega)).2.trans y2).trans r2, fun k => ⟨(vJ a k (by omega) (by omega) (by omega)).trans ((y3 k).1.trans (r3 k).1), (vI a k (by omega) (by omega)).trans ((y3 k).2.trans (r3 k).2)⟩⟩
end
