/-! ===== the class is made ===== -/
set_option maxRecDepth 100000
/-- a new array of n places, in field k of t -/
def nA (S : zM) (κ n t k : Nat) : zM := sJ (zal S κ n n) t k (some (mS S))
section
variable {S : zM} {κ n t k a j : Nat}
theorem nA_e : sJ (zal S κ n n) t k (some (mS S)) = nA S κ n t k := rfl
theorem nA_Kk (h : a ≠ mS S) : mK (nA S κ n t k) a = mK S a := if_neg h
theorem nA_Kq (h : a = mS S) : mK (nA S κ n t k) a = κ := if_pos h
theorem nA_Nk (h : a ≠ mS S) : mN (nA S κ n t k) a = mN S a := if_neg h
theorem nA_Nq (h : a = mS S) : mN (nA S κ n t k) a = n := if_pos h
theorem nA_Jk (h : ¬ (a = t ∧ j = k)) (h2 : a ≠ mS S) : mJ (nA S κ n t k) a j = mJ S a j := (if_neg h).trans (if_neg h2)
theorem nA_Jq (h : a = t) (h2 : j = k) : mJ (nA S κ n t k) a j = some (mS S) := if_pos ⟨h, h2⟩
theorem nA_S : mS (nA S κ n t k) = mS S + 1 := rfl
theorem nA_U : mU (nA S κ n t k) = mU S + n := rfl
theorem nA_z (h : ∀ a, mS S ≤ a → mK S a = 0) : ∀ a, mS (nA S κ n t k) ≤ a → mK (nA S κ n t k) a = 0 := fun a ha => by
  have ha : mS S + 1 ≤ a := ha
  rw [nA_Kk (by omega)]
  exact h a (by omega)
end
/-- what making the parts of t leaves as it was: below m all, but the references of t -/
def cX (t n u : Nat) (S S' : zM) (I I' : Nat → Nat → Int32) : Prop := (mS S' = mS S + n ∧ mU S' ≤ mU S + u) ∧ (∀ a, a < mS S → mK S' a = mK S a ∧ mN S' a = mN S a) ∧ (∀ a i, a < mS S → a ≠ t → mJ S' a i = mJ S a i) ∧ (∀ a i, a < mS S → I' a i = I a i) ∧ (∀ a, mS S' ≤ a → mK S' a = 0)
/-- the frame of a constructor that works at t -/
def cW (t n u : Nat) (S S' : zM) (I I' : Nat → Nat → Int32) : Prop := (mS S' = mS S + n ∧ mU S' ≤ mU S + u) ∧ (∀ a, a < mS S → mK S' a = mK S a ∧ mN S' a = mN S a) ∧ (∀ a i, a < mS S → a ≠ t → mJ S' a i = mJ S a i ∧ I' a i = I a i) ∧ ∀ a, mS S' ≤ a → mK S' a = 0
/-- all cells below m but B stay -/
def gB (B m : Nat) (S S' : zM) (I I' : Nat → Nat → Int32) : Prop := ∀ a, a ≠ B → a < m → mK S' a = mK S a ∧ mN S' a = mN S a ∧ ∀ k, mJ S' a k = mJ S a k ∧ I' a k = I a k
/-- one field of B is made: it holds r -/
def sB (B k r n u : Nat) (S S' : zM) (I I' : Nat → Nat → Int32) : Prop := (mS S' = mS S + n ∧ mU S' ≤ mU S + u) ∧ gB B (mS S) S S' I I' ∧ (mK S' B = mK S B ∧ mN S' B = mN S B) ∧ ((∀ i, i ≠ k → mJ S' B i = mJ S B i) ∧ mJ S' B k = some r ∧ ∀ i, I' B i = I B i) ∧ ∀ a, mS S' ≤ a → mK S' a = 0
section
variable {B k r n u m m' t κ f : Nat} {S S' S1 S2 : zM} {I I' I1 I2 : Nat → Nat → Int32}
theorem cX.w (h : cX t n u S S' I I') : cW t n u S S' I I' := ⟨h.1, h.2.1, fun a i h1 h2 => ⟨h.2.2.1 a i h1 h2, h.2.2.2.1 a i h1⟩, h.2.2.2.2⟩
theorem gB.rf : gB B m S S I I := fun _ _ _ => ⟨rfl, rfl, fun _ => ⟨rfl, rfl⟩⟩
theorem gB.tr (h : gB B m S S1 I I1) (h' : gB B m' S1 S2 I1 I2) (hm : m ≤ m') : gB B m S S2 I I2 := fun a h1 h2 => by
  obtain ⟨a1, a2, a3⟩ := h a h1 h2
  obtain ⟨b1, b2, b3⟩ := h' a h1 (by omega)
  exact ⟨b1.trans a1, b2.trans a2, fun k => ⟨(b3 k).1.trans (a3 k).1, (b3 k).2.trans (a3 k).2⟩⟩
theorem gB.mono (h : gB B m S S1 I I1) (hm : m' ≤ m) : gB B m' S S1 I I1 := fun a h1 h2 => h a h1 (by omega)
theorem gB.z {lo : Nat} (h : gB B m S S1 I I1) (hl : B < lo) : zGr lo m S S1 := fun a h1 h2 => by
  obtain ⟨a1, a2, a3⟩ := h a (by omega) h2
  exact ⟨a1, a2, fun k => (a3 k).1⟩
theorem sB_A (hB : B < mS S) (hz : ∀ a, mS S ≤ a → mK S a = 0) : sB B k (mS S) 1 n S (nA S κ n B k) I (zwn I (mS S)) := by
  refine ⟨⟨rfl, Nat.le_refl _⟩, fun a h1 h2 => ⟨nA_Kk (by omega), nA_Nk (by omega), fun i => ⟨nA_Jk (by omega) (by omega), zwn_k (by omega)⟩⟩, ⟨nA_Kk (by omega), nA_Nk (by omega)⟩, ⟨fun i h => nA_Jk (by omega) (by omega), nA_Jq rfl rfl, fun i => zwn_k (by omega)⟩, nA_z hz⟩
theorem sB_O (hB : B < mS S) (hw : cW (mS S) n u (zal S κ 0 f) S' (zwn I (mS S)) I') : sB B k (mS S) (n + 1) (u + f) S (sJ S' B k (some (mS S))) I I' := by
  obtain ⟨⟨h1, h2⟩, h3, h4, h5⟩ := hw
  have h1 : mS S' = mS S + 1 + n := h1
  have h2 : mU S' ≤ mU S + f + u := h2
  have ms : mS (zal S κ 0 f) = mS S + 1 := rfl
  rw [ms] at h3 h4
  have J : ∀ a i, mJ (sJ S' B k (some (mS S))) a i = if a = B ∧ i = k then some (mS S) else mJ S' a i := fun _ _ => rfl
  have P : ∀ a, a < mS S → mK S' a = mK S a ∧ mN S' a = mN S a ∧ ∀ i, mJ S' a i = mJ S a i ∧ I' a i = I a i := fun a h =>
    ⟨(h3 a (by omega)).1.trans (mK_al_k (by omega)), (h3 a (by omega)).2.trans (mN_al_k (by omega)), fun i => ⟨(h4 a i (by omega) (by omega)).1.trans (mJ_al_k (by omega)), (h4 a i (by omega) (by omega)).2.trans (zwn_k (by omega))⟩⟩
  refine ⟨⟨by show mS S' = _; omega, by show mU S' ≤ _; omega⟩, fun a q1 q2 => ?_, ⟨(P B hB).1, (P B hB).2.1⟩, ⟨fun i hi => ?_, ?_, fun i => ((P B hB).2.2 i).2⟩, h5⟩
  · obtain ⟨p1, p2, p3⟩ := P a q2
    exact ⟨p1, p2, fun i => ⟨by rw [J, if_neg (by omega)]; exact (p3 i).1, (p3 i).2⟩⟩
  · rw [J, if_neg (by omega)]
    exact ((P B hB).2.2 i).1
  · rw [J, if_pos ⟨rfl, rfl⟩]
end
section
variable {E : zE} {d t w B : Nat} {S : zM} {I : Nat → Nat → Int32}
theorem lp_X4_init (hB : E.1 ≤ t) : ∀ c k, k + c = 16 → ∀ S I, (mK S t = 5 ∧ mJ S t 0 = some (t + 1) ∧ mK S (t + 1) = 105 ∧ mN S (t + 1) = 16 ∧ mS S = t + 7 + k ∧ ∀ j, j < k → mK S (t + 7 + j) = 6 ∧ mJ S (t + 1) j = some (t + 7 + j)) → (∀ a, mS S ≤ a → mK S a = 0) → ∃ S' I', zAt E (d + 1) 91 54 [some (zr (some t)), some (zi (Int32.ofNat k))] [] (zwi S I) (Sum.inl none, zwi S' I') ∧ (mS S' = t + 23 ∧ mU S' ≤ mU S + 3 * c) ∧ (∀ j, j < 16 → mK S' (t + 7 + j) = 6 ∧ mJ S' (t + 1) j = some (t + 7 + j)) ∧ (∀ a, a < t + 7 + k → mK S' a = mK S a ∧ mN S' a = mN S a) ∧ (∀ a i, a < t + 7 + k → a ≠ t + 1 → mJ S' a i = mJ S a i) ∧ (∀ a i, a < t + 7 + k → I' a i = I a i) ∧ (∀ a, mS S' ≤ a → mK S' a = 0) := by
  have e54 := @b_X4_init_54
  have e79 := @b_X4_init_79
  intro c
  induction c with
  | zero =>
    intro k hk S I ⟨q1, q2, q3, q4, q5, q6⟩ hz
    obtain rfl : k = 16 := by omega
    have l : ((16 : Int32) ≤ Int32.ofNat 16) = True := eq_true (by decide)
    refine ⟨S, I, ?_, ⟨q5, Nat.le_refl _⟩, q6, fun _ _ => ⟨rfl, rfl⟩, fun _ _ _ _ => rfl, fun _ _ _ => rfl, hz⟩
    refine zat_in zP_X4_init zk_X4_init_54 ?_
    simp (disch := omega) only [e54, zif, zdr, zkb, mK_wi, mN_wi, mJ_wi, mI_wi, sI_wi, beq_self_eq_true, Bool.true_or, Bool.or_true, Bool.or_false, Bool.and_self, Bool.and_true, Bool.true_and, ↓reduceIte, ble_up0, i_cl, i_succ, zix_of, zfl_k, zup_k, zup_q, l]
    refine ev_bk ?_
    refine zat_in zP_X4_init zk_X4_init_79 ?_
    simp only [e79]
    exact ev_r
  | succ c ih =>
    intro k hk S I ⟨q1, q2, q3, q4, q5, q6⟩ hz
    have l : ((16 : Int32) ≤ Int32.ofNat k) = False := by
      rw [show (16 : Int32) = Int32.ofNat 16 from rfl, i_le (by omega) (by omega)]
      exact eq_false (by omega)
    have K1 : ∀ a, mK (sJ (zal S 6 0 3) (t + 1) k (some (mS S))) a = if a = mS S then 6 else mK S a := fun _ => rfl
    have N1 : ∀ a, mN (sJ (zal S 6 0 3) (t + 1) k (some (mS S))) a = if a = mS S then 0 else mN S a := fun _ => rfl
    have J1 : ∀ a i, mJ (sJ (zal S 6 0 3) (t + 1) k (some (mS S))) a i = if a = t + 1 ∧ i = k then some (mS S) else if a = mS S then none else mJ S a i := fun _ _ => rfl
    obtain ⟨S', I', a', ⟨y1, y2⟩, y3, y4, y5, y6, y7⟩ := ih (k + 1) (by omega) (sJ (zal S 6 0 3) (t + 1) k (some (mS S))) (zwn I (mS S)) ⟨by rw [K1, if_neg (by omega)]; exact q1, by rw [J1, if_neg (by omega), if_neg (by omega)]; exact q2, by rw [K1, if_neg (by omega)]; exact q3, by rw [N1, if_neg (by omega)]; exact q4, by show mS S + 1 = _; omega, fun j hj => by
      by_cases z : j = k
      · subst z
        exact ⟨by rw [K1, if_pos (by omega)], by rw [J1, if_pos ⟨rfl, rfl⟩]; exact congrArg some q5⟩
      · obtain ⟨z1, z2⟩ := q6 j (by omega)
        exact ⟨by rw [K1, if_neg (by omega)]; exact z1, by rw [J1, if_neg (by omega), if_neg (by omega)]; exact z2⟩⟩ (fun a ha => by
      have ha : mS S + 1 ≤ a := ha
      rw [K1, if_neg (by omega)]
      exact hz a (by omega))
    have y2 : mU S' ≤ mU S + 3 + 3 * c := y2
    refine ⟨S', I', ?_, ⟨y1, by omega⟩, y3, fun a ha => ?_, fun a i ha hn => ?_, fun a i ha => ?_, y7⟩
    · have c5 : zCl E d 109 [zr (some (mS S))] (zwi (zal S 6 0 3) (zwn I (mS S))) (Sum.inl none, zwi (zal S 6 0 3) (zwn I (mS S))) := by
        have e0 := @b_X5_init_0
        refine zcl_in' zP_X5_init ?_; rw [zn_1_1]
        refine zat_in zP_X5_init zk_X5_init_0 ?_
        simp only [e0]
        exact ev_r
      have k6 : mK (zal S 6 0 3) (mS S) = 6 := mK_al_q rfl
      have k105 : mK (zal S 6 0 3) (t + 1) = 105 := (mK_al_k (by omega)).trans q3
      have n16 : mN (zal S 6 0 3) (t + 1) = 16 := (mN_al_k (by omega)).trans q4
      refine zat_in zP_X4_init zk_X4_init_54 ?_
      simp (disch := omega) only [e54, zif, zdr, zkb, mK_wi, mN_wi, mJ_wi, mI_wi, sI_wi, beq_self_eq_true, Bool.true_or, Bool.or_true, Bool.or_false, Bool.and_self, Bool.and_true, Bool.true_and, ↓reduceIte, ble_up0, i_cl, i_succ, zix_of, zfl_k, zup_k, zup_q, l, q1, al_wi, mS_wi]
      refine ev_cv c5 ?_
      try simp (disch := omega) only [zif, zdr, zkb, mK_wi, mN_wi, mJ_wi, mI_wi, sI_wi, beq_self_eq_true, Bool.true_or, Bool.or_true, Bool.or_false, Bool.and_self, Bool.and_true, Bool.true_and, ↓reduceIte, ble_up0, i_cl, i_succ, zix_of, zfl_k, zup_k, zup_q, q2, k105, k6, n16, sJ_wi]
      exact ev_bk a'
    · obtain ⟨z1, z2⟩ := y4 a (by omega)
      exact ⟨z1.trans (by rw [K1, if_neg (by omega)]), z2.trans (by rw [N1, if_neg (by omega)])⟩
    · exact (y5 a i (by omega) hn).trans (by rw [J1, if_neg (by omega), if_neg (by omega)])
    · exact (y6 a i (by omega)).trans (zwn_k (by omega))
theorem sp_X4_init (hB : E.1 ≤ t) (kt : mK S t = 5) (hS : mS S = t + 1) (hz : ∀ a, mS S ≤ a → mK S a = 0) : ∃ S' I', zCl E (d + 1) 91 [zr (some t)] (zwi S I) (Sum.inl none, zwi S' I') ∧ xTS S' t ∧ cX t 22 2098 S S' I I' := by
  have z4 : zsz 4 = true := by decide
  have c4 : Int32.toNatClampNeg 4 = 4 := by decide
  have z13 : zsz 13 = true := by decide
  have c13 : Int32.toNatClampNeg 13 = 13 := by decide
  have z16 : zsz 16 = true := by decide
  have c16 : Int32.toNatClampNeg 16 = 16 := by decide
  have z2000 : zsz 2000 = true := by decide
  have c2000 : Int32.toNatClampNeg 2000 = 2000 := by decide
  obtain ⟨S0, hS0⟩ : ∃ S0, S0 = S := ⟨_, rfl⟩
  obtain ⟨I0, hI0⟩ : ∃ I0, I0 = I := ⟨_, rfl⟩
  rw [← hS0] at kt hS hz
  have k0 := kt
  have m0 := hS
  have hz0 := hz
  have f1 : sB t 0 (mS S0) 1 16 S0 (nA S0 105 16 t 0) I0 (zwn I0 (mS S0)) := sB_A (by omega) hz0
  generalize hT1 : nA S0 105 16 t 0 = S1 at f1
  generalize hJ1 : zwn I0 (mS S0) = I1 at f1
  obtain ⟨⟨m1, u1⟩, g1, ⟨kb1, nb1⟩, ⟨j1, q1, i1⟩, hz1⟩ := id f1
  have tk1 : mK S1 (mS S0) = 105 := by rw [← hT1]; exact nA_Kq rfl
  have tn1 : mN S1 (mS S0) = 16 := by rw [← hT1]; exact nA_Nq rfl
  have tz1 : ∀ k, I1 (mS S0) k = 0 := fun k => by rw [← hJ1]; exact zwn_q rfl
  have k1 : mK S1 t = 5 := kb1.trans k0
  have f2 : sB t 13 (mS S1) 1 13 S1 (nA S1 101 13 t 13) I1 (zwn I1 (mS S1)) := sB_A (by omega) hz1
  generalize hT2 : nA S1 101 13 t 13 = S2 at f2
  generalize hJ2 : zwn I1 (mS S1) = I2 at f2
  obtain ⟨⟨m2, u2⟩, g2, ⟨kb2, nb2⟩, ⟨j2, q2, i2⟩, hz2⟩ := id f2
  have tk2 : mK S2 (mS S1) = 101 := by rw [← hT2]; exact nA_Kq rfl
  have tn2 : mN S2 (mS S1) = 13 := by rw [← hT2]; exact nA_Nq rfl
  have tz2 : ∀ k, I2 (mS S1) k = 0 := fun k => by rw [← hJ2]; exact zwn_q rfl
  have k2 : mK S2 t = 5 := kb2.trans k1
  have f3 : sB t 14 (mS S2) 1 13 S2 (nA S2 101 13 t 14) I2 (zwn I2 (mS S2)) := sB_A (by omega) hz2
  generalize hT3 : nA S2 101 13 t 14 = S3 at f3
  generalize hJ3 : zwn I2 (mS S2) = I3 at f3
  obtain ⟨⟨m3, u3⟩, g3, ⟨kb3, nb3⟩, ⟨j3, q3, i3⟩, hz3⟩ := id f3
  have tk3 : mK S3 (mS S2) = 101 := by rw [← hT3]; exact nA_Kq rfl
  have tn3 : mN S3 (mS S2) = 13 := by rw [← hT3]; exact nA_Nq rfl
  have tz3 : ∀ k, I3 (mS S2) k = 0 := fun k => by rw [← hJ3]; exact zwn_q rfl
  have k3 : mK S3 t = 5 := kb3.trans k2
  have f4 : sB t 15 (mS S3) 1 2000 S3 (nA S3 101 2000 t 15) I3 (zwn I3 (mS S3)) := sB_A (by omega) hz3
  generalize hT4 : nA S3 101 2000 t 15 = S4 at f4
  generalize hJ4 : zwn I3 (mS S3) = I4 at f4
  obtain ⟨⟨m4, u4⟩, g4, ⟨kb4, nb4⟩, ⟨j4, q4, i4⟩, hz4⟩ := id f4
  have tk4 : mK S4 (mS S3) = 101 := by rw [← hT4]; exact nA_Kq rfl
  have tn4 : mN S4 (mS S3) = 2000 := by rw [← hT4]; exact nA_Nq rfl
  have tz4 : ∀ k, I4 (mS S3) k = 0 := fun k => by rw [← hJ4]; exact zwn_q rfl
  have k4 : mK S4 t = 5 := kb4.trans k3
  have f5 : sB t 17 (mS S4) 1 4 S4 (nA S4 101 4 t 17) I4 (zwn I4 (mS S4)) := sB_A (by omega) hz4
  generalize hT5 : nA S4 101 4 t 17 = S5 at f5
  generalize hJ5 : zwn I4 (mS S4) = I5 at f5
  obtain ⟨⟨m5, u5⟩, g5, ⟨kb5, nb5⟩, ⟨j5, q5, i5⟩, hz5⟩ := id f5
  have tk5 : mK S5 (mS S4) = 101 := by rw [← hT5]; exact nA_Kq rfl
  have tn5 : mN S5 (mS S4) = 4 := by rw [← hT5]; exact nA_Nq rfl
  have tz5 : ∀ k, I5 (mS S4) k = 0 := fun k => by rw [← hJ5]; exact zwn_q rfl
  have k5 : mK S5 t = 5 := kb5.trans k4
  have f6 : sB t 18 (mS S5) 1 4 S5 (nA S5 101 4 t 18) I5 (zwn I5 (mS S5)) := sB_A (by omega) hz5
  generalize hT6 : nA S5 101 4 t 18 = S6 at f6
  generalize hJ6 : zwn I5 (mS S5) = I6 at f6
  obtain ⟨⟨m6, u6⟩, g6, ⟨kb6, nb6⟩, ⟨j6, q6, i6⟩, hz6⟩ := id f6
  have tk6 : mK S6 (mS S5) = 101 := by rw [← hT6]; exact nA_Kq rfl
  have tn6 : mN S6 (mS S5) = 4 := by rw [← hT6]; exact nA_Nq rfl
  have tz6 : ∀ k, I6 (mS S5) k = 0 := fun k => by rw [← hJ6]; exact zwn_q rfl
  have k6 : mK S6 t = 5 := kb6.trans k5
  have G5 : gB t (mS S5) S5 S6 I5 I6 := g6
  have G4 : gB t (mS S4) S4 S6 I4 I6 := g5.tr G5 (by omega)
  have G3 : gB t (mS S3) S3 S6 I3 I6 := g4.tr G4 (by omega)
  have G2 : gB t (mS S2) S2 S6 I2 I6 := g3.tr G3 (by omega)
  have G1 : gB t (mS S1) S1 S6 I1 I6 := g2.tr G2 (by omega)
  have G0 : gB t (mS S0) S0 S6 I0 I6 := g1.tr G1 (by omega)
  have n1 : mS S1 = t + 2 := by omega
  have n2 : mS S2 = t + 3 := by omega
  have n3 : mS S3 = t + 4 := by omega
  have n4 : mS S4 = t + 5 := by omega
  have n5 : mS S5 = t + 6 := by omega
  have n6 : mS S6 = t + 7 := by omega
  rw [m0] at tk1 tn1 tz1 q1
  rw [n1] at tk2 tn2 tz2 q2
  rw [n2] at tk3 tn3 tz3 q3
  rw [n3] at tk4 tn4 tz4 q4
  rw [n4] at tk5 tn5 tz5 q5
  rw [n5] at tk6 tn6 tz6 q6
  have K1 : mK S6 (t + 1) = 105 := (G1 _ (by omega) (by omega)).1.trans tk1
  have N1 : mN S6 (t + 1) = 16 := (G1 _ (by omega) (by omega)).2.1.trans tn1
  have Z1 : ∀ k, I6 (t + 1) k = 0 := fun k => ((G1 _ (by omega) (by omega)).2.2 k).2.trans (tz1 k)
  have Q1 : mJ S6 t 0 = some (t + 1) := by
    rw [j6 _ (by omega), j5 _ (by omega), j4 _ (by omega), j3 _ (by omega), j2 _ (by omega)]
    exact q1
  have K2 : mK S6 (t + 2) = 101 := (G2 _ (by omega) (by omega)).1.trans tk2
  have N2 : mN S6 (t + 2) = 13 := (G2 _ (by omega) (by omega)).2.1.trans tn2
  have Z2 : ∀ k, I6 (t + 2) k = 0 := fun k => ((G2 _ (by omega) (by omega)).2.2 k).2.trans (tz2 k)
  have Q2 : mJ S6 t 13 = some (t + 2) := by
    rw [j6 _ (by omega), j5 _ (by omega), j4 _ (by omega), j3 _ (by omega)]
    exact q2
  have K3 : mK S6 (t + 3) = 101 := (G3 _ (by omega) (by omega)).1.trans tk3
  have N3 : mN S6 (t + 3) = 13 := (G3 _ (by omega) (by omega)).2.1.trans tn3
  have Z3 : ∀ k, I6 (t + 3) k = 0 := fun k => ((G3 _ (by omega) (by omega)).2.2 k).2.trans (tz3 k)
  have Q3 : mJ S6 t 14 = some (t + 3) := by
    rw [j6 _ (by omega), j5 _ (by omega), j4 _ (by omega)]
    exact q3
  have K4 : mK S6 (t + 4) = 101 := (G4 _ (by omega) (by omega)).1.trans tk4
  have N4 : mN S6 (t + 4) = 2000 := (G4 _ (by omega) (by omega)).2.1.trans tn4
  have Z4 : ∀ k, I6 (t + 4) k = 0 := fun k => ((G4 _ (by omega) (by omega)).2.2 k).2.trans (tz4 k)
  have Q4 : mJ S6 t 15 = some (t + 4) := by
    rw [j6 _ (by omega), j5 _ (by omega)]
    exact q4
  have K5 : mK S6 (t + 5) = 101 := (G5 _ (by omega) (by omega)).1.trans tk5
  have N5 : mN S6 (t + 5) = 4 := (G5 _ (by omega) (by omega)).2.1.trans tn5
  have Z5 : ∀ k, I6 (t + 5) k = 0 := fun k => ((G5 _ (by omega) (by omega)).2.2 k).2.trans (tz5 k)
  have Q5 : mJ S6 t 17 = some (t + 5) := by
    rw [j6 _ (by omega)]
    exact q5
  have K6 : mK S6 (t + 6) = 101 := tk6
  have N6 : mN S6 (t + 6) = 4 := tn6
  have Z6 : ∀ k, I6 (t + 6) k = 0 := tz6
  have Q6 : mJ S6 t 18 = some (t + 6) := q6
  have iT : ∀ k, I6 t k = I t k := fun k => by rw [i6, i5, i4, i3, i2, i1, hI0]
  have nT : mN S6 t = mN S t := by rw [nb6, nb5, nb4, nb3, nb2, nb1, hS0]
  have al : ∀ (T : zM) (κ n : Nat), t < mS T → mK (zal T κ n n) t = mK T t := fun T κ n h => mK_al_k (by omega)
  obtain ⟨S', I', a', ⟨y1, y2⟩, y3, y4, y5, y6, y7⟩ := lp_X4_init (E := E) (d := d) hB 16 0 rfl S6 I6 ⟨k6, Q1, K1, N1, by omega, fun j hj => absurd hj (by omega)⟩ hz6
  have v : ∀ a, a < t + 7 → mK S' a = mK S6 a ∧ mN S' a = mN S6 a ∧ ∀ i, (a ≠ t + 1 → mJ S' a i = mJ S6 a i) ∧ I' a i = I6 a i := fun a h => ⟨(y4 a (by omega)).1, (y4 a (by omega)).2, fun i => ⟨fun q => y5 a i (by omega) q, y6 a i (by omega)⟩⟩
  have w : ∀ i, mJ S' t i = mJ S6 t i := fun i => ((v t (by omega)).2.2 i).1 (by omega)
  rw [← hS0, ← hI0]
  refine ⟨S', I', ?_, ⟨⟨(v t (by omega)).1.trans k6, (v _ (by omega)).1.trans K1, (v _ (by omega)).2.1.trans N1, (w _).trans Q1⟩, ⟨(v _ (by omega)).1.trans K2, (v _ (by omega)).2.1.trans N2, (w _).trans Q2⟩, ⟨(v _ (by omega)).1.trans K3, (v _ (by omega)).2.1.trans N3, (w _).trans Q3⟩, ⟨(v _ (by omega)).1.trans K4, (v _ (by omega)).2.1.trans N4, (w _).trans Q4⟩, ⟨(v _ (by omega)).1.trans K5, (v _ (by omega)).2.1.trans N5, (w _).trans Q5⟩, ⟨(v _ (by omega)).1.trans K6, (v _ (by omega)).2.1.trans N6, (w _).trans Q6⟩, y3⟩, ⟨by omega, by omega⟩, fun a ha => ?_, fun a i ha hn => ?_, fun a i ha => ?_, y7⟩
  · refine zcl_in' zP_X4_init ?_; rw [zn_1_2]
    have e0 := @b_X4_init_0
    refine zat_in zP_X4_init zk_X4_init_0 ?_
    simp (disch := omega) only [e0, zif, zdr, zkb, mK_wi, mN_wi, mJ_wi, mI_wi, sI_wi, beq_self_eq_true, Bool.true_or, Bool.or_true, Bool.or_false, Bool.and_self, Bool.and_true, Bool.true_and, ↓reduceIte, ble_up0, i_cl, i_succ, zix_of, zfl_k, zup_k, zup_q, z4, c4, z13, c13, z16, c16, z2000, c2000, al_wi, sJ_wi, mS_wi, nA_e, al, hT1, hJ1, k0, hT2, hJ2, k1]
    have e21 := @b_X4_init_21
    refine ev_tl zP_X4_init zk_X4_init_21 ?_
    refine zat_in zP_X4_init zk_X4_init_21 ?_
    simp (disch := omega) only [e21, zif, zdr, zkb, mK_wi, mN_wi, mJ_wi, mI_wi, sI_wi, beq_self_eq_true, Bool.true_or, Bool.or_true, Bool.or_false, Bool.and_self, Bool.and_true, Bool.true_and, ↓reduceIte, ble_up0, i_cl, i_succ, zix_of, zfl_k, zup_k, zup_q, z4, c4, z13, c13, z16, c16, z2000, c2000, al_wi, sJ_wi, mS_wi, nA_e, al, hT3, hJ3, k2, hT4, hJ4, k3]
    have e38 := @b_X4_init_38
    refine ev_tl zP_X4_init zk_X4_init_38 ?_
    refine zat_in zP_X4_init zk_X4_init_38 ?_
    simp (disch := omega) only [e38, zif, zdr, zkb, mK_wi, mN_wi, mJ_wi, mI_wi, sI_wi, beq_self_eq_true, Bool.true_or, Bool.or_true, Bool.or_false, Bool.and_self, Bool.and_true, Bool.true_and, ↓reduceIte, ble_up0, i_cl, i_succ, zix_of, zfl_k, zup_k, zup_q, z4, c4, z13, c13, z16, c16, z2000, c2000, al_wi, sJ_wi, mS_wi, nA_e, al, hT5, hJ5, k4, hT6, hJ6, k5]
    refine ev_tl zP_X4_init zk_X4_init_52 ?_
    have e52 := @b_X4_init_52
    refine zat_in zP_X4_init zk_X4_init_52 ?_
    simp only [e52]
    exact ev_tl zP_X4_init zk_X4_init_54 a'
  · by_cases z : a = t
    · rw [z]
      exact ⟨(v t (by omega)).1.trans (k6.trans k0.symm), (v t (by omega)).2.1.trans (nT.trans (by rw [hS0]))⟩
    · exact ⟨(v a (by omega)).1.trans (G0 a z ha).1, (v a (by omega)).2.1.trans (G0 a z ha).2.1⟩
  · exact (((v a (by omega)).2.2 i).1 (by omega)).trans ((G0 a hn ha).2.2 i).1
  · by_cases z : a = t
    · rw [z]
      exact ((v t (by omega)).2.2 i).2.trans ((iT i).trans (by rw [hI0]))
    · exact ((v a (by omega)).2.2 i).2.trans ((G0 a z ha).2.2 i).2
end
