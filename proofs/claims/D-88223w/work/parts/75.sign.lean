/-! ===== signs (x) ===== -/
set_option maxRecDepth 100000
def tsg (T : zT) (ng : Nat) (s each : Int32) : Bool := !(T 0 5 == 0) && (s - s / each * each == 0) && (tgap T s ng == 0)
def tsgn (T V : zT) (ng lg s : Nat) (each : Int32) : zT := if tsg T ng (Int32.ofNat s) each = true then zup (zup T 8 s (tway (T 0 7) V lg)) 0 12 (T 0 12 + 1) else T
section
variable {E : zE} {d t w nd ng lg s : Nat} {S : zM} {I : Nat → Nat → Int32} {T V : zT}
theorem sp_X4_sign (hB : E.1 ≤ t) (hS : xTS S t) (hW : xWS S w) (hn : nd ≤ 16) (hg : ng ≤ 4) (hP : xP I t nd ng T) (hV : wP I w V) (hg0 : T 0 13 = Int32.ofNat ng) (hl : T 0 6 = Int32.ofNat lg) (hlg : lg ≤ 12) (hs : s < 2000) (he : (V 0 3 != 0) = true) : ∃ I', zCl E (d + 1) 105 [zr (some t), zr (some w), zi (Int32.ofNat s)] (zwi S I) (Sum.inl none, zwi S I') ∧ xP I' t nd ng (tsgn T V ng lg s (V 0 3)) ∧ zfI t (t + 23) I I' := by
  have hS' := hS
  obtain ⟨⟨q1, q2, q3, q4⟩, ⟨qi1, qi2, qi3⟩, ⟨qa1, qa2, qa3⟩, ⟨qs1, qs2, qs3⟩, ⟨qf1, qf2, qf3⟩, ⟨qt1, qt2, qt3⟩, q5⟩ := hS
  have w0 := hW.1
  have v5 : zvl nd ng 0 5 := Or.inl ⟨rfl, by omega⟩
  have v12 : zvl nd ng 0 12 := Or.inl ⟨rfl, by omega⟩
  have v8 : zvl nd ng 8 s := Or.inr (Or.inr (Or.inr (Or.inr (Or.inr (Or.inr (Or.inr (Or.inr ⟨rfl, by omega⟩)))))))
  have e5 : I t 6 = T 0 5 := hP 0 5 v5
  have e12 : I t 16 = T 0 12 := hP 0 12 v12
  have e3 : I w 7 = V 0 3 := hV.1 3 (by omega)
  have hb0 : Nat.ble E.1 t = true := ble_up0 hB
  have hb4 : Nat.ble E.1 (t + 4) = true := ble_up hB
  have hz : zix (Int32.ofNat s) 2000 = true := zix_of (by omega) (by omega)
  unfold tsgn tsg
  by_cases h1 : T 0 5 = 0
  · rw [if_neg (by simp [h1])]
    refine ⟨I, ?_, hP, zfI.rf⟩
    refine zcl_in' zP_X4_sign ?_; rw [zn_3_3]
    refine zat_in zP_X4_sign zk_X4_sign_0 ?_
    simp (disch := omega) only [b_X4_sign_0, zif, zdr, zkb, mK_wi, mN_wi, mJ_wi, mI_wi, sI_wi, beq_self_eq_true, Bool.true_or, Bool.or_true, Bool.or_false, Bool.and_self, Bool.and_true, Bool.true_and, ↓reduceIte, q1, q2, q3, q4, qi1, qi2, qi3, qa1, qa2, qa3, qs1, qs2, qs3, qf1, qf2, qf3, qt1, qt2, qt3, e5, eq_true h1]
    refine ev_bk ?_
    refine zat_in zP_X4_sign zk_X4_sign_24 ?_; simp (disch := omega) only [b_X4_sign_24, zif, zdr, zkb, mK_wi, mN_wi, mJ_wi, mI_wi, sI_wi, beq_self_eq_true, Bool.true_or, Bool.or_true, Bool.or_false, Bool.and_self, Bool.and_true, Bool.true_and, ↓reduceIte]
    exact ev_r
  · by_cases h2 : Int32.ofNat s - Int32.ofNat s / V 0 3 * V 0 3 = 0
    · by_cases h3 : tgap T (Int32.ofNat s) ng = 0
      · rw [if_pos (by simp [h1, h2, h3])]
        refine ⟨zup (zup I (t + 4) s (tway (T 0 7) V lg)) t 16 (T 0 12 + 1), ?_, (hP.put v8 hn _).put v12 hn _, (zfI.rf.put (by omega) (by omega)).put (show t ≤ t by omega) (show t < t + 23 by omega)⟩
        have e6 : zup I (t + 4) s (tway (T 0 7) V lg) t 16 = T 0 12 := by rw [zup_k (by omega)]; exact e12
        refine zcl_in' zP_X4_sign ?_; rw [zn_3_3]
        refine zat_in zP_X4_sign zk_X4_sign_0 ?_
        simp (disch := omega) only [b_X4_sign_0, zif, zdr, zkb, mK_wi, mN_wi, mJ_wi, mI_wi, sI_wi, beq_self_eq_true, Bool.true_or, Bool.or_true, Bool.or_false, Bool.and_self, Bool.and_true, Bool.true_and, ↓reduceIte, q1, q2, q3, q4, qi1, qi2, qi3, qa1, qa2, qa3, qs1, qs2, qs3, qf1, qf2, qf3, qt1, qt2, qt3, w0, e5, e3, he, eq_false h1, eq_true h2]
        refine ev_ci (sp_X4_isQuiet hS' hg hP hg0) ?_
        simp only [eq_true h3, ↓reduceIte]
        refine ev_bk ?_
        refine zat_in zP_X4_sign zk_X4_sign_25 ?_
        simp (disch := omega) only [b_X4_sign_25, zc_X4_sign_46, b_X4_sign_46, zif, zdr, zkb, mK_wi, mN_wi, mJ_wi, mI_wi, sI_wi, beq_self_eq_true, Bool.true_or, Bool.or_true, Bool.or_false, Bool.and_self, Bool.and_true, Bool.true_and, ↓reduceIte, q1, q2, q3, q4, qi1, qi2, qi3, qa1, qa2, qa3, qs1, qs2, qs3, qf1, qf2, qf3, qt1, qt2, qt3]
        refine ev_ci (sp_X4_way hS' hW hP hV hl hlg) ?_
        simp (disch := omega) only [zif, zdr, zkb, mK_wi, mN_wi, mJ_wi, mI_wi, sI_wi, beq_self_eq_true, Bool.true_or, Bool.or_true, Bool.or_false, Bool.and_self, Bool.and_true, Bool.true_and, ↓reduceIte, q1, q2, q3, q4, qi1, qi2, qi3, qa1, qa2, qa3, qs1, qs2, qs3, qf1, qf2, qf3, qt1, qt2, qt3, hz, hb0, hb4, i_cl, e6]
        exact ev_r
      · rw [if_neg (by simp [h1, h2, h3])]
        refine ⟨I, ?_, hP, zfI.rf⟩
        refine zcl_in' zP_X4_sign ?_; rw [zn_3_3]
        refine zat_in zP_X4_sign zk_X4_sign_0 ?_
        simp (disch := omega) only [b_X4_sign_0, zif, zdr, zkb, mK_wi, mN_wi, mJ_wi, mI_wi, sI_wi, beq_self_eq_true, Bool.true_or, Bool.or_true, Bool.or_false, Bool.and_self, Bool.and_true, Bool.true_and, ↓reduceIte, q1, q2, q3, q4, qi1, qi2, qi3, qa1, qa2, qa3, qs1, qs2, qs3, qf1, qf2, qf3, qt1, qt2, qt3, w0, e5, e3, he, eq_false h1, eq_true h2]
        refine ev_ci (sp_X4_isQuiet hS' hg hP hg0) ?_
        simp only [eq_false h3, ↓reduceIte]
        refine ev_tl zP_X4_sign zk_X4_sign_24 ?_
        refine zat_in zP_X4_sign zk_X4_sign_24 ?_; simp (disch := omega) only [b_X4_sign_24, zif, zdr, zkb, mK_wi, mN_wi, mJ_wi, mI_wi, sI_wi, beq_self_eq_true, Bool.true_or, Bool.or_true, Bool.or_false, Bool.and_self, Bool.and_true, Bool.true_and, ↓reduceIte]
        exact ev_r
    · rw [if_neg (by simp [h1, h2])]
      refine ⟨I, ?_, hP, zfI.rf⟩
      refine zcl_in' zP_X4_sign ?_; rw [zn_3_3]
      refine zat_in zP_X4_sign zk_X4_sign_0 ?_
      simp (disch := omega) only [b_X4_sign_0, zif, zdr, zkb, mK_wi, mN_wi, mJ_wi, mI_wi, sI_wi, beq_self_eq_true, Bool.true_or, Bool.or_true, Bool.or_false, Bool.and_self, Bool.and_true, Bool.true_and, ↓reduceIte, q1, q2, q3, q4, qi1, qi2, qi3, qa1, qa2, qa3, qs1, qs2, qs3, qf1, qf2, qf3, qt1, qt2, qt3, w0, e5, e3, he, eq_false h1, eq_false h2]
      refine ev_bk ?_
      refine zat_in zP_X4_sign zk_X4_sign_24 ?_; simp (disch := omega) only [b_X4_sign_24, zif, zdr, zkb, mK_wi, mN_wi, mJ_wi, mI_wi, sI_wi, beq_self_eq_true, Bool.true_or, Bool.or_true, Bool.or_false, Bool.and_self, Bool.and_true, Bool.true_and, ↓reduceIte]
      exact ev_r
end
