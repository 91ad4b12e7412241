/-! ===== a team rests (x) ===== -/
set_option maxRecDepth 100000
def tlvb (T : zT) (o : Option Nat) : zT := match o with
  | none => T
  | some b => zup (zup T 2 b 2) 3 b (T 0 6)
def trA (T : zT) (nd : Nat) (a : Int32) : zT := if a = 2 ∧ ¬ T 0 8 ≤ 0 then tgain 120 nd (zup T 0 8 (T 0 8 - 1)) else if a = 3 ∧ T 0 7 = 0 ∧ ¬ tcnt T 0 nd ≤ 1 then tlvb T (tweak T nd) else T
def trg (V : zT) (s : Nat) : Int32 := if -30 ≤ V 3 (s / 6) then (if V 3 (s / 6) ≤ -5 then 15 else 12) else 10
def trB (T : zT) : zT := zup (zup T 0 10 (T 0 10 + 1)) 0 9 0
def trest (T V : zT) (nd s : Nat) (a : Int32) : zT := trB (tgain (trg V s) nd (trA T nd a))
theorem trA_0 {T : zT} {nd : Nat} {a : Int32} {j : Nat} (hj : j ≠ 8) : trA T nd a 0 j = T 0 j := by
  unfold trA
  split
  · rw [tgain_i (by omega)]; simp [zup, hj]
  · split
    · cases tweak T nd <;> simp [tlvb, zup]
    · rfl
section
variable {E : zE} {d t w nd ng lg s b : Nat} {S : zM} {I : Nat → Nat → Int32} {T V : zT}
theorem X4_rests_a {a si : Int32} (hB : E.1 ≤ t) (hS : xTS S t) (hn : nd ≤ 16) (hP : xP I t nd ng T) (h0 : T 0 0 = Int32.ofNat nd) (hb : tweak T nd = some b) : ∃ I', (∀ r, zAt E (d + 3) 103 59 [some (zr (some t)), some (zi a), some (zr (some w)), some (zi si), none] [] (zwi S I') r → zAt E (d + 3) 103 0 [some (zr (some t)), some (zi a), some (zr (some w)), some (zi si), none] [] (zwi S I) r) ∧ xP I' t nd ng (trA T nd a) ∧ zfI t (t + 23) I I' := by
  have hS' := hS
  obtain ⟨⟨q1, q2, q3, q4⟩, ⟨qi1, qi2, qi3⟩, ⟨qa1, qa2, qa3⟩, ⟨qs1, qs2, qs3⟩, ⟨qf1, qf2, qf3⟩, ⟨qt1, qt2, qt3⟩, q5⟩ := hS
  have v8 : zvl nd ng 0 8 := Or.inl ⟨rfl, by omega⟩
  have e8 : I t 9 = T 0 8 := hP 0 8 v8
  have e7 : I t 8 = T 0 7 := hP 0 7 (Or.inl ⟨rfl, by omega⟩)
  have e6 : I t 7 = T 0 6 := hP 0 6 (Or.inl ⟨rfl, by omega⟩)
  have hb0 : Nat.ble E.1 t = true := ble_up0 hB
  have hbl := tweak_lt nd b hb
  obtain ⟨q8, q9⟩ := q5 b (by omega)
  by_cases h2 : a = 2
  · have h3 : (a = 3) = False := eq_false (by rw [h2]; decide)
    have skip : ∀ (J : Nat → Nat → Int32) (r : zR), zAt E (d + 3) 103 59 [some (zr (some t)), some (zi a), some (zr (some w)), some (zi si), none] [] (zwi S J) r → zAt E (d + 3) 103 28 [some (zr (some t)), some (zi a), some (zr (some w)), some (zi si), none] [] (zwi S J) r := by
      intro J r hr
      refine zat_in zP_X4_rests zk_X4_rests_28 ?_
      simp only [b_X4_rests_28, h3, ↓reduceIte]
      exact ev_bk hr
    by_cases h4 : T 0 8 ≤ 0
    · rw [show trA T nd a = T from by unfold trA; rw [if_neg (fun q => q.2 h4), if_neg (fun q => by rw [h3] at q; exact q.1)]]
      refine ⟨I, fun r hr => ?_, hP, zfI.rf⟩
      refine zat_in zP_X4_rests zk_X4_rests_0 ?_
      simp (disch := omega) only [b_X4_rests_0, zif, zdr, zkb, mK_wi, mN_wi, mJ_wi, mI_wi, sI_wi, beq_self_eq_true, Bool.true_or, Bool.or_true, Bool.or_false, Bool.and_self, Bool.and_true, Bool.true_and, ↓reduceIte, q1, q2, q3, q4, qi1, qi2, qi3, qa1, qa2, qa3, qs1, qs2, qs3, qf1, qf2, qf3, qt1, qt2, qt3, e8, eq_true h2, eq_true h4]
      exact ev_bk (skip _ _ hr)
    · rw [show trA T nd a = tgain 120 nd (zup T 0 8 (T 0 8 - 1)) from if_pos ⟨h2, h4⟩]
      obtain ⟨I', a1, a2, a3⟩ := sp_X4_gain (E := E) (d := d) (n := 120) (T := zup T 0 8 (T 0 8 - 1)) hB hS' hn (hP.put v8 hn (T 0 8 - 1)) (by simpa [zup] using h0)
      refine ⟨I', fun r hr => ?_, a2, (zfI.rf.put (show t ≤ t by omega) (show t < t + 23 by omega)).tr a3⟩
      refine zat_in zP_X4_rests zk_X4_rests_0 ?_
      simp (disch := omega) only [b_X4_rests_0, zif, zdr, zkb, mK_wi, mN_wi, mJ_wi, mI_wi, sI_wi, beq_self_eq_true, Bool.true_or, Bool.or_true, Bool.or_false, Bool.and_self, Bool.and_true, Bool.true_and, ↓reduceIte, q1, q2, q3, q4, qi1, qi2, qi3, qa1, qa2, qa3, qs1, qs2, qs3, qf1, qf2, qf3, qt1, qt2, qt3, e8, eq_true h2, eq_false h4, hb0]
      refine ev_cv a1 ?_
      exact ev_tl zP_X4_rests zk_X4_rests_28 (skip _ _ hr)
  · have e2 : trA T nd a = if a = 3 ∧ T 0 7 = 0 ∧ ¬ tcnt T 0 nd ≤ 1 then tlvb T (tweak T nd) else T := if_neg (fun q => h2 q.1)
    rw [e2]
    have pre : ∀ r, zAt E (d + 3) 103 28 [some (zr (some t)), some (zi a), some (zr (some w)), some (zi si), none] [] (zwi S I) r → zAt E (d + 3) 103 0 [some (zr (some t)), some (zi a), some (zr (some w)), some (zi si), none] [] (zwi S I) r := by
      intro r hr
      refine zat_in zP_X4_rests zk_X4_rests_0 ?_
      simp only [b_X4_rests_0, eq_false h2, ↓reduceIte]
      exact ev_bk hr
    by_cases h3 : a = 3
    · by_cases h4 : T 0 7 = 0
      · by_cases h5 : tcnt T 0 nd ≤ 1
        · rw [if_neg (fun q => q.2.2 h5)]
          refine ⟨I, fun r hr => pre _ ?_, hP, zfI.rf⟩
          refine zat_in zP_X4_rests zk_X4_rests_28 ?_
          simp (disch := omega) only [b_X4_rests_28, zif, zdr, zkb, mK_wi, mN_wi, mJ_wi, mI_wi, sI_wi, beq_self_eq_true, Bool.true_or, Bool.or_true, Bool.or_false, Bool.and_self, Bool.and_true, Bool.true_and, ↓reduceIte, q1, q2, q3, q4, qi1, qi2, qi3, qa1, qa2, qa3, qs1, qs2, qs3, qf1, qf2, qf3, qt1, qt2, qt3, e7, eq_true h3, eq_true h4]
          refine ev_ci (sp_X4_pulling hS' hn hP h0) ?_
          simp only [eq_true h5, ↓reduceIte]
          exact ev_bk hr
        · rw [if_pos ⟨h3, h4, h5⟩, hb]
          have v2 : zvl nd ng 2 b := Or.inr (Or.inr (Or.inl ⟨rfl, by omega⟩))
          have v3 : zvl nd ng 3 b := Or.inr (Or.inr (Or.inr (Or.inl ⟨rfl, by omega⟩)))
          refine ⟨zup (zup I (t + 7 + b) 1 2) (t + 7 + b) 2 (T 0 6), fun r hr => pre _ ?_, (hP.put v2 hn 2).put v3 hn (T 0 6), (zfI.rf.put (by omega) (by omega)).put (by omega) (by omega)⟩
          refine zat_in zP_X4_rests zk_X4_rests_28 ?_
          simp (disch := omega) only [b_X4_rests_28, zif, zdr, zkb, mK_wi, mN_wi, mJ_wi, mI_wi, sI_wi, beq_self_eq_true, Bool.true_or, Bool.or_true, Bool.or_false, Bool.and_self, Bool.and_true, Bool.true_and, ↓reduceIte, q1, q2, q3, q4, qi1, qi2, qi3, qa1, qa2, qa3, qs1, qs2, qs3, qf1, qf2, qf3, qt1, qt2, qt3, e7, eq_true h3, eq_true h4]
          refine ev_ci (sp_X4_pulling hS' hn hP h0) ?_
          simp only [eq_false h5, zif, zdr, zkb, mK_wi, mN_wi, mJ_wi, mI_wi, sI_wi, beq_self_eq_true, Bool.true_or, Bool.or_true, Bool.or_false, Bool.and_self, Bool.and_true, Bool.true_and, ↓reduceIte, q1, q2, q3, q4, qi1, qi2, qi3, qa1, qa2, qa3, qs1, qs2, qs3, qf1, qf2, qf3, qt1, qt2, qt3]
          refine ev_cr (sp_X4_weakest hS' hn hP h0) ?_
          rw [hb]
          simp only [Option.map_some, zif, zdr, zkb, mK_wi, mN_wi, mJ_wi, mI_wi, sI_wi, beq_self_eq_true, Bool.true_or, Bool.or_true, Bool.or_false, Bool.and_self, Bool.and_true, Bool.true_and, ↓reduceIte, q1, q2, q3, q4, qi1, qi2, qi3, qa1, qa2, qa3, qs1, qs2, qs3, qf1, qf2, qf3, qt1, qt2, qt3, q8, e6]
          refine ev_cv (sp_X5_leave q8 (ble_up2 hB)) ?_
          exact ev_tl zP_X4_rests zk_X4_rests_59 hr
      · rw [if_neg (fun q => h4 q.2.1)]
        refine ⟨I, fun r hr => pre _ ?_, hP, zfI.rf⟩
        refine zat_in zP_X4_rests zk_X4_rests_28 ?_
        simp (disch := omega) only [b_X4_rests_28, zif, zdr, zkb, mK_wi, mN_wi, mJ_wi, mI_wi, sI_wi, beq_self_eq_true, Bool.true_or, Bool.or_true, Bool.or_false, Bool.and_self, Bool.and_true, Bool.true_and, ↓reduceIte, q1, q2, q3, q4, qi1, qi2, qi3, qa1, qa2, qa3, qs1, qs2, qs3, qf1, qf2, qf3, qt1, qt2, qt3, e7, eq_true h3, eq_false h4]
        exact ev_bk hr
    · rw [if_neg (fun q => h3 q.1)]
      refine ⟨I, fun r hr => pre _ ?_, hP, zfI.rf⟩
      refine zat_in zP_X4_rests zk_X4_rests_28 ?_
      simp only [b_X4_rests_28, eq_false h3, ↓reduceIte]
      exact ev_bk hr
end
