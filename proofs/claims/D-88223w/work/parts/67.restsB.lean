/-! ===== a team rests (x), to its end ===== -/
set_option maxRecDepth 100000
section
variable {E : zE} {d t w nd ng lg s b : Nat} {S : zM} {I : Nat → Nat → Int32} {T V : zT}
theorem sp_X4_rests {a : Int32} (hB : E.1 ≤ t) (hS : xTS S t) (hW : xWS S w) (hd : w + 3 < t ∨ t + 23 ≤ w) (hn : nd ≤ 16) (hP : xP I t nd ng T) (hV : wP I w V) (h0 : T 0 0 = Int32.ofNat nd) (hb : tweak T nd = some b) (hs : s < 2000) : ∃ I', zCl E (d + 3) 103 [zr (some t), zi a, zr (some w), zi (Int32.ofNat s)] (zwi S I) (Sum.inl none, zwi S I') ∧ xP I' t nd ng (trest T V nd s a) ∧ zfI t (t + 23) I I' := by
  have hS' := hS
  obtain ⟨I1, a1, b1, c1⟩ := X4_rests_a (E := E) (d := d) (w := w) (a := a) (si := Int32.ofNat s) hB hS hn hP h0 hb
  have hV1 := hV.fr (J := I1) (fun a k h1 h2 => c1 a k (by omega))
  obtain ⟨I2, a2, b2, c2⟩ := sp_X4_gain (E := E) (d := d) (n := trg V s) hB hS' hn b1 ((trA_0 (by omega)).trans h0)
  obtain ⟨⟨q1, q2, q3, q4⟩, ⟨qi1, qi2, qi3⟩, ⟨qa1, qa2, qa3⟩, ⟨qs1, qs2, qs3⟩, ⟨qf1, qf2, qf3⟩, ⟨qt1, qt2, qt3⟩, q5⟩ := hS
  obtain ⟨w0, -, -, ⟨wc1, wc2, wc3⟩⟩ := hW
  have v9 : zvl nd ng 0 9 := Or.inl ⟨rfl, by omega⟩
  have v10 : zvl nd ng 0 10 := Or.inl ⟨rfl, by omega⟩
  have e10 : I2 t 11 = tgain (trg V s) nd (trA T nd a) 0 10 := b2 0 10 v10
  have e13 : I1 (w + 3) (s / 6) = V 3 (s / 6) := hV1.2.2.2 (s / 6) (by omega)
  have z2 : zix (Int32.ofNat (s / 6)) 334 = true := zix_of (by omega) (by omega)
  have n6 : ((6 : Int32) != 0) = true := by decide
  have hb0 : Nat.ble E.1 t = true := ble_up0 hB
  refine ⟨zup (zup I2 t 11 (tgain (trg V s) nd (trA T nd a) 0 10 + 1)) t 10 0, ?_, (b2.put v10 hn _).put v9 hn 0, ((c1.tr c2).put (show t ≤ t by omega) (show t < t + 23 by omega)).put (show t ≤ t by omega) (show t < t + 23 by omega)⟩
  refine zcl_in' zP_X4_rests ?_; rw [zn_4_5]
  refine a1 _ ?_
  have fin : ∀ c4 : Int32, zAt E (d + 3) 103 97 [some (zr (some t)), some (zi a), some (zr (some w)), some (zi (Int32.ofNat s)), some (zi c4)] [zi (trg V s), zr (some t)] (zwi S I1) (Sum.inl none, zwi S (zup (zup I2 t 11 (tgain (trg V s) nd (trA T nd a) 0 10 + 1)) t 10 0)) := by
    intro c4
    refine zat_in zP_X4_rests zk_X4_rests_97 ?_
    simp (disch := omega) only [b_X4_rests_97, zif, zdr, zkb, mK_wi, mN_wi, mJ_wi, mI_wi, sI_wi, beq_self_eq_true, Bool.true_or, Bool.or_true, Bool.or_false, Bool.and_self, Bool.and_true, Bool.true_and, ↓reduceIte, q1, q2, q3, q4, qi1, qi2, qi3, qa1, qa2, qa3, qs1, qs2, qs3, qf1, qf2, qf3, qt1, qt2, qt3]
    refine ev_cv a2 ?_
    simp (disch := omega) only [zif, zdr, zkb, mK_wi, mN_wi, mJ_wi, mI_wi, sI_wi, beq_self_eq_true, Bool.true_or, Bool.or_true, Bool.or_false, Bool.and_self, Bool.and_true, Bool.true_and, ↓reduceIte, q1, q2, q3, q4, qi1, qi2, qi3, qa1, qa2, qa3, qs1, qs2, qs3, qf1, qf2, qf3, qt1, qt2, qt3, hb0, e10]
    exact ev_r
  refine zat_in zP_X4_rests zk_X4_rests_59 ?_
  simp (disch := omega) only [b_X4_rests_59, zif, zdr, zkb, mK_wi, mN_wi, mJ_wi, mI_wi, sI_wi, beq_self_eq_true, Bool.true_or, Bool.or_true, Bool.or_false, Bool.and_self, Bool.and_true, Bool.true_and, ↓reduceIte, q1, q2, q3, q4, qi1, qi2, qi3, qa1, qa2, qa3, qs1, qs2, qs3, qf1, qf2, qf3, qt1, qt2, qt3, w0, wc1, wc2, wc3, i_div6, z2, i_cl, e13, n6]
  refine ev_th _ (fun h => ?_) (fun h => ?_)
  · refine ev_bk ?_
    refine zat_in zP_X4_rests zk_X4_rests_83 ?_
    simp only [b_X4_rests_83]
    refine ev_th _ (fun h3 => ?_) (fun h3 => ?_)
    · refine ev_bk ?_
      have e : trg V s = 15 := by unfold trg; rw [if_pos h, if_pos h3]
      rw [e] at fin ⊢
      refine zat_in zP_X4_rests zk_X4_rests_95 ?_
      simp only [b_X4_rests_95]
      exact ev_tl zP_X4_rests zk_X4_rests_97 (fin _)
    · have e : trg V s = 12 := by unfold trg; rw [if_pos h, if_neg h3]
      rw [e] at fin ⊢
      exact ev_bk (fin _)
  · have e : trg V s = 10 := by unfold trg; rw [if_neg h]
    rw [e] at fin ⊢
    exact ev_bk (fin _)
end
