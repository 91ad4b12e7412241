/-! ===== a team rests (model), to its end ===== -/
set_option maxRecDepth 100000
section
variable {E : zE} {d t w nd ng lg s b : Nat} {S : zM} {I : Nat → Nat → Int32} {T V : zT}
theorem X6_rests {a si a3 a4 : Int32} (hB : E.1 ≤ t) (hS : mTS S t) (hW : mK S w = 7) (hn : nd ≤ 16) (hP : mP I t nd ng T) (hL : I t 1 = tload T nd) (h0 : T 0 0 = Int32.ofNat nd) (hb : tweak T nd = some b) : ∃ I', zAt E (d + 2) 156 160 [some (zr (some w)), some (zr (some t)), some (zi si), some (zi a3), some (zi a4), some (zi a), some (zi (V 3 (s / 6))), none] [] (zwi S I) (Sum.inl none, zwi S I') ∧ mP I' t nd ng (trest T V nd s a) ∧ zfI t (t + 6) I I' ∧ I' t 1 = tload (trest T V nd s a) nd := by
  have hS' := hS
  obtain ⟨I1, u, a1, b1, c1, l1⟩ := X6_rests_a (E := E) (d := d) (w := w) (a := a) (si := si) (a3 := a3) (a4 := a4) (cc := V 3 (s / 6)) hB hS hn hP h0 hb
  obtain ⟨I2, a2, b2, c2⟩ := sp_X7_gain (E := E) (d := d) (n := trg V s) hB hS' hn b1 ((trA_0 (by omega)).trans h0)
  obtain ⟨p0, ⟨ps1, ps2, ps3⟩, ⟨pt1, pt2, pt3⟩, ⟨pl1, pl2, pl3⟩, ⟨pc1, pc2, pc3⟩, ⟨pw1, pw2, pw3⟩, ⟨pn1, pn2, pn3⟩, ⟨py1, py2, py3⟩, ⟨pf1, pf2, pf3⟩, ⟨pg1, pg2, pg3⟩⟩ := hS
  have v9 : zvl nd ng 0 9 := Or.inl ⟨rfl, by omega⟩
  have v10 : zvl nd ng 0 10 := Or.inl ⟨rfl, by omega⟩
  have e10 : I2 t 9 = tgain (trg V s) nd (trA T nd a) 0 10 := b2 0 10 v10 (by omega)
  have hb0 : Nat.ble E.1 t = true := ble_up0 hB
  have f2 : zfI t (t + 6) I1 I2 := fun a k h => c2 a k (by omega)
  refine ⟨zup (zup I2 t 9 (tgain (trg V s) nd (trA T nd a) 0 10 + 1)) t 8 0, a1 _ ?_, (b2.put v10 (by omega) _).put v9 (by omega) 0, ((c1.tr f2).put (show t ≤ t by omega) (show t < t + 6 by omega)).put (show t ≤ t by omega) (show t < t + 6 by omega), ?_⟩
  · have fin : zAt E (d + 2) 156 266 [some (zr (some w)), some (zr (some t)), some (zi si), some (zi a3), some (zi a4), some (zi a), some (zi (V 3 (s / 6))), u] [zi (trg V s), zr (some t)] (zwi S I1) (Sum.inl none, zwi S (zup (zup I2 t 9 (tgain (trg V s) nd (trA T nd a) 0 10 + 1)) t 8 0)) := by
      refine zat_in zP_X6_leads zk_X6_leads_266 ?_
      simp (disch := omega) only [b_X6_leads_266, zif, zdr, zkb, mK_wi, mN_wi, mJ_wi, mI_wi, sI_wi, beq_self_eq_true, Bool.true_or, Bool.or_true, Bool.or_false, Bool.and_self, Bool.and_true, Bool.true_and, ↓reduceIte, p0, ps1, ps2, ps3, pt1, pt2, pt3, pl1, pl2, pl3, pc1, pc2, pc3, pw1, pw2, pw3, pn1, pn2, pn3, py1, py2, py3, pf1, pf2, pf3, pg1, pg2, pg3]
      refine ev_cv a2 ?_
      simp (disch := omega) only [zif, zdr, zkb, mK_wi, mN_wi, mJ_wi, mI_wi, sI_wi, beq_self_eq_true, Bool.true_or, Bool.or_true, Bool.or_false, Bool.and_self, Bool.and_true, Bool.true_and, ↓reduceIte, p0, ps1, ps2, ps3, pt1, pt2, pt3, pl1, pl2, pl3, pc1, pc2, pc3, pw1, pw2, pw3, pn1, pn2, pn3, py1, py2, py3, pf1, pf2, pf3, pg1, pg2, pg3, hb0, e10]
      exact ev_r
    refine zat_in zP_X6_leads zk_X6_leads_239 ?_
    simp only [b_X6_leads_239]
    refine ev_th _ (fun h => ?_) (fun h => ?_)
    · refine ev_bk ?_
      refine zat_in zP_X6_leads zk_X6_leads_252 ?_
      simp only [b_X6_leads_252]
      refine ev_th _ (fun h3 => ?_) (fun h3 => ?_)
      · refine ev_bk ?_
        have e : trg V s = 15 := by unfold trg; rw [if_pos h, if_pos h3]
        rw [e] at fin ⊢
        refine zat_in zP_X6_leads zk_X6_leads_264 ?_
        simp only [b_X6_leads_264]
        exact ev_tl zP_X6_leads zk_X6_leads_266 fin
      · have e : trg V s = 12 := by unfold trg; rw [if_pos h, if_neg h3]
        rw [e] at fin ⊢
        exact ev_bk fin
    · have e : trg V s = 10 := by unfold trg; rw [if_neg h]
      rw [e] at fin ⊢
      exact ev_bk fin
  · rw [zup_k (by omega), zup_k (by omega), c2 t 1 (by omega), l1, hL, trest_load]
end
