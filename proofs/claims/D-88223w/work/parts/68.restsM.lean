/-! ===== a team rests (model): the end of leads ===== -/
set_option maxRecDepth 100000
theorem tcnt_up {T : zT} {b : Nat} {v s : Int32} (h1 : ¬ T 2 b = s) (h2 : ¬ v = s) : ∀ k, tcnt (zup T 2 b v) s k = tcnt T s k
  | 0 => rfl
  | k + 1 => by
    unfold tcnt
    rw [tcnt_up h1 h2 k]
    by_cases e : k = b
    · subst e
      rw [zup_q, if_neg h1, if_neg h2]
    · rw [zup_k (fun q => e q.2)]
theorem trA_load {T : zT} {nd : Nat} {a : Int32} : tload (trA T nd a) nd = tload T nd := by
  unfold trA
  split
  · exact tload_eq (by rw [tgain_i (by omega)]; simp [zup]) (fun j hj => by rw [tgain_i (by omega)]; simp [zup])
  · split
    · cases hw : tweak T nd with
      | none => rfl
      | some b =>
        have hb := (tweak_lt nd b hw).2
        unfold tlvb tload
        rw [show tcnt (zup (zup T 2 b 2) 3 b (T 0 6)) 1 nd = tcnt (zup T 2 b 2) 1 nd from tcnt_eq nd (fun j hj => by simp [zup]), tcnt_up (by rw [hb]; decide) (by decide)]
        simp [zup]
    · rfl
theorem trest_load {T V : zT} {nd s : Nat} {a : Int32} : tload (trest T V nd s a) nd = tload T nd := by
  rw [← trA_load (T := T) (nd := nd) (a := a)]
  exact tload_eq (by simp [trest, trB, zup]; exact tgain_i (by omega)) (fun j hj => by simp [trest, trB, zup]; exact tgain_i (by omega))
section
variable {E : zE} {d t w nd ng lg s b : Nat} {S : zM} {I : Nat → Nat → Int32} {T V : zT}
theorem X6_rests_a {a si a3 a4 cc : Int32} (hB : E.1 ≤ t) (hS : mTS S t) (hn : nd ≤ 16) (hP : mP I t nd ng T) (h0 : T 0 0 = Int32.ofNat nd) (hb : tweak T nd = some b) : ∃ (I' : Nat → Nat → Int32) (u : Option zV), (∀ r, zAt E (d + 2) 156 239 [some (zr (some w)), some (zr (some t)), some (zi si), some (zi a3), some (zi a4), some (zi a), some (zi cc), u] [] (zwi S I') r → zAt E (d + 2) 156 160 [some (zr (some w)), some (zr (some t)), some (zi si), some (zi a3), some (zi a4), some (zi a), some (zi cc), none] [] (zwi S I) r) ∧ mP I' t nd ng (trA T nd a) ∧ zfI t (t + 6) I I' ∧ I' t 1 = I t 1 := by
  have hS' := hS
  obtain ⟨p0, ⟨ps1, ps2, ps3⟩, ⟨pt1, pt2, pt3⟩, ⟨pl1, pl2, pl3⟩, ⟨pc1, pc2, pc3⟩, ⟨pw1, pw2, pw3⟩, ⟨pn1, pn2, pn3⟩, ⟨py1, py2, py3⟩, ⟨pf1, pf2, pf3⟩, ⟨pg1, pg2, pg3⟩⟩ := hS
  have v8 : zvl nd ng 0 8 := Or.inl ⟨rfl, by omega⟩
  have e8 : I t 2 = T 0 8 := hP 0 8 v8 (by omega)
  have e7 : I t 7 = T 0 7 := hP 0 7 (Or.inl ⟨rfl, by omega⟩) (by omega)
  have e6 : I t 6 = T 0 6 := hP 0 6 (Or.inl ⟨rfl, by omega⟩) (by omega)
  have hb0 : Nat.ble E.1 t = true := ble_up0 hB
  have hb2 : Nat.ble E.1 (t + 2) = true := ble_up hB
  have hb3 : Nat.ble E.1 (t + 3) = true := ble_up hB
  have hbl := tweak_lt nd b hb
  have hz : zix (Int32.ofNat b) 16 = true := zix_of (by omega) (by omega)
  by_cases h24 : a = 2 ∧ ¬ T 0 8 ≤ 0
  · obtain ⟨h2, h4⟩ := h24
    rw [show trA T nd a = tgain 120 nd (zup T 0 8 (T 0 8 - 1)) from if_pos ⟨h2, h4⟩]
    obtain ⟨I', a1, a2, a3'⟩ := sp_X7_gain (E := E) (d := d) (n := 120) (T := zup T 0 8 (T 0 8 - 1)) hB hS' hn (hP.put v8 (by omega) (T 0 8 - 1)) (by simpa [zup] using h0)
    refine ⟨I', none, fun r hr => ?_, a2, (zfI.rf.put (show t ≤ t by omega) (show t < t + 6 by omega)).tr (fun a k h => a3' a k (by omega)), (a3' t 1 (by omega)).trans (zup_k (fun q => by have := q.2; revert this; show ¬ (1 = 2); omega))⟩
    refine zat_in zP_X6_leads zk_X6_leads_160 ?_
    simp (disch := omega) only [b_X6_leads_160, zif, zdr, zkb, mK_wi, mN_wi, mJ_wi, mI_wi, sI_wi, beq_self_eq_true, Bool.true_or, Bool.or_true, Bool.or_false, Bool.and_self, Bool.and_true, Bool.true_and, ↓reduceIte, p0, ps1, ps2, ps3, pt1, pt2, pt3, pl1, pl2, pl3, pc1, pc2, pc3, pw1, pw2, pw3, pn1, pn2, pn3, py1, py2, py3, pf1, pf2, pf3, pg1, pg2, pg3, e8, eq_true h2, eq_false h4, hb0]
    refine ev_cv a1 ?_
    exact ev_bk hr
  · rw [show trA T nd a = if a = 3 ∧ T 0 7 = 0 ∧ ¬ tcnt T 0 nd ≤ 1 then tlvb T (tweak T nd) else T from if_neg h24]
    have pre : ∀ r, zAt E (d + 2) 156 192 [some (zr (some w)), some (zr (some t)), some (zi si), some (zi a3), some (zi a4), some (zi a), some (zi cc), none] [] (zwi S I) r → zAt E (d + 2) 156 160 [some (zr (some w)), some (zr (some t)), some (zi si), some (zi a3), some (zi a4), some (zi a), some (zi cc), none] [] (zwi S I) r := by
      intro r hr
      by_cases h2 : a = 2
      · have h4 : T 0 8 ≤ 0 := Classical.byContradiction fun h => h24 ⟨h2, h⟩
        refine zat_in zP_X6_leads zk_X6_leads_160 ?_
        simp (disch := omega) only [b_X6_leads_160, zif, zdr, zkb, mK_wi, mN_wi, mJ_wi, mI_wi, sI_wi, beq_self_eq_true, Bool.true_or, Bool.or_true, Bool.or_false, Bool.and_self, Bool.and_true, Bool.true_and, ↓reduceIte, p0, ps1, ps2, ps3, pt1, pt2, pt3, pl1, pl2, pl3, pc1, pc2, pc3, pw1, pw2, pw3, pn1, pn2, pn3, py1, py2, py3, pf1, pf2, pf3, pg1, pg2, pg3, e8, eq_true h2, eq_true h4, hb0]
        exact ev_bk hr
      · refine zat_in zP_X6_leads zk_X6_leads_160 ?_
        simp (disch := omega) only [b_X6_leads_160, zif, zdr, zkb, mK_wi, mN_wi, mJ_wi, mI_wi, sI_wi, beq_self_eq_true, Bool.true_or, Bool.or_true, Bool.or_false, Bool.and_self, Bool.and_true, Bool.true_and, ↓reduceIte, p0, ps1, ps2, ps3, pt1, pt2, pt3, pl1, pl2, pl3, pc1, pc2, pc3, pw1, pw2, pw3, pn1, pn2, pn3, py1, py2, py3, pf1, pf2, pf3, pg1, pg2, pg3, e8, eq_false h2]
        exact ev_bk hr
    by_cases h3 : a = 3
    · by_cases h4 : T 0 7 = 0
      · by_cases h5 : tcnt T 0 nd ≤ 1
        · rw [if_neg (fun q => q.2.2 h5)]
          refine ⟨I, none, fun r hr => pre _ ?_, hP, zfI.rf, rfl⟩
          refine zat_in zP_X6_leads zk_X6_leads_192 ?_
          simp (disch := omega) only [b_X6_leads_192, zif, zdr, zkb, mK_wi, mN_wi, mJ_wi, mI_wi, sI_wi, beq_self_eq_true, Bool.true_or, Bool.or_true, Bool.or_false, Bool.and_self, Bool.and_true, Bool.true_and, ↓reduceIte, p0, ps1, ps2, ps3, pt1, pt2, pt3, pl1, pl2, pl3, pc1, pc2, pc3, pw1, pw2, pw3, pn1, pn2, pn3, py1, py2, py3, pf1, pf2, pf3, pg1, pg2, pg3, e7, eq_true h3, eq_true h4]
          refine ev_ci (sp_X7_of hS' hn hP h0) ?_
          simp only [eq_true h5, ↓reduceIte]
          exact ev_bk hr
        · rw [if_pos ⟨h3, h4, h5⟩, hb]
          have v2 : zvl nd ng 2 b := Or.inr (Or.inr (Or.inl ⟨rfl, by omega⟩))
          have v3 : zvl nd ng 3 b := Or.inr (Or.inr (Or.inr (Or.inl ⟨rfl, by omega⟩)))
          have e9 : zup I (t + 2) b 2 t 6 = T 0 6 := by rw [zup_k (by omega)]; exact e6
          refine ⟨zup (zup I (t + 2) b 2) (t + 3) b (T 0 6), some (zi (Int32.ofNat b)), fun r hr => pre _ ?_, (hP.put v2 (by omega) 2).put v3 (by omega) (T 0 6), (zfI.rf.put (by omega) (by omega)).put (by omega) (by omega), by rw [zup_k (by omega), zup_k (by omega)]⟩
          refine zat_in zP_X6_leads zk_X6_leads_192 ?_
          simp (disch := omega) only [b_X6_leads_192, zif, zdr, zkb, mK_wi, mN_wi, mJ_wi, mI_wi, sI_wi, beq_self_eq_true, Bool.true_or, Bool.or_true, Bool.or_false, Bool.and_self, Bool.and_true, Bool.true_and, ↓reduceIte, p0, ps1, ps2, ps3, pt1, pt2, pt3, pl1, pl2, pl3, pc1, pc2, pc3, pw1, pw2, pw3, pn1, pn2, pn3, py1, py2, py3, pf1, pf2, pf3, pg1, pg2, pg3, e7, eq_true h3, eq_true h4]
          refine ev_ci (sp_X7_of hS' hn hP h0) ?_
          simp only [eq_false h5, zif, zdr, zkb, mK_wi, mN_wi, mJ_wi, mI_wi, sI_wi, beq_self_eq_true, Bool.true_or, Bool.or_true, Bool.or_false, Bool.and_self, Bool.and_true, Bool.true_and, ↓reduceIte, p0, ps1, ps2, ps3, pt1, pt2, pt3, pl1, pl2, pl3, pc1, pc2, pc3, pw1, pw2, pw3, pn1, pn2, pn3, py1, py2, py3, pf1, pf2, pf3, pg1, pg2, pg3]
          refine ev_ci (sp_X7_weakest hS' hn hP h0) ?_
          rw [hb]
          simp (disch := omega) only [wI, zif, zdr, zkb, mK_wi, mN_wi, mJ_wi, mI_wi, sI_wi, beq_self_eq_true, Bool.true_or, Bool.or_true, Bool.or_false, Bool.and_self, Bool.and_true, Bool.true_and, ↓reduceIte, p0, ps1, ps2, ps3, pt1, pt2, pt3, pl1, pl2, pl3, pc1, pc2, pc3, pw1, pw2, pw3, pn1, pn2, pn3, py1, py2, py3, pf1, pf2, pf3, pg1, pg2, pg3, hz, hb2, hb3, i_cl, e9]
          exact ev_tl zP_X6_leads zk_X6_leads_239 hr
      · rw [if_neg (fun q => h4 q.2.1)]
        refine ⟨I, none, fun r hr => pre _ ?_, hP, zfI.rf, rfl⟩
        refine zat_in zP_X6_leads zk_X6_leads_192 ?_
        simp (disch := omega) only [b_X6_leads_192, zif, zdr, zkb, mK_wi, mN_wi, mJ_wi, mI_wi, sI_wi, beq_self_eq_true, Bool.true_or, Bool.or_true, Bool.or_false, Bool.and_self, Bool.and_true, Bool.true_and, ↓reduceIte, p0, ps1, ps2, ps3, pt1, pt2, pt3, pl1, pl2, pl3, pc1, pc2, pc3, pw1, pw2, pw3, pn1, pn2, pn3, py1, py2, py3, pf1, pf2, pf3, pg1, pg2, pg3, e7, eq_true h3, eq_false h4]
        exact ev_bk hr
    · rw [if_neg (fun q => h3 q.1)]
      refine ⟨I, none, fun r hr => pre _ ?_, hP, zfI.rf, rfl⟩
      refine zat_in zP_X6_leads zk_X6_leads_192 ?_
      simp only [b_X6_leads_192, eq_false h3, ↓reduceIte]
      exact ev_bk hr
end
