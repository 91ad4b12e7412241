/-! ===== a team goes (model) ===== -/
set_option maxRecDepth 100000
theorem tload_eq {T U : zT} {nd : Nat} (h1 : T 0 1 = U 0 1) (h2 : ∀ j, j < nd → T 2 j = U 2 j) : tload T nd = tload U nd := by
  unfold tload
  rw [h1, tcnt_eq nd h2]
theorem tcnt_z {T : zT} {s : Int32} : ∀ k, (∀ j, j < k → ¬ T 2 j = s) → tcnt T s k = 0
  | 0, _ => rfl
  | k + 1, h => by
    unfold tcnt
    rw [tcnt_z k (fun j hj => h j (by omega)), if_neg (h k (by omega))]
    rfl
theorem tlv_c {T : zT} {p : Int32} {nd : Nat} : tcnt (tlv p nd T) 1 nd = 0 := by
  refine tcnt_z nd fun j hj h => ?_
  by_cases h1 : T 2 j = 1
  · rw [show tlv p nd T 2 j = 2 by simp [tlv, hj, h1]] at h
    exact absurd h (by decide)
  · rw [show tlv p nd T 2 j = T 2 j by simp [tlv, h1]] at h
    exact h1 h
section
variable {E : zE} {d t w nd ng lg s : Nat} {S : zM} {I : Nat → Nat → Int32} {T V : zT}
theorem X6_goes_a (hB : E.1 ≤ t) (hS : mTS S t) (hP : mP I t nd ng T) (hl : T 0 6 = Int32.ofNat lg) (hlg : lg < 12) {s cc : Int32} : ∃ I', (∀ r, zAt E d 159 30 [some (zr (some w)), some (zr (some t)), some (zi s), some (zi cc), none, none, none, none] [] (zwi S I') r → zAt E d 159 0 [some (zr (some w)), some (zr (some t)), some (zi s), some (zi cc), none, none, none, none] [] (zwi S I) r) ∧ mP I' t nd ng (tg1 T lg s) ∧ zfI t (t + 6) I I' ∧ I' t 1 = I t 1 := by
  obtain ⟨p0, ⟨ps1, ps2, ps3⟩, ⟨pt1, pt2, pt3⟩, ⟨pl1, pl2, pl3⟩, ⟨pc1, pc2, pc3⟩, ⟨pw1, pw2, pw3⟩, ⟨pn1, pn2, pn3⟩, ⟨py1, py2, py3⟩, ⟨pf1, pf2, pf3⟩, ⟨pg1, pg2, pg3⟩⟩ := hS
  have e6 : I t 6 = Int32.ofNat lg := (hP 0 6 (Or.inl ⟨rfl, by omega⟩) (by omega)).trans hl
  have e7 : I t 7 = T 0 7 := hP 0 7 (Or.inl ⟨rfl, by omega⟩) (by omega)
  have v5 : zvl nd ng 5 lg := Or.inr (Or.inr (Or.inr (Or.inr (Or.inr (Or.inl ⟨rfl, by omega⟩)))))
  have e5 : I (t + 5) lg = T 5 lg := hP 5 lg v5 (by omega)
  have hz : zix (Int32.ofNat lg) 13 = true := zix_of (by omega) (by omega)
  have hb3 : Nat.ble E.1 (t + 5) = true := ble_up hB
  by_cases h1 : T 0 7 = 0
  · by_cases h2 : T 5 lg = -1
    · rw [show tg1 T lg s = zup T 5 lg s from if_pos ⟨h1, h2⟩]
      refine ⟨zup I (t + 5) lg s, fun r hr => ?_, hP.put v5 (by omega) s, zfI.rf.put (by omega) (by omega), zup_k (by omega)⟩
      refine zat_in zP_X6_goes zk_X6_goes_0 ?_
      simp (disch := omega) only [b_X6_goes_0, zif, zdr, zkb, mK_wi, mN_wi, mJ_wi, mI_wi, sI_wi, beq_self_eq_true, Bool.true_or, Bool.or_true, Bool.or_false, Bool.and_self, Bool.and_true, Bool.true_and, ↓reduceIte, p0, ps1, ps2, ps3, pt1, pt2, pt3, pl1, pl2, pl3, pc1, pc2, pc3, pw1, pw2, pw3, pn1, pn2, pn3, py1, py2, py3, pf1, pf2, pf3, pg1, pg2, pg3, e5, e6, e7, h1, h2, hz, hb3, i_cl]
      exact ev_tl zP_X6_goes zk_X6_goes_30 hr
    · rw [show tg1 T lg s = T from if_neg (fun q => h2 q.2)]
      refine ⟨I, fun r hr => ?_, hP, zfI.rf, rfl⟩
      refine zat_in zP_X6_goes zk_X6_goes_0 ?_
      simp (disch := omega) only [b_X6_goes_0, zif, zdr, zkb, mK_wi, mN_wi, mJ_wi, mI_wi, sI_wi, beq_self_eq_true, Bool.true_or, Bool.or_true, Bool.or_false, Bool.and_self, Bool.and_true, Bool.true_and, ↓reduceIte, p0, ps1, ps2, ps3, pt1, pt2, pt3, pl1, pl2, pl3, pc1, pc2, pc3, pw1, pw2, pw3, pn1, pn2, pn3, py1, py2, py3, pf1, pf2, pf3, pg1, pg2, pg3, e5, e6, e7, h1, h2, hz, hb3, i_cl]
      exact ev_bk hr
  · rw [show tg1 T lg s = T from if_neg (fun q => h1 q.1)]
    refine ⟨I, fun r hr => ?_, hP, zfI.rf, rfl⟩
    refine zat_in zP_X6_goes zk_X6_goes_0 ?_
    simp (disch := omega) only [b_X6_goes_0, zif, zdr, zkb, mK_wi, mN_wi, mJ_wi, mI_wi, sI_wi, beq_self_eq_true, Bool.true_or, Bool.or_true, Bool.or_false, Bool.and_self, Bool.and_true, Bool.true_and, ↓reduceIte, p0, ps1, ps2, ps3, pt1, pt2, pt3, pl1, pl2, pl3, pc1, pc2, pc3, pw1, pw2, pw3, pn1, pn2, pn3, py1, py2, py3, pf1, pf2, pf3, pg1, pg2, pg3, e5, e6, e7, h1, hz, hb3, i_cl]
    exact ev_bk hr
theorem X6_goes_b (hB : E.1 ≤ t) (hS : mTS S t) (hW : mWS S w) (hd : w + 3 < t ∨ t + 10 ≤ w) (hP : mP I t nd ng T) (hL : I t 1 = tload (tg2 T) nd) (hV : wP I w V) (hl : T 0 6 = Int32.ofNat lg) (hlg : lg < 12) : ∃ I', (∀ r, zAt E d 159 90 [some (zr (some w)), some (zr (some t)), some (zi (Int32.ofNat s)), some (zi (V 3 (s / 6))), some (zi (tlost (tg2 T) V nd lg s)), some (zi 0), none, none] [] (zwi S I') r → zAt E d 159 30 [some (zr (some w)), some (zr (some t)), some (zi (Int32.ofNat s)), some (zi (V 3 (s / 6))), none, none, none, none] [] (zwi S I) r) ∧ mP I' t nd ng (tg2 T) ∧ zfI t (t + 6) I I' ∧ I' t 1 = I t 1 := by
  obtain ⟨p0, ⟨ps1, ps2, ps3⟩, ⟨pt1, pt2, pt3⟩, ⟨pl1, pl2, pl3⟩, ⟨pc1, pc2, pc3⟩, ⟨pw1, pw2, pw3⟩, ⟨pn1, pn2, pn3⟩, ⟨py1, py2, py3⟩, ⟨pf1, pf2, pf3⟩, ⟨pg1, pg2, pg3⟩⟩ := hS
  obtain ⟨w0, -, ⟨wb1, wb2, wb3⟩, -⟩ := hW
  have v9 : zvl nd ng 0 9 := Or.inl ⟨rfl, by omega⟩
  have v10 : zvl nd ng 0 10 := Or.inl ⟨rfl, by omega⟩
  have e9 : I t 8 = T 0 9 := hP 0 9 v9 (by omega)
  have hP2 : mP (zup (zup I t 8 (T 0 9 + 1)) t 9 0) t nd ng (tg2 T) := (hP.put v9 (by omega) _).put v10 (by omega) _
  have f2 : zfI t (t + 6) I (zup (zup I t 8 (T 0 9 + 1)) t 9 0) := (zfI.rf.put (by omega) (by omega)).put (by omega) (by omega)
  have hV2 := hV.fr (J := zup (zup I t 8 (T 0 9 + 1)) t 9 0) (fun a k h1 h2 => f2 a k (by omega))
  have hl2 : tg2 T 0 6 = Int32.ofNat lg := by simpa [tg2, zup] using hl
  have e1 : zup (zup I t 8 (T 0 9 + 1)) t 9 0 t 1 = I t 1 := by rw [zup_k (by omega), zup_k (by omega)]
  refine ⟨_, fun r hr => ?_, hP2, f2, e1⟩
  rw [hL] at e1
  generalize hI2 : zup (zup I t 8 (T 0 9 + 1)) t 9 0 = I2 at *
  have e6 : I2 t 6 = Int32.ofNat lg := (hP2 0 6 (Or.inl ⟨rfl, by omega⟩) (by omega)).trans hl2
  have e12 : I2 (w + 2) lg = V 2 lg := hV2.2.2.1 lg (by omega)
  have z1 : zix (Int32.ofNat lg) 12 = true := zix_of (by omega) (by omega)
  have n40 : ((40 : Int32) != 0) = true := by decide
  have n25 : ((25 : Int32) != 0) = true := by decide
  have n3 : ((3 : Int32) != 0) = true := by decide
  have hb0 : Nat.ble E.1 t = true := ble_up0 hB
  refine zat_in zP_X6_goes zk_X6_goes_30 ?_
  simp (disch := omega) only [b_X6_goes_30, zif, zdr, zkb, mK_wi, mN_wi, mJ_wi, mI_wi, sI_wi, beq_self_eq_true, Bool.true_or, Bool.or_true, Bool.or_false, Bool.and_self, Bool.and_true, Bool.true_and, ↓reduceIte, p0, ps1, ps2, ps3, pt1, pt2, pt3, pl1, pl2, pl3, pc1, pc2, pc3, pw1, pw2, pw3, pn1, pn2, pn3, py1, py2, py3, pf1, pf2, pf3, pg1, pg2, pg3, w0, wb1, wb2, wb3, e9, hI2, e1, e6, e12, z1, i_cl, n40, n25, n3, hb0]
  unfold tlost at hr
  refine ev_th _ (fun h => ?_) (fun h => ?_)
  · rw [if_pos h] at hr
    refine ev_bk ?_
    refine zat_in zP_X6_goes zk_X6_goes_83 ?_
    simp only [b_X6_goes_83, zc_X6_goes_84, b_X6_goes_84]
    exact ev_tl zP_X6_goes zk_X6_goes_90 hr
  · rw [if_neg h] at hr
    refine ev_bk ?_
    refine zat_in zP_X6_goes zk_X6_goes_84 ?_
    simp only [b_X6_goes_84]
    exact ev_tl zP_X6_goes zk_X6_goes_90 hr
end
