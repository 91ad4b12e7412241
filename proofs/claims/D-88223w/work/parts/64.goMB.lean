/-! ===== a team goes (model), to its end ===== -/
set_option maxRecDepth 100000
section
variable {E : zE} {d t w nd ng lg s : Nat} {S : zM} {I : Nat → Nat → Int32} {T V : zT}
theorem msl_1 : ∀ j, j < 14 → msl j ≠ 1 := by decide +kernel
theorem mP.load {I : Nat → Nat → Int32} {t nd ng : Nat} {T : zT} (h : mP I t nd ng T) (v : Int32) : mP (zup I t 1 v) t nd ng T := by
  intro i j hv h8
  rw [zup_k (fun q => ?_)]
  · exact h i j hv h8
  · obtain ⟨q1, q2⟩ := q
    rcases hv with ⟨rfl, h⟩ | ⟨rfl, h⟩ | ⟨rfl, h⟩ | ⟨rfl, h⟩ | ⟨rfl, h⟩ | ⟨rfl, h⟩ | ⟨rfl, h⟩ | ⟨rfl, h⟩ | ⟨rfl, h⟩ <;> simp only [mA, mKk] at q1 q2 <;> first | omega | exact msl_1 j h q2 | exact absurd rfl h8
theorem X6_goes_c {cc n a5 : Int32} (hB : E.1 ≤ t) (hS : mTS S t) (hW : mWS S w) (hd : w + 3 < t ∨ t + 10 ≤ w) (hn : nd ≤ 16) (hP : mP I t nd ng T) (hV : wP I w V) (h0 : T 0 0 = Int32.ofNat nd) (hl : T 0 6 = Int32.ofNat lg) (hlg : lg < 12) (hh : (1000 * V 2 lg != 0) = true) (hq : (20 * tcnt T 0 nd + tload T nd != 0) = true) : ∃ I', zAt E (d + 2) 159 160 [some (zr (some w)), some (zr (some t)), some (zi (Int32.ofNat s)), some (zi cc), some (zi n), some (zi a5), none, none] [] (zwi S I) (Sum.inl none, zwi S I') ∧ mP I' t nd ng (if tcnt T 0 nd = 0 then zup T 0 5 3 else if tg4 T V nd lg 0 7 < V 1 lg then tg4 T V nd lg else tcome (tg4 T V nd lg) V nd lg (Int32.ofNat s + 1)) ∧ zfI t (t + 6) I I' ∧ I' t 1 = tload (if tcnt T 0 nd = 0 then zup T 0 5 3 else if tg4 T V nd lg 0 7 < V 1 lg then tg4 T V nd lg else tcome (tg4 T V nd lg) V nd lg (Int32.ofNat s + 1)) nd := by
  have hS' := hS
  obtain ⟨p0, ⟨ps1, ps2, ps3⟩, ⟨pt1, pt2, pt3⟩, ⟨pl1, pl2, pl3⟩, ⟨pc1, pc2, pc3⟩, ⟨pw1, pw2, pw3⟩, ⟨pn1, pn2, pn3⟩, ⟨py1, py2, py3⟩, ⟨pf1, pf2, pf3⟩, ⟨pg1, pg2, pg3⟩⟩ := hS
  obtain ⟨w0, ⟨wa1, wa2, wa3⟩, ⟨wb1, wb2, wb3⟩, -⟩ := hW
  have v1 : zvl nd ng 0 1 := Or.inl ⟨rfl, by omega⟩
  have v4 : zvl nd ng 4 (lg + 1) := Or.inr (Or.inr (Or.inr (Or.inr (Or.inl ⟨rfl, by omega⟩))))
  have v5 : zvl nd ng 0 5 := Or.inl ⟨rfl, by omega⟩
  have v6 : zvl nd ng 0 6 := Or.inl ⟨rfl, by omega⟩
  have v7 : zvl nd ng 0 7 := Or.inl ⟨rfl, by omega⟩
  have hb0 : Nat.ble E.1 t = true := ble_up0 hB
  have hb4 : Nat.ble E.1 (t + 4) = true := ble_up hB
  have z1 : zix (Int32.ofNat lg) 12 = true := zix_of (by omega) (by omega)
  have e2 : I t 13 = T 0 1 := hP 0 1 v1 (by omega)
  have hPl := hP.load (tload T nd)
  have f0 : zfI t (t + 6) I (zup I t 1 (tload T nd)) := zfI.rf.put (by omega) (by omega)
  have hVl := hV.fr (J := zup I t 1 (tload T nd)) (fun a k h1 h2 => f0 a k (by omega))
  have e1 : zup I t 1 (tload T nd) t 1 = tload T nd := zup_q _ _ _ _
  have hld : I t 13 + 25 * tcnt T 1 nd = tload T nd := by rw [e2]; rfl
  generalize hI1 : zup I t 1 (tload T nd) = I1 at *
  have e6 : I1 t 6 = Int32.ofNat lg := (hPl 0 6 v6 (by omega)).trans hl
  have e7 : I1 t 7 = T 0 7 := hPl 0 7 v7 (by omega)
  have e12 : I1 (w + 2) lg = V 2 lg := hVl.2.2.1 lg (by omega)
  by_cases hc : tcnt T 0 nd = 0
  · rw [if_pos hc]
    refine ⟨zup I1 t 5 3, ?_, hPl.put v5 (by omega) 3, f0.put (by omega) (by omega), ?_⟩
    · refine zat_in zP_X6_goes zk_X6_goes_160 ?_
      simp (disch := omega) only [b_X6_goes_160, zif, zdr, zkb, mK_wi, mN_wi, mJ_wi, mI_wi, sI_wi, beq_self_eq_true, Bool.true_or, Bool.or_true, Bool.or_false, Bool.and_self, Bool.and_true, Bool.true_and, ↓reduceIte, p0, ps1, ps2, ps3, pt1, pt2, pt3, pl1, pl2, pl3, pc1, pc2, pc3, pw1, pw2, pw3, pn1, pn2, pn3, py1, py2, py3, pf1, pf2, pf3, pg1, pg2, pg3, w0]
      refine ev_ci (sp_X7_of hS' hn hP h0) ?_
      simp (disch := omega) only [zif, zdr, zkb, mK_wi, mN_wi, mJ_wi, mI_wi, sI_wi, beq_self_eq_true, Bool.true_or, Bool.or_true, Bool.or_false, Bool.and_self, Bool.and_true, Bool.true_and, ↓reduceIte, p0, ps1, ps2, ps3, pt1, pt2, pt3, pl1, pl2, pl3, pc1, pc2, pc3, pw1, pw2, pw3, pn1, pn2, pn3, py1, py2, py3, pf1, pf2, pf3, pg1, pg2, pg3, hb0, hld, hI1, w0]
      refine ev_ci (sp_X7_of hS' hn hPl h0) ?_
      simp (disch := omega) only [zif, zdr, zkb, mK_wi, mN_wi, mJ_wi, mI_wi, sI_wi, beq_self_eq_true, Bool.true_or, Bool.or_true, Bool.or_false, Bool.and_self, Bool.and_true, Bool.true_and, ↓reduceIte, p0, ps1, ps2, ps3, pt1, pt2, pt3, pl1, pl2, pl3, pc1, pc2, pc3, pw1, pw2, pw3, pn1, pn2, pn3, py1, py2, py3, pf1, pf2, pf3, pg1, pg2, pg3, hb0, hc, w0]
      exact ev_r
    · rw [zup_k (by omega), e1]
      exact tload_eq (by simp [zup]) (fun j hj => by simp [zup])
  · rw [if_neg hc]
    have hP4 : mP (zup I1 t 7 (T 0 7 + tspd T V nd lg)) t nd ng (tg4 T V nd lg) := hPl.put v7 (by omega) _
    have f4 : zfI t (t + 6) I (zup I1 t 7 (T 0 7 + tspd T V nd lg)) := f0.put (by omega) (by omega)
    have hV4 := hV.fr (J := zup I1 t 7 (T 0 7 + tspd T V nd lg)) (fun a k h1 h2 => f4 a k (by omega))
    have e14 : zup I1 t 7 (T 0 7 + tspd T V nd lg) t 1 = tload T nd := by rw [zup_k (by omega)]; exact e1
    have main : ∀ r, zAt E (d + 2) 159 249 [some (zr (some w)), some (zr (some t)), some (zi (Int32.ofNat s)), some (zi cc), some (zi n), some (zi (tcnt T 0 nd)), some (zi (tspd T V nd lg)), none] [] (zwi S (zup I1 t 7 (T 0 7 + tspd T V nd lg))) r → zAt E (d + 2) 159 160 [some (zr (some w)), some (zr (some t)), some (zi (Int32.ofNat s)), some (zi cc), some (zi n), some (zi a5), none, none] [] (zwi S I) r := by
      intro r hr
      refine zat_in zP_X6_goes zk_X6_goes_160 ?_
      simp (disch := omega) only [b_X6_goes_160, zif, zdr, zkb, mK_wi, mN_wi, mJ_wi, mI_wi, sI_wi, beq_self_eq_true, Bool.true_or, Bool.or_true, Bool.or_false, Bool.and_self, Bool.and_true, Bool.true_and, ↓reduceIte, p0, ps1, ps2, ps3, pt1, pt2, pt3, pl1, pl2, pl3, pc1, pc2, pc3, pw1, pw2, pw3, pn1, pn2, pn3, py1, py2, py3, pf1, pf2, pf3, pg1, pg2, pg3, w0]
      refine ev_ci (sp_X7_of hS' hn hP h0) ?_
      simp (disch := omega) only [zif, zdr, zkb, mK_wi, mN_wi, mJ_wi, mI_wi, sI_wi, beq_self_eq_true, Bool.true_or, Bool.or_true, Bool.or_false, Bool.and_self, Bool.and_true, Bool.true_and, ↓reduceIte, p0, ps1, ps2, ps3, pt1, pt2, pt3, pl1, pl2, pl3, pc1, pc2, pc3, pw1, pw2, pw3, pn1, pn2, pn3, py1, py2, py3, pf1, pf2, pf3, pg1, pg2, pg3, hb0, hld, hI1, w0]
      refine ev_ci (sp_X7_of hS' hn hPl h0) ?_
      simp (disch := omega) only [zif, zdr, zkb, mK_wi, mN_wi, mJ_wi, mI_wi, sI_wi, beq_self_eq_true, Bool.true_or, Bool.or_true, Bool.or_false, Bool.and_self, Bool.and_true, Bool.true_and, ↓reduceIte, p0, ps1, ps2, ps3, pt1, pt2, pt3, pl1, pl2, pl3, pc1, pc2, pc3, pw1, pw2, pw3, pn1, pn2, pn3, py1, py2, py3, pf1, pf2, pf3, pg1, pg2, pg3, hb0, hc, w0]
      refine ev_bk ?_
      refine zat_in zP_X6_goes zk_X6_goes_195 ?_
      simp (disch := omega) only [b_X6_goes_195, zif, zdr, zkb, mK_wi, mN_wi, mJ_wi, mI_wi, sI_wi, beq_self_eq_true, Bool.true_or, Bool.or_true, Bool.or_false, Bool.and_self, Bool.and_true, Bool.true_and, ↓reduceIte, p0, ps1, ps2, ps3, pt1, pt2, pt3, pl1, pl2, pl3, pc1, pc2, pc3, pw1, pw2, pw3, pn1, pn2, pn3, py1, py2, py3, pf1, pf2, pf3, pg1, pg2, pg3, w0]
      refine ev_ci (sp_X7_mean hS' hn hPl h0) ?_
      simp (disch := omega) only [zif, zdr, zkb, mK_wi, mN_wi, mJ_wi, mI_wi, sI_wi, beq_self_eq_true, Bool.true_or, Bool.or_true, Bool.or_false, Bool.and_self, Bool.and_true, Bool.true_and, ↓reduceIte, p0, ps1, ps2, ps3, pt1, pt2, pt3, pl1, pl2, pl3, pc1, pc2, pc3, pw1, pw2, pw3, pn1, pn2, pn3, py1, py2, py3, pf1, pf2, pf3, pg1, pg2, pg3, w0, wb1, wb2, wb3, e1, e6, e7, z1, i_cl, e12, hh, hq, hb0]
      exact ev_tl zP_X6_goes zk_X6_goes_249 hr
    have h04 : tg4 T V nd lg 0 0 = Int32.ofNat nd := by simpa [tg4, zup] using h0
    have hl4 : tg4 T V nd lg 0 6 = Int32.ofNat lg := by simpa [tg4, zup] using hl
    have hlo4 : tload (tg4 T V nd lg) nd = tload T nd := tload_eq (by simp [tg4, zup]) (fun j hj => by simp [tg4, zup])
    generalize hI4 : zup I1 t 7 (T 0 7 + tspd T V nd lg) = I4 at *
    have e64 : I4 t 6 = Int32.ofNat lg := (hP4 0 6 v6 (by omega)).trans hl4
    have e74 : I4 t 7 = tg4 T V nd lg 0 7 := hP4 0 7 v7 (by omega)
    have e15 : I4 (w + 1) lg = V 1 lg := hV4.2.1 lg (by omega)
    by_cases hx : tg4 T V nd lg 0 7 < V 1 lg
    · rw [if_pos hx]
      have hx2 : (V 1 lg ≤ tg4 T V nd lg 0 7) = False := eq_false (Int32.not_le.mpr hx)
      refine ⟨I4, main _ ?_, hP4, f4, by rw [e14, hlo4]⟩
      refine zat_in zP_X6_goes zk_X6_goes_249 ?_
      simp (disch := omega) only [b_X6_goes_249, zif, zdr, zkb, mK_wi, mN_wi, mJ_wi, mI_wi, sI_wi, beq_self_eq_true, Bool.true_or, Bool.or_true, Bool.or_false, Bool.and_self, Bool.and_true, Bool.true_and, ↓reduceIte, p0, ps1, ps2, ps3, pt1, pt2, pt3, pl1, pl2, pl3, pc1, pc2, pc3, pw1, pw2, pw3, pn1, pn2, pn3, py1, py2, py3, pf1, pf2, pf3, pg1, pg2, pg3, w0, wa1, wa2, wa3, e64, e74, z1, i_cl, e15, hx2]
      exact ev_r
    · rw [if_neg hx]
      have hx2 : (V 1 lg ≤ tg4 T V nd lg 0 7) = True := eq_true (Int32.not_lt.mp hx)
      have hP5 : mP (zup (zup (zup I4 t 6 (Int32.ofNat (lg + 1))) t 7 0) (t + 4) (lg + 1) (Int32.ofNat s + 1)) t nd ng (tcom1 (tg4 T V nd lg) lg (Int32.ofNat s + 1)) := ((hP4.put v6 (by omega) _).put v7 (by omega) _).put v4 (by omega) _
      have f5 : zfI t (t + 6) I (zup (zup (zup I4 t 6 (Int32.ofNat (lg + 1))) t 7 0) (t + 4) (lg + 1) (Int32.ofNat s + 1)) := ((f4.put (by omega) (by omega)).put (by omega) (by omega)).put (by omega) (by omega)
      obtain ⟨I5, a5', b5, c5⟩ := lp_X6_comes (E := E) (d := d + 1) (w := w) (n := n) (cc := cc) (s := Int32.ofNat s) (p := Int32.ofNat (lg + 1)) (a5 := tcnt T 0 nd) (a6 := tspd T V nd lg) (T := tcom1 (tg4 T V nd lg) lg (Int32.ofNat s + 1)) hB hS' hn (by simpa [tcom1, zup] using h04) (by simp [tcom1, zup]) nd 0 _ (by omega) (by rw [tlv_0]; exact hP5)
      have f6 : zfI t (t + 6) I I5 := f5.tr (fun a k h => c5 a k (by omega))
      have hz : zix (Int32.ofNat (lg + 1)) 13 = true := zix_of (by omega) (by omega)
      have e16 : I5 t 6 = Int32.ofNat (lg + 1) := (b5 0 6 v6 (by omega)).trans ((tlv_i (by omega) (by omega)).trans (by simp [tcom1, zup]))
      have e17 : I5 t 13 = T 0 1 := (b5 0 1 v1 (by omega)).trans ((tlv_i (by omega) (by omega)).trans (by simp [tcom1, tg4, zup]))
      have e21 : Int32.ofNat lg + 1 = Int32.ofNat (lg + 1) := i_succ
      have e18 : I5 w 4 = V 0 0 := (hV.fr (J := I5) (fun a k h1 h2 => f6 a k (by omega))).1 0 (by omega)
      have main2 : ∀ r, zAt E (d + 2) 159 344 [some (zr (some w)), some (zr (some t)), some (zi (Int32.ofNat s)), some (zi cc), some (zi n), some (zi (tcnt T 0 nd)), some (zi (tspd T V nd lg)), some (zi (Int32.ofNat nd))] [] (zwi S I5) r → zAt E (d + 2) 159 249 [some (zr (some w)), some (zr (some t)), some (zi (Int32.ofNat s)), some (zi cc), some (zi n), some (zi (tcnt T 0 nd)), some (zi (tspd T V nd lg)), none] [] (zwi S I4) r := by
        intro r hr
        refine zat_in zP_X6_goes zk_X6_goes_249 ?_
        simp (disch := omega) only [b_X6_goes_249, zif, zdr, zkb, mK_wi, mN_wi, mJ_wi, mI_wi, sI_wi, beq_self_eq_true, Bool.true_or, Bool.or_true, Bool.or_false, Bool.and_self, Bool.and_true, Bool.true_and, ↓reduceIte, p0, ps1, ps2, ps3, pt1, pt2, pt3, pl1, pl2, pl3, pc1, pc2, pc3, pw1, pw2, pw3, pn1, pn2, pn3, py1, py2, py3, pf1, pf2, pf3, pg1, pg2, pg3, w0, wa1, wa2, wa3, e64, e74, z1, i_cl, e15, hx2]
        refine ev_bk ?_
        refine zat_in zP_X6_goes zk_X6_goes_266 ?_
        simp (disch := omega) only [b_X6_goes_266, zc_X6_goes_293, b_X6_goes_293, zif, zdr, zkb, mK_wi, mN_wi, mJ_wi, mI_wi, sI_wi, beq_self_eq_true, Bool.true_or, Bool.or_true, Bool.or_false, Bool.and_self, Bool.and_true, Bool.true_and, ↓reduceIte, p0, ps1, ps2, ps3, pt1, pt2, pt3, pl1, pl2, pl3, pc1, pc2, pc3, pw1, pw2, pw3, pn1, pn2, pn3, py1, py2, py3, pf1, pf2, pf3, pg1, pg2, pg3, e64, e21, hz, hb0, hb4, i_cl, zup_q, zup_k]
        exact ev_tl zP_X6_goes zk_X6_goes_296 (a5' r hr)
      have hlo6 : ∀ U : zT, U 0 1 = T 0 1 → (∀ j, U 2 j = tlv (Int32.ofNat (lg + 1)) nd (tcom1 (tg4 T V nd lg) lg (Int32.ofNat s + 1)) 2 j) → tload U nd = T 0 1 := by
        intro U u1 u2
        unfold tload
        rw [u1, tcnt_eq nd (fun j _ => u2 j), tlv_c]
        simp
      have e19 : zup I5 t 1 (T 0 1) t 6 = Int32.ofNat (lg + 1) := by rw [zup_k (by omega)]; exact e16
      have e20 : zup I5 t 1 (T 0 1) w 4 = V 0 0 := by rw [zup_k (by omega)]; exact e18
      unfold tcome
      by_cases h : Int32.ofNat (lg + 1) = V 0 0
      · rw [if_pos h]
        refine ⟨zup (zup I5 t 1 (T 0 1)) t 5 2, main _ (main2 _ ?_), (b5.load _).put v5 (by omega) 2, (f6.put (by omega) (by omega)).put (by omega) (by omega), ?_⟩
        · refine zat_in zP_X6_goes zk_X6_goes_344 ?_
          simp (disch := omega) only [b_X6_goes_344, zc_X6_goes_368, b_X6_goes_368, zif, zdr, zkb, mK_wi, mN_wi, mJ_wi, mI_wi, sI_wi, beq_self_eq_true, Bool.true_or, Bool.or_true, Bool.or_false, Bool.and_self, Bool.and_true, Bool.true_and, ↓reduceIte, p0, ps1, ps2, ps3, pt1, pt2, pt3, pl1, pl2, pl3, pc1, pc2, pc3, pw1, pw2, pw3, pn1, pn2, pn3, py1, py2, py3, pf1, pf2, pf3, pg1, pg2, pg3, w0, e17, e19, e20, h, hb0]
          exact ev_r
        · rw [zup_k (by omega), zup_q, hlo6 _ (by simp [zup, tlv, tcom1, tg4]) (fun j => by simp [zup])]
      · rw [if_neg h]
        refine ⟨zup I5 t 1 (T 0 1), main _ (main2 _ ?_), b5.load _, f6.put (by omega) (by omega), ?_⟩
        · refine zat_in zP_X6_goes zk_X6_goes_344 ?_
          simp (disch := omega) only [b_X6_goes_344, zif, zdr, zkb, mK_wi, mN_wi, mJ_wi, mI_wi, sI_wi, beq_self_eq_true, Bool.true_or, Bool.or_true, Bool.or_false, Bool.and_self, Bool.and_true, Bool.true_and, ↓reduceIte, p0, ps1, ps2, ps3, pt1, pt2, pt3, pl1, pl2, pl3, pc1, pc2, pc3, pw1, pw2, pw3, pn1, pn2, pn3, py1, py2, py3, pf1, pf2, pf3, pg1, pg2, pg3, w0, e17, e19, e20, h, hb0]
          refine ev_bk ?_
          refine zat_in zP_X6_goes zk_X6_goes_368 ?_; simp (disch := omega) only [b_X6_goes_368, zif, zdr, zkb, mK_wi, mN_wi, mJ_wi, mI_wi, sI_wi, beq_self_eq_true, Bool.true_or, Bool.or_true, Bool.or_false, Bool.and_self, Bool.and_true, Bool.true_and, ↓reduceIte]
          exact ev_r
        · rw [zup_q, hlo6 _ (by simp [zup, tlv, tcom1, tg4]) (fun j => rfl)]
end
