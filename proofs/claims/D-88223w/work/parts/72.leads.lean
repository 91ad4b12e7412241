/-! ===== a step of a team (model) ===== -/
set_option maxRecDepth 100000
section
variable {E : zE} {d t w nd ng lg s p b : Nat} {S : zM} {I : Nat → Nat → Int32} {T V : zT} {L : zPL}
theorem mRu.fr {I J : Nat → Nat → Int32} {w q : Nat} {L : zPL} (hf : ∀ a k, w + 22 ≤ a → a ≤ w + 26 → J a k = I a k) (h : mRu I w q L) : mRu J w q L :=
  ⟨(hf _ _ (by omega) (by omega)).trans h.1, (hf _ _ (by omega) (by omega)).trans h.2.1, h.2.2.1, fun k hk => ⟨(hf _ _ (by omega) (by omega)).trans (h.2.2.2 k hk).1, (hf _ _ (by omega) (by omega)).trans (h.2.2.2 k hk).2.1, (hf _ _ (by omega) (by omega)).trans (h.2.2.2 k hk).2.2⟩⟩
theorem mPl.fr {I J : Nat → Nat → Int32} {w p : Nat} {L : zPL} (hf : ∀ a k, w + 21 ≤ a → a ≤ w + 26 → J a k = I a k) (h : mPl I w p L) : mPl J w p L :=
  ⟨(hf _ _ (by omega) (by omega)).trans h.1, h.2.1, fun r hr => (h.2.2 r hr).fr (fun a k h1 h2 => hf a k (by omega) h2)⟩
theorem lp_X6_leads (hM : mPS S w) (hS : mTS S t) (hW : mWS S w) (hn : nd ≤ 16) (hP : mP I t nd ng T) (hL : I t 1 = tload T nd) (hV : wP I w V) (hPl : mPl I w p L) (h0 : T 0 0 = Int32.ofNat nd) (hp : T 0 4 = Int32.ofNat p) (hp8 : p < 8) (hl : T 0 6 = Int32.ofNat lg) (hlg : lg < 12) (hs : s < 2000) (hb : tweak T nd = some b) : ∀ c k : Nat, k + c = pnr L p → ∀ r, zAt E (d + 5) 156 75 [some (zr (some w)), some (zr (some t)), some (zi (Int32.ofNat s)), some (zi (Int32.ofNat (trul (ttold T V nd lg s) L p c k))), none, none, none, none] [] (zwi S I) r → zAt E (d + 5) 156 38 [some (zr (some w)), some (zr (some t)), some (zi (Int32.ofNat s)), some (zi (Int32.ofNat k)), none, none, none, none] [] (zwi S I) r := by
  have p0 := hS.1
  obtain ⟨m0, ⟨mr1, mr2, mr3⟩, -⟩ := id hM
  have e4 : I t 4 = Int32.ofNat p := (hP 0 4 (Or.inl ⟨rfl, by omega⟩) (by omega)).trans hp
  have z1 : zix (Int32.ofNat p) 9 = true := zix_of (by omega) (by omega)
  obtain ⟨k1, k2, k3⟩ := hPl
  intro c
  induction c with
  | zero =>
    intro k hk r hr
    obtain rfl : k = pnr L p := hk
    refine zat_in zP_X6_leads zk_X6_leads_38 ?_
    simp (disch := omega) only [b_X6_leads_38, zif, zdr, zkb, mK_wi, mN_wi, mJ_wi, mI_wi, sI_wi, beq_self_eq_true, Bool.true_or, Bool.or_true, Bool.or_false, Bool.and_self, Bool.and_true, Bool.true_and, ↓reduceIte, p0, m0, mr1, mr2, mr3, e4, z1, i_cl, k1, i_le, Nat.le_refl]
    exact ev_bk hr
  | succ c ih =>
    intro k hk r hr
    have hle : (pnr L p ≤ k) = False := eq_false (by omega)
    refine zat_in zP_X6_leads zk_X6_leads_38 ?_
    simp (disch := omega) only [b_X6_leads_38, zif, zdr, zkb, mK_wi, mN_wi, mJ_wi, mI_wi, sI_wi, beq_self_eq_true, Bool.true_or, Bool.or_true, Bool.or_false, Bool.and_self, Bool.and_true, Bool.true_and, ↓reduceIte, p0, m0, mr1, mr2, mr3, e4, z1, i_cl, k1, i_le, hle, i_12, i_addN]
    refine ev_ci (sp_X6_holds (q := 12 * p + k) (k3 k (by omega)) hM hS hW hn hP hL hV h0 hl hlg hs hb (by omega)) ?_
    unfold trul at hr
    refine ev_th _ (fun h => ?_) (fun h => ?_)
    · rw [if_pos h] at hr
      rw [i_succ]
      exact ev_bk (ih (k + 1) (by omega) r hr)
    · rw [if_neg h] at hr
      exact ev_bk hr
theorem X6_leads_a (hB : E.1 ≤ t) (hS : mTS S t) (hP : mP I t nd ng T) : ∃ I', (∀ r, zAt E d 156 27 [some (zr (some w)), some (zr (some t)), some (zi (Int32.ofNat s)), none, none, none, none, none] [] (zwi S I') r → zAt E d 156 0 [some (zr (some w)), some (zr (some t)), some (zi (Int32.ofNat s)), none, none, none, none, none] [] (zwi S I) r) ∧ mP I' t nd ng (tst0 T s) ∧ zfI t (t + 6) I I' ∧ I' t 1 = I t 1 := by
  obtain ⟨p0, ⟨ps1, ps2, ps3⟩, ⟨pt1, pt2, pt3⟩, ⟨pl1, pl2, pl3⟩, ⟨pc1, pc2, pc3⟩, ⟨pw1, pw2, pw3⟩, ⟨pn1, pn2, pn3⟩, ⟨py1, py2, py3⟩, ⟨pf1, pf2, pf3⟩, ⟨pg1, pg2, pg3⟩⟩ := hS
  have v5 : zvl nd ng 0 5 := Or.inl ⟨rfl, by omega⟩
  have v4 : zvl nd ng 4 0 := Or.inr (Or.inr (Or.inr (Or.inr (Or.inl ⟨rfl, by omega⟩))))
  have e5 : I t 5 = T 0 5 := hP 0 5 v5 (by omega)
  have e3 : I t 3 = T 0 3 := hP 0 3 (Or.inl ⟨rfl, by omega⟩) (by omega)
  have hb0 : Nat.ble E.1 t = true := ble_up0 hB
  have hb2 : Nat.ble E.1 (t + 4) = true := ble_up hB
  have hz : zix 0 13 = true := by decide
  have hc : Int32.toNatClampNeg 0 = 0 := by decide
  by_cases h : T 0 5 = 0
  · by_cases h2 : T 0 3 = Int32.ofNat s
    · rw [show tst0 T s = zup (zup T 0 5 1) 4 0 (Int32.ofNat s) from if_pos ⟨h, h2⟩]
      refine ⟨zup (zup I t 5 1) (t + 4) 0 (Int32.ofNat s), fun r hr => ?_, (hP.put v5 (by omega) 1).put v4 (by omega) _, (zfI.rf.put (show t ≤ t by omega) (show t < t + 6 by omega)).put (by omega) (by omega), by rw [zup_k (by omega), zup_k (by omega)]⟩
      refine zat_in zP_X6_leads zk_X6_leads_0 ?_
      simp (disch := omega) only [b_X6_leads_0, zif, zdr, zkb, mK_wi, mN_wi, mJ_wi, mI_wi, sI_wi, beq_self_eq_true, Bool.true_or, Bool.or_true, Bool.or_false, Bool.and_self, Bool.and_true, Bool.true_and, ↓reduceIte, p0, ps1, ps2, ps3, pt1, pt2, pt3, pl1, pl2, pl3, pc1, pc2, pc3, pw1, pw2, pw3, pn1, pn2, pn3, py1, py2, py3, pf1, pf2, pf3, pg1, pg2, pg3, e5, e3, eq_true h, eq_true h2, hb0, hb2, hz, hc]
      exact ev_tl zP_X6_leads zk_X6_leads_27 hr
    · rw [show tst0 T s = T from if_neg (fun q => h2 q.2)]
      refine ⟨I, fun r hr => ?_, hP, zfI.rf, rfl⟩
      refine zat_in zP_X6_leads zk_X6_leads_0 ?_
      simp (disch := omega) only [b_X6_leads_0, zif, zdr, zkb, mK_wi, mN_wi, mJ_wi, mI_wi, sI_wi, beq_self_eq_true, Bool.true_or, Bool.or_true, Bool.or_false, Bool.and_self, Bool.and_true, Bool.true_and, ↓reduceIte, p0, ps1, ps2, ps3, pt1, pt2, pt3, pl1, pl2, pl3, pc1, pc2, pc3, pw1, pw2, pw3, pn1, pn2, pn3, py1, py2, py3, pf1, pf2, pf3, pg1, pg2, pg3, e5, e3, eq_true h, eq_false h2]
      exact ev_bk hr
  · rw [show tst0 T s = T from if_neg (fun q => h q.1)]
    refine ⟨I, fun r hr => ?_, hP, zfI.rf, rfl⟩
    refine zat_in zP_X6_leads zk_X6_leads_0 ?_
    simp (disch := omega) only [b_X6_leads_0, zif, zdr, zkb, mK_wi, mN_wi, mJ_wi, mI_wi, sI_wi, beq_self_eq_true, Bool.true_or, Bool.or_true, Bool.or_false, Bool.and_self, Bool.and_true, Bool.true_and, ↓reduceIte, p0, ps1, ps2, ps3, pt1, pt2, pt3, pl1, pl2, pl3, pc1, pc2, pc3, pw1, pw2, pw3, pn1, pn2, pn3, py1, py2, py3, pf1, pf2, pf3, pg1, pg2, pg3, e5, e3, eq_false h]
    exact ev_bk hr
end
