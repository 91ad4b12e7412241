/-! ===== a step of a team (model), whole ===== -/
set_option maxRecDepth 100000
section
variable {E : zE} {d t w nd ng lg s p : Nat} {S : zM} {I : Nat → Nat → Int32} {T V : zT} {L : zPL}
theorem sp_X6_leads (hB : E.1 ≤ t) (hM : mPS S w) (hS : mTS S t) (hW : mWS S w) (hd : w + 3 < t ∧ (w + 27 < t ∨ t + 6 ≤ w + 21)) (hn : nd ≤ 16) (hP : mP I t nd ng T) (hL : I t 1 = tload T nd) (hV : wP I w V) (hPl : mPl I w p L) (h0 : T 0 0 = Int32.ofNat nd) (hp : T 0 4 = Int32.ofNat p) (hp8 : p < 8) (hl : T 0 6 = Int32.ofNat lg) (hs : s < 2000)
    (hon : tst0 T s 0 5 = 1 → lg < 12 ∧ (∃ b, tweak (tst0 T s) nd = some b) ∧ (1000 * V 2 lg != 0) = true ∧ ∀ c : Int32, (20 * tcnt (tg3 (zup (tst0 T s) 0 11 c) V nd lg s) 0 nd + tload (tg3 (zup (tst0 T s) 0 11 c) V nd lg s) nd != 0) = true) :
    ∃ I', zCl E (d + 5) 156 [zr (some w), zr (some t), zi (Int32.ofNat s)] (zwi S I) (Sum.inl none, zwi S I') ∧ mP I' t nd ng (tstp T V L nd lg p s) ∧ zfI t (t + 6) I I' ∧ I' t 1 = tload (tstp T V L nd lg p s) nd := by
  obtain ⟨I1, a1, b1, c1, l1⟩ := X6_leads_a (E := E) (d := d + 5) (w := w) (s := s) hB hS hP
  have hL1 : I1 t 1 = tload (tst0 T s) nd := by
    rw [l1, hL]
    refine tload_eq (tst0_0 (by omega)).symm (fun j _ => ?_)
    unfold tst0
    split <;> simp [zup]
  have hV1 := hV.fr (J := I1) (fun a k h1 h2 => c1 a k (by omega))
  have hPl1 := hPl.fr (J := I1) (fun a k h1 h2 => c1 a k (by omega))
  have p0 := hS.1
  obtain ⟨m0, ⟨mr1, mr2, mr3⟩, ⟨ma1, ma2, ma3⟩, -⟩ := id hM
  obtain ⟨-, -, -, ⟨wc1, wc2, wc3⟩⟩ := id hW
  have v5 : zvl nd ng 0 5 := Or.inl ⟨rfl, by omega⟩
  have v11 : zvl nd ng 0 11 := Or.inl ⟨rfl, by omega⟩
  have e5 : I1 t 5 = tst0 T s 0 5 := b1 0 5 v5 (by omega)
  have h01 : tst0 T s 0 0 = Int32.ofNat nd := (tst0_0 (by omega)).trans h0
  have hl1 : tst0 T s 0 6 = Int32.ofNat lg := (tst0_0 (by omega)).trans hl
  have hp1 : tst0 T s 0 4 = Int32.ofNat p := (tst0_0 (by omega)).trans hp
  have hb0 : Nat.ble E.1 t = true := ble_up0 hB
  have z1 : zix (Int32.ofNat p) 9 = true := zix_of (by omega) (by omega)
  have z2 : zix (Int32.ofNat (s / 6)) 334 = true := zix_of (by omega) (by omega)
  have n6 : ((6 : Int32) != 0) = true := by decide
  unfold tstp
  by_cases h : tst0 T s 0 5 = 1
  · rw [if_pos h]
    obtain ⟨hlg, ⟨b, hb⟩, hh, hq⟩ := hon h
    generalize tst0 T s = U at *
    have hrl := trul_le (f := ttold U V nd lg s) (L := L) (p := p) (pnr L p) 0
    have hrule := lp_X6_leads (E := E) (d := d) hM hS hW hn b1 hL1 hV1 hPl1 h01 hp1 hp8 hl1 hlg hs hb (pnr L p) 0 (by omega)
    generalize hr0 : trul (ttold U V nd lg s) L p (pnr L p) 0 = r0 at *
    have hdid : tdid U V L nd lg p s = if pnr L p ≤ r0 then 100 else Int32.ofNat r0 := by unfold tdid; rw [hr0]
    have hact : tact U V L nd lg p s = if pnr L p ≤ r0 then 0 else pA L 1 (12 * p + r0) := by unfold tact; rw [hr0]
    have b2 := b1.put v11 (by omega) (tdid U V L nd lg p s)
    have f2 : zfI t (t + 6) I (zup I1 t 10 (tdid U V L nd lg p s)) := c1.put (show t ≤ t by omega) (show t < t + 6 by omega)
    have hV2 := hV.fr (J := zup I1 t 10 (tdid U V L nd lg p s)) (fun a k h1 h2 => f2 a k (by omega))
    have hPl2 := hPl.fr (J := zup I1 t 10 (tdid U V L nd lg p s)) (fun a k h1 h2 => f2 a k (by omega))
    have h02 : zup U 0 11 (tdid U V L nd lg p s) 0 0 = Int32.ofNat nd := (tdid_m (V := V) (by omega)).trans h01
    have hl2 : zup U 0 11 (tdid U V L nd lg p s) 0 6 = Int32.ofNat lg := (tdid_m (V := V) (by omega)).trans hl1
    have hb2 : tweak (zup U 0 11 (tdid U V L nd lg p s)) nd = some b := by
      rw [← hb]
      exact tweak_eq nd (fun j _ => ⟨zup_k (by omega), zup_k (by omega)⟩)
    have hL2 : zup I1 t 10 (tdid U V L nd lg p s) t 1 = tload (zup U 0 11 (tdid U V L nd lg p s)) nd := by
      rw [zup_k (by omega), hL1]
      exact tload_eq (by simp [zup]) (fun j _ => by simp [zup])
    have hq2 := hq (tdid U V L nd lg p s)
    have e4 : I1 t 4 = Int32.ofNat p := (b1 0 4 (Or.inl ⟨rfl, by omega⟩) (by omega)).trans hp1
    have e42 : zup I1 t 10 (tdid U V L nd lg p s) t 4 = Int32.ofNat p := by rw [zup_k (by omega)]; exact e4
    have e13 : zup I1 t 10 (tdid U V L nd lg p s) (w + 3) (s / 6) = V 3 (s / 6) := hV2.2.2.2 (s / 6) (by omega)
    have hp12 : pnr L p ≤ 12 := hPl.2.1
    have main : ∀ (x4 : Int32) (r : zR), (zAt E (d + 5) 156 133 [some (zr (some w)), some (zr (some t)), some (zi (Int32.ofNat s)), some (zi (Int32.ofNat r0)), some (zi (if pnr L p ≤ r0 then 0 else 1)), none, none, none] [zi (tact U V L nd lg p s)] (zwi S (zup I1 t 10 (tdid U V L nd lg p s))) r) → zAt E (d + 5) 156 27 [some (zr (some w)), some (zr (some t)), some (zi (Int32.ofNat s)), none, none, none, none, none] [] (zwi S I1) r := by
      intro x4 r hr
      refine zat_in zP_X6_leads zk_X6_leads_27 ?_
      simp (disch := omega) only [b_X6_leads_27, zif, zdr, zkb, mK_wi, mN_wi, mJ_wi, mI_wi, sI_wi, beq_self_eq_true, Bool.true_or, Bool.or_true, Bool.or_false, Bool.and_self, Bool.and_true, Bool.true_and, ↓reduceIte, p0, e5, eq_true h]
      refine ev_bk ?_
      refine zat_in zP_X6_leads zk_X6_leads_36 ?_
      simp (disch := omega) only [b_X6_leads_36]
      refine ev_tl zP_X6_leads zk_X6_leads_38 (hrule r ?_)
      by_cases hle : pnr L p ≤ r0
      · rw [if_pos hle] at hdid
        rw [hact, if_pos hle, if_pos hle, hdid] at hr
        refine zat_in zP_X6_leads zk_X6_leads_75 ?_
        simp (disch := omega) only [b_X6_leads_75, zif, zdr, zkb, mK_wi, mN_wi, mJ_wi, mI_wi, sI_wi, beq_self_eq_true, Bool.true_or, Bool.or_true, Bool.or_false, Bool.and_self, Bool.and_true, Bool.true_and, ↓reduceIte, p0, m0, mr1, mr2, mr3, e4, z1, i_cl, hPl1.1, i_le, eq_true hle]
        refine ev_bk ?_
        refine zat_in zP_X6_leads zk_X6_leads_92 ?_
        simp (disch := omega) only [b_X6_leads_92, zc_X6_leads_93, b_X6_leads_93, ↓reduceIte]
        refine ev_bk ?_
        refine zat_in zP_X6_leads zk_X6_leads_105 ?_
        simp (disch := omega) only [b_X6_leads_105, zc_X6_leads_107, b_X6_leads_107, zif, zdr, zkb, mK_wi, mN_wi, mJ_wi, mI_wi, sI_wi, beq_self_eq_true, Bool.true_or, Bool.or_true, Bool.or_false, Bool.and_self, Bool.and_true, Bool.true_and, ↓reduceIte, p0, hb0]
        refine ev_bk ?_
        refine zat_in zP_X6_leads zk_X6_leads_132 ?_
        simp (disch := omega) only [b_X6_leads_132]
        exact ev_tl zP_X6_leads zk_X6_leads_133 hr
      · rw [if_neg hle] at hdid
        rw [hact, if_neg hle, if_neg hle, hdid] at hr
        have e12 := (hPl2.2.2 r0 (by omega)).1
        rw [hdid] at e12 e42
        have z3 : zix (Int32.ofNat (12 * p + r0)) 108 = true := zix_of (by omega) (by omega)
        have n1 : ((1 : Int32) = 0) = False := eq_false (by decide)
        refine zat_in zP_X6_leads zk_X6_leads_75 ?_
        simp (disch := omega) only [b_X6_leads_75, zif, zdr, zkb, mK_wi, mN_wi, mJ_wi, mI_wi, sI_wi, beq_self_eq_true, Bool.true_or, Bool.or_true, Bool.or_false, Bool.and_self, Bool.and_true, Bool.true_and, ↓reduceIte, p0, m0, mr1, mr2, mr3, e4, z1, i_cl, hPl1.1, i_le, eq_false hle]
        refine ev_bk ?_
        refine zat_in zP_X6_leads zk_X6_leads_93 ?_
        simp (disch := omega) only [b_X6_leads_93, n1, ↓reduceIte]
        refine ev_bk ?_
        refine zat_in zP_X6_leads zk_X6_leads_107 ?_
        simp (disch := omega) only [b_X6_leads_107, zif, zdr, zkb, mK_wi, mN_wi, mJ_wi, mI_wi, sI_wi, beq_self_eq_true, Bool.true_or, Bool.or_true, Bool.or_false, Bool.and_self, Bool.and_true, Bool.true_and, ↓reduceIte, p0, hb0, n1, m0, ma1, ma2, ma3, e42, i_12, i_addN, z3, i_cl, e12]
        exact ev_bk hr
    have hstart : ∀ (r : zR), (zAt E (d + 5) 156 133 [some (zr (some w)), some (zr (some t)), some (zi (Int32.ofNat s)), some (zi (Int32.ofNat r0)), some (zi (if pnr L p ≤ r0 then 0 else 1)), none, none, none] [zi (tact U V L nd lg p s)] (zwi S (zup I1 t 10 (tdid U V L nd lg p s))) r) → zCl E (d + 5) 156 [zr (some w), zr (some t), zi (Int32.ofNat s)] (zwi S I) r := by
      intro r hr
      refine zcl_in' zP_X6_leads ?_; rw [zn_3_8]
      exact a1 _ (main 0 r hr)
    by_cases ha : tact U V L nd lg p s = 0
    · rw [if_pos ha]
      obtain ⟨I', a3, b3, c3, l3⟩ := sp_X6_goes (E := E) (d := d + 2) (s := s) hB hS hW (Or.inl (by omega)) hn b2 hL2 hV2 h02 hl2 hlg hh hq2
      refine ⟨I', hstart _ ?_, b3, f2.tr c3, l3⟩
      refine zat_in zP_X6_leads zk_X6_leads_133 ?_
      simp (disch := omega) only [b_X6_leads_133, zif, zdr, zkb, mK_wi, mN_wi, mJ_wi, mI_wi, sI_wi, beq_self_eq_true, Bool.true_or, Bool.or_true, Bool.or_false, Bool.and_self, Bool.and_true, Bool.true_and, ↓reduceIte, m0, wc1, wc2, wc3, i_div6, z2, i_cl, e13, n6, eq_true ha]
      exact ev_cv a3 ev_r
    · rw [if_neg ha]
      obtain ⟨I', a3, b3, c3, l3⟩ := X6_rests (E := E) (d := d + 3) (w := w) (s := s) (V := V) (a := tact U V L nd lg p s) (si := Int32.ofNat s) (a3 := Int32.ofNat r0) (a4 := if pnr L p ≤ r0 then 0 else 1) hB hS m0 hn b2 hL2 h02 hb2
      refine ⟨I', hstart _ ?_, b3, f2.tr c3, l3⟩
      refine zat_in zP_X6_leads zk_X6_leads_133 ?_
      simp (disch := omega) only [b_X6_leads_133, zif, zdr, zkb, mK_wi, mN_wi, mJ_wi, mI_wi, sI_wi, beq_self_eq_true, Bool.true_or, Bool.or_true, Bool.or_false, Bool.and_self, Bool.and_true, Bool.true_and, ↓reduceIte, m0, wc1, wc2, wc3, i_div6, z2, i_cl, e13, n6, eq_false ha]
      exact ev_bk a3
  · rw [if_neg h]
    refine ⟨I1, ?_, b1, c1, hL1⟩
    refine zcl_in' zP_X6_leads ?_; rw [zn_3_8]
    refine a1 _ ?_
    refine zat_in zP_X6_leads zk_X6_leads_27 ?_
    simp (disch := omega) only [b_X6_leads_27, zif, zdr, zkb, mK_wi, mN_wi, mJ_wi, mI_wi, sI_wi, beq_self_eq_true, Bool.true_or, Bool.or_true, Bool.or_false, Bool.and_self, Bool.and_true, Bool.true_and, ↓reduceIte, p0, e5, eq_false h]
    exact ev_r
end
