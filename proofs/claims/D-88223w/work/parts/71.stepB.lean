/-! ===== a step of a team (x), whole ===== -/
set_option maxRecDepth 100000
section
variable {E : zE} {d t w nd ng lg s p lo pa : Nat} {S : zM} {I : Nat → Nat → Int32} {T V : zT} {L : zPL}
theorem tdid_m {T V : zT} {c : Int32} {j : Nat} (hj : j ≠ 11) : zup T 0 11 c 0 j = T 0 j := zup_k (fun q => hj q.2)
theorem sp_X4_step (hB : E.1 ≤ t) (hS : xTS S t) (hW : xWS S w) (hd : w + 3 < t ∨ t + 23 ≤ w) (hlo : t + 23 ≤ lo) (hn : nd ≤ 16) (hP : xP I t nd ng T) (hV : wP I w V) (hPl : xPl S I lo pa p L) (h0 : T 0 0 = Int32.ofNat nd) (hl : T 0 6 = Int32.ofNat lg) (hs : s < 2000)
    (hon : tst0 T s 0 5 = 1 → lg < 12 ∧ (∃ b, tweak (tst0 T s) nd = some b) ∧ (1000 * V 2 lg != 0) = true ∧ ∀ c : Int32, (20 * tcnt (tg3 (zup (tst0 T s) 0 11 c) V nd lg s) 0 nd + tload (tg3 (zup (tst0 T s) 0 11 c) V nd lg s) nd != 0) = true) :
    ∃ I', zCl E (d + 7) 94 [zr (some t), zr (some pa), zr (some w), zi (Int32.ofNat s)] (zwi S I) (Sum.inl none, zwi S I') ∧ xP I' t nd ng (tstp T V L nd lg p s) ∧ zfI t (t + 23) I I' := by
  obtain ⟨I1, a1, b1, c1⟩ := X4_step_a (E := E) (d := d + 7) (w := w) (s := s) (pl := pa) hB hS hn hP
  have hV1 := hV.fr (J := I1) (fun a k h1 h2 => c1 a k (by omega))
  have hPl1 := hPl.fr (J := I1) (fun a k h => c1 a k (by omega))
  have hS' := hS
  have q1 := hS.1.1
  have v5 : zvl nd ng 0 5 := Or.inl ⟨rfl, by omega⟩
  have v11 : zvl nd ng 0 11 := Or.inl ⟨rfl, by omega⟩
  have e5 : I1 t 6 = tst0 T s 0 5 := b1 0 5 v5
  have h01 : tst0 T s 0 0 = Int32.ofNat nd := (tst0_0 (by omega)).trans h0
  have hl1 : tst0 T s 0 6 = Int32.ofNat lg := (tst0_0 (by omega)).trans hl
  have hb0 : Nat.ble E.1 t = true := ble_up0 hB
  unfold tstp
  by_cases h : tst0 T s 0 5 = 1
  · rw [if_pos h]
    obtain ⟨hlg, ⟨b, hb⟩, hh, hq⟩ := hon h
    generalize tst0 T s = U at *
    have hrl := trul_le (f := ttold U V nd lg s) (L := L) (p := p) (pnr L p) 0
    have hrule := sp_X9_rule (E := E) (d := d) hPl1 hS hW hn b1 hV1 h01 hl1 hlg hs hb
    generalize hr0 : trul (ttold U V nd lg s) L p (pnr L p) 0 = r0 at *
    have hdid : tdid U V L nd lg p s = if pnr L p ≤ r0 then 100 else Int32.ofNat r0 := by unfold tdid; rw [hr0]
    have hact : tact U V L nd lg p s = if pnr L p ≤ r0 then 0 else pA L 1 (12 * p + r0) := by unfold tact; rw [hr0]
    have b2 := b1.put v11 hn (tdid U V L nd lg p s)
    have f2 : zfI t (t + 23) I (zup I1 t 12 (tdid U V L nd lg p s)) := c1.put (show t ≤ t by omega) (show t < t + 23 by omega)
    have hV2 := hV.fr (J := zup I1 t 12 (tdid U V L nd lg p s)) (fun a k h1 h2 => f2 a k (by omega))
    have h02 : zup U 0 11 (tdid U V L nd lg p s) 0 0 = Int32.ofNat nd := (tdid_m (V := V) (by omega)).trans h01
    have hl2 : zup U 0 11 (tdid U V L nd lg p s) 0 6 = Int32.ofNat lg := (tdid_m (V := V) (by omega)).trans hl1
    have hb2 : tweak (zup U 0 11 (tdid U V L nd lg p s)) nd = some b := by
      rw [← hb]
      exact tweak_eq nd (fun j _ => ⟨zup_k (by omega), zup_k (by omega)⟩)
    have hq2 := hq (tdid U V L nd lg p s)
    have main : ∀ (x4 : Int32) (r : zR), x4 = rI (pnr L p) r0 → zAt E (d + 7) 94 82 [some (zr (some t)), some (zr (some pa)), some (zr (some w)), some (zi (Int32.ofNat s)), some (zi x4), none] [zi (tact U V L nd lg p s)] (zwi S (zup I1 t 12 (tdid U V L nd lg p s))) r → zAt E (d + 7) 94 27 [some (zr (some t)), some (zr (some pa)), some (zr (some w)), some (zi (Int32.ofNat s)), none, none] [] (zwi S I1) r := by
      intro x4 r hx hr
      refine zat_in zP_X4_step zk_X4_step_27 ?_
      simp (disch := omega) only [b_X4_step_27, zif, zdr, zkb, mK_wi, mN_wi, mJ_wi, mI_wi, sI_wi, beq_self_eq_true, Bool.true_or, Bool.or_true, Bool.or_false, Bool.and_self, Bool.and_true, Bool.true_and, ↓reduceIte, q1, e5, eq_true h]
      refine ev_bk ?_
      refine zat_in zP_X4_step zk_X4_step_36 ?_
      simp (disch := omega) only [b_X4_step_36, zif, zdr, zkb, mK_wi, mN_wi, mJ_wi, mI_wi, sI_wi, beq_self_eq_true, Bool.true_or, Bool.or_true, Bool.or_false, Bool.and_self, Bool.and_true, Bool.true_and, ↓reduceIte, hPl.2.1]
      refine ev_ci hrule ?_
      rw [← hx]
      by_cases hle : pnr L p ≤ r0
      · rw [if_pos hle] at hdid
        have hx1 : x4 = -1 := by rw [hx]; exact if_pos hle
        simp only [eq_true hx1, ↓reduceIte]
        refine ev_bk ?_
        refine zat_in zP_X4_step zk_X4_step_59 ?_
        simp (disch := omega) only [b_X4_step_59, zif, zdr, zkb, mK_wi, mN_wi, mJ_wi, mI_wi, sI_wi, beq_self_eq_true, Bool.true_or, Bool.or_true, Bool.or_false, Bool.and_self, Bool.and_true, Bool.true_and, ↓reduceIte, q1, hb0, eq_true hx1]
        rw [hact, if_pos hle, hdid] at hr
        exact ev_bk hr
      · rw [if_neg hle] at hdid
        have hx2 : x4 = Int32.ofNat r0 := by rw [hx]; exact if_neg hle
        have hp12 : pnr L p ≤ 12 := hPl.2.2.2.1
        have hx1 : (x4 = -1) = False := by rw [hx2]; exact i_neg1 (by omega)
        simp only [hx1, ↓reduceIte]
        refine ev_bk ?_
        refine zat_in zP_X4_step zk_X4_step_57 ?_
        simp only [b_X4_step_57]
        refine ev_tl zP_X4_step zk_X4_step_59 ?_
        refine zat_in zP_X4_step zk_X4_step_59 ?_
        simp (disch := omega) only [b_X4_step_59, zif, zdr, zkb, mK_wi, mN_wi, mJ_wi, mI_wi, sI_wi, beq_self_eq_true, Bool.true_or, Bool.or_true, Bool.or_false, Bool.and_self, Bool.and_true, Bool.true_and, ↓reduceIte, q1, hb0, hx1]
        refine ev_bk ?_
        have hPl2 := hPl.fr (J := zup I1 t 12 (tdid U V L nd lg p s)) (fun a k h => f2 a k (by omega))
        obtain ⟨k1, k2, k3, k4, ra, k5, k6, k7, k8, k9⟩ := hPl2
        obtain ⟨rr, k10, k11⟩ := k9 r0 (by omega)
        have hz : zix (Int32.ofNat r0) 12 = true := zix_of (by omega) (by omega)
        have e12 := k11.2.2.1
        rw [hact, if_neg hle, hdid] at hr
        rw [hdid] at e12
        rw [hx2] at hr ⊢
        refine zat_in zP_X4_step zk_X4_step_72 ?_
        simp (disch := omega) only [b_X4_step_72, zif, zdr, zkb, mK_wi, mN_wi, mJ_wi, mI_wi, sI_wi, beq_self_eq_true, Bool.true_or, Bool.or_true, Bool.or_false, Bool.and_self, Bool.and_true, Bool.true_and, ↓reduceIte, k2, k6, k7, k8, k10, k11.2.1, hz, i_cl, e12, Nat.reduceLeDiff]
        exact ev_tl zP_X4_step zk_X4_step_82 hr
    by_cases ha : tact U V L nd lg p s = 0
    · rw [if_pos ha]
      obtain ⟨I', a3, b3, c3⟩ := sp_X4_go (E := E) (d := d + 3) hB hS hW hd hn b2 hV2 h02 hl2 hlg hs hh hq2
      refine ⟨I', ?_, b3, f2.tr c3⟩
      refine zcl_in' zP_X4_step ?_; rw [zn_4_6]
      refine a1 _ (main _ _ rfl ?_)
      refine zat_in zP_X4_step zk_X4_step_82 ?_
      simp only [b_X4_step_82, eq_true ha, zif, zdr, zkb, mK_wi, mN_wi, mJ_wi, mI_wi, sI_wi, beq_self_eq_true, Bool.true_or, Bool.or_true, Bool.or_false, Bool.and_self, Bool.and_true, Bool.true_and, ↓reduceIte, q1]
      refine ev_cv a3 ?_
      refine ev_bk ?_
      refine zat_in zP_X4_step zk_X4_step_106 ?_; simp (disch := omega) only [b_X4_step_106, zif, zdr, zkb, mK_wi, mN_wi, mJ_wi, mI_wi, sI_wi, beq_self_eq_true, Bool.true_or, Bool.or_true, Bool.or_false, Bool.and_self, Bool.and_true, Bool.true_and, ↓reduceIte]
      exact ev_r
    · rw [if_neg ha]
      obtain ⟨I', a3, b3, c3⟩ := sp_X4_rests (E := E) (d := d + 3) (a := tact U V L nd lg p s) hB hS hW hd hn b2 hV2 h02 hb2 hs
      refine ⟨I', ?_, b3, f2.tr c3⟩
      refine zcl_in' zP_X4_step ?_; rw [zn_4_6]
      refine a1 _ (main _ _ rfl ?_)
      refine zat_in zP_X4_step zk_X4_step_82 ?_
      simp only [b_X4_step_82, eq_false ha, zif, zdr, zkb, mK_wi, mN_wi, mJ_wi, mI_wi, sI_wi, beq_self_eq_true, Bool.true_or, Bool.or_true, Bool.or_false, Bool.and_self, Bool.and_true, Bool.true_and, ↓reduceIte, q1]
      refine ev_bk ?_
      refine zat_in zP_X4_step zk_X4_step_98 ?_
      simp only [b_X4_step_98, zc_X4_step_106, b_X4_step_106, zif, zdr, zkb, mK_wi, mN_wi, mJ_wi, mI_wi, sI_wi, beq_self_eq_true, Bool.true_or, Bool.or_true, Bool.or_false, Bool.and_self, Bool.and_true, Bool.true_and, ↓reduceIte, q1]
      exact ev_cv a3 ev_r
  · rw [if_neg h]
    refine ⟨I1, ?_, b1, c1⟩
    refine zcl_in' zP_X4_step ?_; rw [zn_4_6]
    refine a1 _ ?_
    refine zat_in zP_X4_step zk_X4_step_27 ?_
    simp (disch := omega) only [b_X4_step_27, zif, zdr, zkb, mK_wi, mN_wi, mJ_wi, mI_wi, sI_wi, beq_self_eq_true, Bool.true_or, Bool.or_true, Bool.or_false, Bool.and_self, Bool.and_true, Bool.true_and, ↓reduceIte, q1, e5, eq_false h]
    exact ev_r
end
