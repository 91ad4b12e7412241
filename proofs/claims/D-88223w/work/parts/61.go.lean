/-! ===== a team goes (x) ===== -/
set_option maxRecDepth 100000
def tg1 (T : zT) (lg : Nat) (s : Int32) : zT := if T 0 7 = 0 ∧ T 5 lg = -1 then zup T 5 lg s else T
def tg2 (T : zT) : zT := zup (zup T 0 9 (T 0 9 + 1)) 0 10 0
def tlost (T V : zT) (nd lg s : Nat) : Int32 := ((6 + tload T nd / 40) + V 2 lg / 25) + (if V 3 (s / 6) ≤ -10 then 0 else (V 3 (s / 6) + 10) / 3)
def tg3 (T V : zT) (nd lg s : Nat) : zT := tlose (tlost (tg2 (tg1 T lg (Int32.ofNat s))) V nd lg s) nd (tg2 (tg1 T lg (Int32.ofNat s)))
def tspd (T V : zT) (nd lg : Nat) : Int32 := ((((30 * tmean T nd) * tcnt T 0 nd) * 100) / (1000 * V 2 lg)) * 20 / (20 * tcnt T 0 nd + tload T nd)
def tg4 (T V : zT) (nd lg : Nat) : zT := zup T 0 7 (T 0 7 + tspd T V nd lg)
def tgo (T V : zT) (nd lg s : Nat) : zT :=
  if tcnt (tg3 T V nd lg s) 0 nd = 0 then zup (tg3 T V nd lg s) 0 5 3
  else if tg4 (tg3 T V nd lg s) V nd lg 0 7 < V 1 lg then tg4 (tg3 T V nd lg s) V nd lg
  else tcome (tg4 (tg3 T V nd lg s) V nd lg) V nd lg (Int32.ofNat s + 1)
theorem tg1_0 {T : zT} {lg : Nat} {s : Int32} {j : Nat} : tg1 T lg s 0 j = T 0 j := by
  unfold tg1
  split <;> simp [zup]
section
variable {E : zE} {d t w nd ng lg s : Nat} {S : zM} {I : Nat → Nat → Int32} {T V : zT}
theorem X4_go_a (hB : E.1 ≤ t) (hS : xTS S t) (hn : nd ≤ 16) (hP : xP I t nd ng T) (hl : T 0 6 = Int32.ofNat lg) (hlg : lg < 12) {s : Int32} : ∃ I', (∀ r, zAt E d 101 30 [some (zr (some t)), some (zr (some w)), some (zi s), none, none, none, none] [] (zwi S I') r → zAt E d 101 0 [some (zr (some t)), some (zr (some w)), some (zi s), none, none, none, none] [] (zwi S I) r) ∧ xP I' t nd ng (tg1 T lg s) ∧ zfI t (t + 23) I I' := by
  obtain ⟨⟨q1, q2, q3, q4⟩, ⟨qi1, qi2, qi3⟩, ⟨qa1, qa2, qa3⟩, ⟨qs1, qs2, qs3⟩, ⟨qf1, qf2, qf3⟩, ⟨qt1, qt2, qt3⟩, q5⟩ := hS
  have e6 : I t 7 = Int32.ofNat lg := (hP 0 6 (Or.inl ⟨rfl, by omega⟩)).trans hl
  have e7 : I t 8 = T 0 7 := hP 0 7 (Or.inl ⟨rfl, by omega⟩)
  have v5 : zvl nd ng 5 lg := Or.inr (Or.inr (Or.inr (Or.inr (Or.inr (Or.inl ⟨rfl, by omega⟩)))))
  have e5 : I (t + 3) lg = T 5 lg := hP 5 lg v5
  have hz : zix (Int32.ofNat lg) 13 = true := zix_of (by omega) (by omega)
  have hb3 : Nat.ble E.1 (t + 3) = true := ble_up hB
  by_cases h1 : T 0 7 = 0
  · by_cases h2 : T 5 lg = -1
    · rw [show tg1 T lg s = zup T 5 lg s from if_pos ⟨h1, h2⟩]
      refine ⟨zup I (t + 3) lg s, fun r hr => ?_, hP.put v5 hn s, zfI.rf.put (by omega) (by omega)⟩
      refine zat_in zP_X4_go zk_X4_go_0 ?_
      simp (disch := omega) only [b_X4_go_0, zif, zdr, zkb, mK_wi, mN_wi, mJ_wi, mI_wi, sI_wi, beq_self_eq_true, Bool.true_or, Bool.or_true, Bool.or_false, Bool.and_self, Bool.and_true, Bool.true_and, ↓reduceIte, q1, q2, q3, q4, qi1, qi2, qi3, qa1, qa2, qa3, qs1, qs2, qs3, qf1, qf2, qf3, qt1, qt2, qt3, e5, e6, e7, h1, h2, hz, hb3, i_cl]
      exact ev_tl zP_X4_go zk_X4_go_30 hr
    · rw [show tg1 T lg s = T from if_neg (fun q => h2 q.2)]
      refine ⟨I, fun r hr => ?_, hP, zfI.rf⟩
      refine zat_in zP_X4_go zk_X4_go_0 ?_
      simp (disch := omega) only [b_X4_go_0, zif, zdr, zkb, mK_wi, mN_wi, mJ_wi, mI_wi, sI_wi, beq_self_eq_true, Bool.true_or, Bool.or_true, Bool.or_false, Bool.and_self, Bool.and_true, Bool.true_and, ↓reduceIte, q1, q2, q3, q4, qi1, qi2, qi3, qa1, qa2, qa3, qs1, qs2, qs3, qf1, qf2, qf3, qt1, qt2, qt3, e5, e6, e7, h1, h2, hz, hb3, i_cl]
      exact ev_bk hr
  · rw [show tg1 T lg s = T from if_neg (fun q => h1 q.1)]
    refine ⟨I, fun r hr => ?_, hP, zfI.rf⟩
    refine zat_in zP_X4_go zk_X4_go_0 ?_
    simp (disch := omega) only [b_X4_go_0, zif, zdr, zkb, mK_wi, mN_wi, mJ_wi, mI_wi, sI_wi, beq_self_eq_true, Bool.true_or, Bool.or_true, Bool.or_false, Bool.and_self, Bool.and_true, Bool.true_and, ↓reduceIte, q1, q2, q3, q4, qi1, qi2, qi3, qa1, qa2, qa3, qs1, qs2, qs3, qf1, qf2, qf3, qt1, qt2, qt3, e5, e6, e7, h1, hz, hb3, i_cl]
    exact ev_bk hr
theorem X4_go_b (hB : E.1 ≤ t) (hS : xTS S t) (hW : xWS S w) (hd : w + 3 < t ∨ t + 23 ≤ w) (hn : nd ≤ 16) (hP : xP I t nd ng T) (hV : wP I w V) (h0 : T 0 0 = Int32.ofNat nd) (hl : T 0 6 = Int32.ofNat lg) (hlg : lg < 12) (hs : s < 2000) : ∃ I', (∀ r, zAt E (d + 2) 101 100 [some (zr (some t)), some (zr (some w)), some (zi (Int32.ofNat s)), some (zi (V 3 (s / 6))), some (zi (tlost (tg2 T) V nd lg s)), some (zi 0), none] [] (zwi S I') r → zAt E (d + 2) 101 30 [some (zr (some t)), some (zr (some w)), some (zi (Int32.ofNat s)), none, none, none, none] [] (zwi S I) r) ∧ xP I' t nd ng (tg2 T) ∧ zfI t (t + 23) I I' := by
  have hS' := hS
  obtain ⟨⟨q1, q2, q3, q4⟩, ⟨qi1, qi2, qi3⟩, ⟨qa1, qa2, qa3⟩, ⟨qs1, qs2, qs3⟩, ⟨qf1, qf2, qf3⟩, ⟨qt1, qt2, qt3⟩, q5⟩ := hS
  obtain ⟨w0, -, ⟨wb1, wb2, wb3⟩, ⟨wc1, wc2, wc3⟩⟩ := hW
  have v9 : zvl nd ng 0 9 := Or.inl ⟨rfl, by omega⟩
  have v10 : zvl nd ng 0 10 := Or.inl ⟨rfl, by omega⟩
  have e9 : I t 10 = T 0 9 := hP 0 9 v9
  have hP2 : xP (zup (zup I t 10 (T 0 9 + 1)) t 11 0) t nd ng (tg2 T) := (hP.put v9 hn _).put v10 hn _
  have f2 : zfI t (t + 23) I (zup (zup I t 10 (T 0 9 + 1)) t 11 0) := (zfI.rf.put (by omega) (by omega)).put (by omega) (by omega)
  have hV2 := hV.fr (J := zup (zup I t 10 (T 0 9 + 1)) t 11 0) (fun a k h1 h2 => f2 a k (by omega))
  have h02 : tg2 T 0 0 = Int32.ofNat nd := by simpa [tg2, zup] using h0
  have hl2 : tg2 T 0 6 = Int32.ofNat lg := by simpa [tg2, zup] using hl
  refine ⟨_, fun r hr => ?_, hP2, f2⟩
  generalize hI2 : zup (zup I t 10 (T 0 9 + 1)) t 11 0 = I2 at *
  have e6 : I2 t 7 = Int32.ofNat lg := (hP2 0 6 (Or.inl ⟨rfl, by omega⟩)).trans hl2
  have e12 : I2 (w + 2) lg = V 2 lg := hV2.2.2.1 lg (by omega)
  have e13 : I2 (w + 3) (s / 6) = V 3 (s / 6) := hV2.2.2.2 (s / 6) (by omega)
  have z1 : zix (Int32.ofNat lg) 12 = true := zix_of (by omega) (by omega)
  have z2 : zix (Int32.ofNat (s / 6)) 334 = true := zix_of (by omega) (by omega)
  have n6 : ((6 : Int32) != 0) = true := by decide
  have n40 : ((40 : Int32) != 0) = true := by decide
  have n25 : ((25 : Int32) != 0) = true := by decide
  have n3 : ((3 : Int32) != 0) = true := by decide
  have hb0 : Nat.ble E.1 t = true := ble_up0 hB
  refine zat_in zP_X4_go zk_X4_go_30 ?_
  simp (disch := omega) only [b_X4_go_30, zif, zdr, zkb, mK_wi, mN_wi, mJ_wi, mI_wi, sI_wi, beq_self_eq_true, Bool.true_or, Bool.or_true, Bool.or_false, Bool.and_self, Bool.and_true, Bool.true_and, ↓reduceIte, q1, q2, q3, q4, qi1, qi2, qi3, qa1, qa2, qa3, qs1, qs2, qs3, qf1, qf2, qf3, qt1, qt2, qt3, w0, wc1, wc2, wc3, e9, hI2, i_div6, z2, i_cl, e13, n6, hb0]
  refine ev_ci (sp_X4_load hS' hn hP2 h02) ?_
  simp (disch := omega) only [zif, zdr, zkb, mK_wi, mN_wi, mJ_wi, mI_wi, sI_wi, beq_self_eq_true, Bool.true_or, Bool.or_true, Bool.or_false, Bool.and_self, Bool.and_true, Bool.true_and, ↓reduceIte, q1, q2, q3, q4, qi1, qi2, qi3, qa1, qa2, qa3, qs1, qs2, qs3, qf1, qf2, qf3, qt1, qt2, qt3, w0, wb1, wb2, wb3, e6, z1, i_cl, e12, n40, n25, n3]
  have hx : tg2 T 0 1 + 25 * tcnt (tg2 T) 1 nd = tload (tg2 T) nd := rfl
  rw [hx]
  unfold tlost at hr
  refine ev_th _ (fun h => ?_) (fun h => ?_)
  · rw [if_pos h] at hr
    refine ev_bk ?_
    refine zat_in zP_X4_go zk_X4_go_93 ?_
    simp only [b_X4_go_93, zc_X4_go_94, b_X4_go_94]
    exact ev_tl zP_X4_go zk_X4_go_100 hr
  · rw [if_neg h] at hr
    refine ev_bk ?_
    refine zat_in zP_X4_go zk_X4_go_94 ?_
    simp only [b_X4_go_94]
    exact ev_tl zP_X4_go zk_X4_go_100 hr
end
