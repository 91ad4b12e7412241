/-! ===== a step of a team (x) ===== -/
set_option maxRecDepth 100000
theorem xTe.fr {S : zM} {I J : Nat → Nat → Int32} {lo te j : Nat} {L : zPL} (hf : ∀ a k, lo ≤ a → J a k = I a k) (h : xTe S I lo te j L) : xTe S J lo te j L :=
  ⟨h.1, h.2.1, (hf _ _ h.1).trans h.2.2.1, (hf _ _ h.1).trans h.2.2.2.1, (hf _ _ h.1).trans h.2.2.2.2⟩
theorem xRu.fr {S : zM} {I J : Nat → Nat → Int32} {lo rr q : Nat} {L : zPL} (hf : ∀ a k, lo ≤ a → J a k = I a k) (h : xRu S I lo rr q L) : xRu S J lo rr q L := by
  obtain ⟨h1, h2, h3, h4, h5, ta, h6, h7, h8, h9, h10⟩ := h
  refine ⟨h1, h2, (hf _ _ h1).trans h3, (hf _ _ h1).trans h4, h5, ta, h6, h7, h8, h9, fun k hk => ?_⟩
  obtain ⟨te, g1, g2⟩ := h10 k hk
  exact ⟨te, g1, g2.fr hf⟩
theorem xPl.fr {S : zM} {I J : Nat → Nat → Int32} {lo pa p : Nat} {L : zPL} (hf : ∀ a k, lo ≤ a → J a k = I a k) (h : xPl S I lo pa p L) : xPl S J lo pa p L := by
  obtain ⟨h1, h2, h3, h4, ra, h5, h6, h7, h8, h9⟩ := h
  refine ⟨h1, h2, (hf _ _ h1).trans h3, h4, ra, h5, h6, h7, h8, fun r hr => ?_⟩
  obtain ⟨rr, g1, g2⟩ := h9 r hr
  exact ⟨rr, g1, g2.fr hf⟩
theorem tweak_eq {T U : zT} : ∀ k, (∀ j, j < k → T 2 j = U 2 j ∧ T 1 j = U 1 j) → tweak T k = tweak U k
  | 0, _ => rfl
  | k + 1, h => by
    have e := tweak_eq k (fun j hj => h j (by omega))
    unfold tweak
    rw [e, (h k (by omega)).1]
    cases hw : tweak U k with
    | none => rfl
    | some b =>
      have hb := (tweak_lt k b hw).1
      simp only [(h k (by omega)).2, (h b (by omega)).2]
def tst0 (T : zT) (s : Nat) : zT := if T 0 5 = 0 ∧ T 0 3 = Int32.ofNat s then zup (zup T 0 5 1) 4 0 (Int32.ofNat s) else T
def tdid (T V : zT) (L : zPL) (nd lg p s : Nat) : Int32 := if pnr L p ≤ trul (ttold T V nd lg s) L p (pnr L p) 0 then 100 else Int32.ofNat (trul (ttold T V nd lg s) L p (pnr L p) 0)
def tact (T V : zT) (L : zPL) (nd lg p s : Nat) : Int32 := if pnr L p ≤ trul (ttold T V nd lg s) L p (pnr L p) 0 then 0 else pA L 1 (12 * p + trul (ttold T V nd lg s) L p (pnr L p) 0)
def tstp (T V : zT) (L : zPL) (nd lg p s : Nat) : zT :=
  if tst0 T s 0 5 = 1 then
    (if tact (tst0 T s) V L nd lg p s = 0 then tgo (zup (tst0 T s) 0 11 (tdid (tst0 T s) V L nd lg p s)) V nd lg s
    else trest (zup (tst0 T s) 0 11 (tdid (tst0 T s) V L nd lg p s)) V nd s (tact (tst0 T s) V L nd lg p s))
  else tst0 T s
theorem tst0_0 {T : zT} {s j : Nat} (hj : j ≠ 5) : tst0 T s 0 j = T 0 j := by
  unfold tst0
  split <;> simp [zup, hj]
section
variable {E : zE} {d t w nd ng lg s b p lo pa : Nat} {S : zM} {I : Nat → Nat → Int32} {T V : zT} {L : zPL}
theorem X4_step_a {pl : Nat} (hB : E.1 ≤ t) (hS : xTS S t) (hn : nd ≤ 16) (hP : xP I t nd ng T) : ∃ I', (∀ r, zAt E d 94 27 [some (zr (some t)), some (zr (some pl)), some (zr (some w)), some (zi (Int32.ofNat s)), none, none] [] (zwi S I') r → zAt E d 94 0 [some (zr (some t)), some (zr (some pl)), some (zr (some w)), some (zi (Int32.ofNat s)), none, none] [] (zwi S I) r) ∧ xP I' t nd ng (tst0 T s) ∧ zfI t (t + 23) I I' := by
  obtain ⟨⟨q1, q2, q3, q4⟩, ⟨qi1, qi2, qi3⟩, ⟨qa1, qa2, qa3⟩, ⟨qs1, qs2, qs3⟩, ⟨qf1, qf2, qf3⟩, ⟨qt1, qt2, qt3⟩, q5⟩ := hS
  have v5 : zvl nd ng 0 5 := Or.inl ⟨rfl, by omega⟩
  have v4 : zvl nd ng 4 0 := Or.inr (Or.inr (Or.inr (Or.inr (Or.inl ⟨rfl, by omega⟩))))
  have e5 : I t 6 = T 0 5 := hP 0 5 v5
  have e3 : I t 4 = T 0 3 := hP 0 3 (Or.inl ⟨rfl, by omega⟩)
  have hb0 : Nat.ble E.1 t = true := ble_up0 hB
  have hb2 : Nat.ble E.1 (t + 2) = true := ble_up hB
  have hz : zix 0 13 = true := by decide
  have hc : Int32.toNatClampNeg 0 = 0 := by decide
  by_cases h : T 0 5 = 0
  · by_cases h2 : T 0 3 = Int32.ofNat s
    · rw [show tst0 T s = zup (zup T 0 5 1) 4 0 (Int32.ofNat s) from if_pos ⟨h, h2⟩]
      refine ⟨zup (zup I t 6 1) (t + 2) 0 (Int32.ofNat s), fun r hr => ?_, (hP.put v5 hn 1).put v4 hn _, (zfI.rf.put (show t ≤ t by omega) (show t < t + 23 by omega)).put (by omega) (by omega)⟩
      refine zat_in zP_X4_step zk_X4_step_0 ?_
      simp (disch := omega) only [b_X4_step_0, zif, zdr, zkb, mK_wi, mN_wi, mJ_wi, mI_wi, sI_wi, beq_self_eq_true, Bool.true_or, Bool.or_true, Bool.or_false, Bool.and_self, Bool.and_true, Bool.true_and, ↓reduceIte, q1, q2, q3, q4, qi1, qi2, qi3, qa1, qa2, qa3, qs1, qs2, qs3, qf1, qf2, qf3, qt1, qt2, qt3, e5, e3, eq_true h, eq_true h2, hb0, hb2, hz, hc]
      exact ev_tl zP_X4_step zk_X4_step_27 hr
    · rw [show tst0 T s = T from if_neg (fun q => h2 q.2)]
      refine ⟨I, fun r hr => ?_, hP, zfI.rf⟩
      refine zat_in zP_X4_step zk_X4_step_0 ?_
      simp (disch := omega) only [b_X4_step_0, zif, zdr, zkb, mK_wi, mN_wi, mJ_wi, mI_wi, sI_wi, beq_self_eq_true, Bool.true_or, Bool.or_true, Bool.or_false, Bool.and_self, Bool.and_true, Bool.true_and, ↓reduceIte, q1, q2, q3, q4, qi1, qi2, qi3, qa1, qa2, qa3, qs1, qs2, qs3, qf1, qf2, qf3, qt1, qt2, qt3, e5, e3, eq_true h, eq_false h2]
      exact ev_bk hr
  · rw [show tst0 T s = T from if_neg (fun q => h q.1)]
    refine ⟨I, fun r hr => ?_, hP, zfI.rf⟩
    refine zat_in zP_X4_step zk_X4_step_0 ?_
    simp (disch := omega) only [b_X4_step_0, zif, zdr, zkb, mK_wi, mN_wi, mJ_wi, mI_wi, sI_wi, beq_self_eq_true, Bool.true_or, Bool.or_true, Bool.or_false, Bool.and_self, Bool.and_true, Bool.true_and, ↓reduceIte, q1, q2, q3, q4, qi1, qi2, qi3, qa1, qa2, qa3, qs1, qs2, qs3, qf1, qf2, qf3, qt1, qt2, qt3, e5, e3, eq_false h]
    exact ev_bk hr
end
