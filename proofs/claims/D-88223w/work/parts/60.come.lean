/-! ===== a team comes to a checkpoint; it goes (x) ===== -/
set_option maxRecDepth 100000
theorem wP.fr {I J : Nat → Nat → Int32} {w : Nat} {V : zT} (h : wP I w V) (hf : ∀ a k, w ≤ a → a ≤ w + 3 → J a k = I a k) : wP J w V :=
  ⟨fun j hj => (hf _ _ (by omega) (by omega)).trans (h.1 j hj), fun j hj => (hf _ _ (by omega) (by omega)).trans (h.2.1 j hj), fun j hj => (hf _ _ (by omega) (by omega)).trans (h.2.2.1 j hj), fun j hj => (hf _ _ (by omega) (by omega)).trans (h.2.2.2 j hj)⟩
def tcom1 (T : zT) (lg : Nat) (s1 : Int32) : zT := zup (zup (zup T 0 6 (Int32.ofNat (lg + 1))) 0 7 0) 4 (lg + 1) s1
def tcome (T V : zT) (nd lg : Nat) (s1 : Int32) : zT := if Int32.ofNat (lg + 1) = V 0 0 then zup (tlv (Int32.ofNat (lg + 1)) nd (tcom1 T lg s1)) 0 5 2 else tlv (Int32.ofNat (lg + 1)) nd (tcom1 T lg s1)
section
variable {E : zE} {d t w nd ng lg : Nat} {S : zM} {I : Nat → Nat → Int32} {T V : zT}
theorem sp_X4_comes {s1 : Int32} (hB : E.1 ≤ t) (hS : xTS S t) (hW : xWS S w) (hd : w + 3 < t ∨ t + 23 ≤ w) (hn : nd ≤ 16) (hP : xP I t nd ng T) (hV : wP I w V) (h0 : T 0 0 = Int32.ofNat nd) (hl : T 0 6 = Int32.ofNat lg) (hlg : lg < 12) : ∃ I', zCl E (d + 1) 102 [zr (some t), zr (some w), zi s1] (zwi S I) (Sum.inl none, zwi S I') ∧ xP I' t nd ng (tcome T V nd lg s1) ∧ zfI t (t + 23) I I' := by
  have hS' := hS
  obtain ⟨⟨q1, q2, q3, q4⟩, ⟨qi1, qi2, qi3⟩, ⟨qa1, qa2, qa3⟩, ⟨qs1, qs2, qs3⟩, ⟨qf1, qf2, qf3⟩, ⟨qt1, qt2, qt3⟩, q5⟩ := hS
  have w0 := hW.1
  have e6 : I t 7 = Int32.ofNat lg := (hP 0 6 (Or.inl ⟨rfl, by omega⟩)).trans hl
  have v6 : zvl nd ng 0 6 := Or.inl ⟨rfl, by omega⟩
  have v7 : zvl nd ng 0 7 := Or.inl ⟨rfl, by omega⟩
  have v5 : zvl nd ng 0 5 := Or.inl ⟨rfl, by omega⟩
  have v4 : zvl nd ng 4 (lg + 1) := Or.inr (Or.inr (Or.inr (Or.inr (Or.inl ⟨rfl, by omega⟩))))
  have hP1 : xP (zup (zup (zup I t 7 (Int32.ofNat (lg + 1))) t 8 0) (t + 2) (lg + 1) s1) t nd ng (tcom1 T lg s1) := ((hP.put v6 hn _).put v7 hn _).put v4 hn _
  have f1 : zfI t (t + 23) I (zup (zup (zup I t 7 (Int32.ofNat (lg + 1))) t 8 0) (t + 2) (lg + 1) s1) := ((zfI.rf.put (by omega) (by omega)).put (by omega) (by omega)).put (by omega) (by omega)
  obtain ⟨I', a1, a2, a3⟩ := lp_X4_comes (E := E) (d := d) (w := w) (s := s1) (p := Int32.ofNat (lg + 1)) (T := tcom1 T lg s1) hB hS' hn (by simpa [tcom1, zup] using h0) (by simp [tcom1, zup]) nd 0 _ (by omega) (by rw [tlv_0]; exact hP1)
  have f2 := f1.tr a3
  have e7 : I' t 7 = Int32.ofNat (lg + 1) := (a2 0 6 v6).trans ((tlv_i (by omega) (by omega)).trans (by simp [tcom1, zup]))
  have e8 : I' w 4 = V 0 0 := (hV.fr (J := I') (fun a k h1 h2 => f2 a k (by omega))).1 0 (by omega)
  have hz : zix (Int32.ofNat (lg + 1)) 13 = true := zix_of (by omega) (by omega)
  have hb0 : Nat.ble E.1 t = true := ble_up0 hB
  have hb2 : Nat.ble E.1 (t + 2) = true := ble_up hB
  have main : ∀ r, zAt E (d + 1) 102 67 [some (zr (some t)), some (zr (some w)), some (zi s1), some (zi (Int32.ofNat nd))] [] (zwi S I') r → zCl E (d + 1) 102 [zr (some t), zr (some w), zi s1] (zwi S I) r := by
    intro r hr
    refine zcl_in' zP_X4_comes ?_; rw [zn_3_4]
    refine zat_in zP_X4_comes zk_X4_comes_0 ?_
    simp (disch := omega) only [b_X4_comes_0, zc_X4_comes_25, b_X4_comes_25, zif, zdr, zkb, mK_wi, mN_wi, mJ_wi, mI_wi, sI_wi, beq_self_eq_true, Bool.true_or, Bool.or_true, Bool.or_false, Bool.and_self, Bool.and_true, Bool.true_and, ↓reduceIte, q1, q2, q3, q4, qi1, qi2, qi3, qa1, qa2, qa3, qs1, qs2, qs3, qf1, qf2, qf3, qt1, qt2, qt3, e6, i_succ, hb0, hb2, hz, i_cl, zup_q, zup_k]
    exact ev_tl zP_X4_comes zk_X4_comes_27 (a1 r hr)
  unfold tcome
  by_cases h : Int32.ofNat (lg + 1) = V 0 0
  · rw [if_pos h]
    refine ⟨zup I' t 6 2, main _ ?_, a2.put v5 hn 2, f2.put (by omega) (by omega)⟩
    refine zat_in zP_X4_comes zk_X4_comes_67 ?_; simp (disch := omega) only [b_X4_comes_67, zc_X4_comes_83, b_X4_comes_83, zif, zdr, zkb, mK_wi, mN_wi, mJ_wi, mI_wi, sI_wi, beq_self_eq_true, Bool.true_or, Bool.or_true, Bool.or_false, Bool.and_self, Bool.and_true, Bool.true_and, ↓reduceIte, q1, q2, q3, q4, qi1, qi2, qi3, qa1, qa2, qa3, qs1, qs2, qs3, qf1, qf2, qf3, qt1, qt2, qt3, w0, e7, e8, h, hb0]
    exact ev_r
  · rw [if_neg h]
    refine ⟨I', main _ ?_, a2, f2⟩
    refine zat_in zP_X4_comes zk_X4_comes_67 ?_; simp (disch := omega) only [b_X4_comes_67, zc_X4_comes_83, b_X4_comes_83, zif, zdr, zkb, mK_wi, mN_wi, mJ_wi, mI_wi, sI_wi, beq_self_eq_true, Bool.true_or, Bool.or_true, Bool.or_false, Bool.and_self, Bool.and_true, Bool.true_and, ↓reduceIte, q1, q2, q3, q4, qi1, qi2, qi3, qa1, qa2, qa3, qs1, qs2, qs3, qf1, qf2, qf3, qt1, qt2, qt3, w0, e7, e8, h, hb0]
    refine ev_bk ?_
    refine zat_in zP_X4_comes zk_X4_comes_83 ?_; simp (disch := omega) only [b_X4_comes_83, zif, zdr, zkb, mK_wi, mN_wi, mJ_wi, mI_wi, sI_wi, beq_self_eq_true, Bool.true_or, Bool.or_true, Bool.or_false, Bool.and_self, Bool.and_true, Bool.true_and, ↓reduceIte]
    exact ev_r
end
