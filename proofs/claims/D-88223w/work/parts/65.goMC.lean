/-! ===== a team goes (model), joined ===== -/
set_option maxRecDepth 100000
section
variable {E : zE} {d t w nd ng lg s : Nat} {S : zM} {I : Nat → Nat → Int32} {T V : zT}
theorem tg2_load {T : zT} {lg nd : Nat} {s : Int32} : tload (tg2 (tg1 T lg s)) nd = tload T nd := by
  refine tload_eq ?_ (fun j hj => ?_)
  · simp [tg2, zup, tg1_0]
  · unfold tg1
    split <;> simp [tg2, zup]
theorem sp_X6_goes (hB : E.1 ≤ t) (hS : mTS S t) (hW : mWS S w) (hd : w + 3 < t ∨ t + 10 ≤ w) (hn : nd ≤ 16) (hP : mP I t nd ng T) (hL : I t 1 = tload T nd) (hV : wP I w V) (h0 : T 0 0 = Int32.ofNat nd) (hl : T 0 6 = Int32.ofNat lg) (hlg : lg < 12) (hh : (1000 * V 2 lg != 0) = true) (hq : (20 * tcnt (tg3 T V nd lg s) 0 nd + tload (tg3 T V nd lg s) nd != 0) = true) : ∃ I', zCl E (d + 2) 159 [zr (some w), zr (some t), zi (Int32.ofNat s), zi (V 3 (s / 6))] (zwi S I) (Sum.inl none, zwi S I') ∧ mP I' t nd ng (tgo T V nd lg s) ∧ zfI t (t + 6) I I' ∧ I' t 1 = tload (tgo T V nd lg s) nd := by
  obtain ⟨I1, a1, b1, c1, l1⟩ := X6_goes_a (E := E) (d := d + 2) (w := w) (s := Int32.ofNat s) (cc := V 3 (s / 6)) hB hS hP hl hlg
  have hV1 := hV.fr (J := I1) (fun a k h1 h2 => c1 a k (by omega))
  obtain ⟨I2, a2, b2, c2, l2⟩ := X6_goes_b (E := E) (d := d + 2) (w := w) (s := s) (V := V) hB hS hW hd b1 (by rw [l1, hL, tg2_load]) hV1 (by rw [tg1_0]; exact hl) hlg
  have hV2 := hV1.fr (J := I2) (fun a k h1 h2 => c2 a k (by omega))
  obtain ⟨I3, a3, b3, c3⟩ := lp_X6_goes (E := E) (d := d + 1) (w := w) (T := tg2 (tg1 T lg (Int32.ofNat s))) (s := Int32.ofNat s) (cc := V 3 (s / 6)) (n := tlost (tg2 (tg1 T lg (Int32.ofNat s))) V nd lg s) hB hS hW.1 hn (by simpa [tg2, zup, tg1_0] using h0) nd 0 I2 (by omega) (by rw [tlose_0]; exact b2)
  have f3 : zfI t (t + 6) I2 I3 := fun a k h => c3 a k (by omega)
  have hV3 := hV2.fr (J := I3) (fun a k h1 h2 => f3 a k (by omega))
  obtain ⟨I4, a4, b4, c4, l4⟩ := X6_goes_c (E := E) (d := d) (w := w) (s := s) (V := V) (T := tg3 T V nd lg s) (cc := V 3 (s / 6)) (n := tlost (tg2 (tg1 T lg (Int32.ofNat s))) V nd lg s) (a5 := Int32.ofNat nd) hB hS hW hd hn b3 hV3 ((tlose_i (by omega) (by omega)).trans (by simpa [tg2, zup, tg1_0] using h0)) ((tlose_i (by omega) (by omega)).trans (by simpa [tg2, zup, tg1_0] using hl)) hlg hh hq
  refine ⟨I4, ?_, b4, ((c1.tr c2).tr f3).tr c4, l4⟩
  refine zcl_in' zP_X6_goes ?_; rw [zn_4_8]
  exact a1 _ (a2 _ (a3 _ a4))
end
