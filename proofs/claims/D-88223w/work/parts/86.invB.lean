/-! ===== what holds of a team all through; a step that goes ===== -/
set_option maxRecDepth 100000
def tA (T : zT) : Prop := sm (T 0 0) 16 ∧ sm (T 0 13) 4 ∧ sm (T 0 4) 7 ∧ sm (T 0 3) 100 ∧ sm (T 0 1) 300 ∧ 20 ≤ nn (T 0 1)
def tB (V : zT) (st : Nat) (T : zT) : Prop := sm (T 0 6) 12 ∧ sm (T 0 7) 120000 ∧ (∀ j, j < nn (T 0 0) → sm (T 1 j) 1000) ∧ (T 0 5 = 0 ∨ T 0 5 = 1 ∨ T 0 5 = 2 ∨ T 0 5 = 3) ∧ (T 0 5 = 0 ∨ T 0 5 = 1 → nn (T 0 6) < nn (V 0 0) ∧ ∃ b, tweak T (nn (T 0 0)) = some b) ∧ (T 0 5 = 0 → T 0 7 = 0 ∧ T 0 6 = 0) ∧ (T 0 5 ≠ 0 → nn (T 0 3) < st ∧ nway V (nn (T 0 7)) (nn (T 0 6)) ≤ 60 * (st - nn (T 0 3)))
def TI (V : zT) (st : Nat) (T : zT) : Prop := tA T ∧ tB V st T
def WV (V : zT) : Prop := sm (V 0 0) 12 ∧ sm (V 0 1) 6 ∧ sm (V 0 2) 2000 ∧ (sm (V 0 3) 48 ∧ V 0 3 ≠ 0) ∧ (∀ j, j < 12 → sm (V 1 j) 2000) ∧ (∀ j, j < nn (V 0 0) → sm (V 2 j) 200 ∧ 50 ≤ nn (V 2 j)) ∧ ∀ j, j < 334 → V 3 j ≤ 20
def OI (V : zT) (st : Nat) (T : zT) : Prop := tA T ∧ (sm (T 0 6) 12 ∧ nn (T 0 6) < nn (V 0 0)) ∧ sm (T 0 7) 120000 ∧ (∀ j, j < nn (T 0 0) → sm (T 1 j) 1000) ∧ (∃ b, tweak T (nn (T 0 0)) = some b) ∧ T 0 5 = 1 ∧ nn (T 0 3) ≤ st ∧ nway V (nn (T 0 7)) (nn (T 0 6)) ≤ 60 * (st - nn (T 0 3))
def sameC (T U : zT) : Prop := (U 0 0 = T 0 0 ∧ U 0 1 = T 0 1 ∧ U 0 3 = T 0 3 ∧ U 0 4 = T 0 4 ∧ U 0 5 = T 0 5 ∧ U 0 6 = T 0 6 ∧ U 0 7 = T 0 7 ∧ U 0 13 = T 0 13) ∧ ∀ j, U 1 j = T 1 j ∧ U 2 j = T 2 j
theorem OI.same {V T U : zT} {st : Nat} (h : OI V st T) (q : sameC T U) : OI V st U := by
  obtain ⟨⟨e0, e1, e3, e4, e5, e6, e7, e13⟩, er⟩ := q
  have et : ∀ k, tweak U k = tweak T k := fun k => tweak_eq k (fun j _ => ⟨(er j).2, (er j).1⟩)
  simp only [OI, tA, e0, e1, e3, e4, e5, e6, e7, e13, et, fun j => (er j).1]
  exact h
theorem tA_same {T U : zT} (h : tA T) (e0 : U 0 0 = T 0 0) (e1 : U 0 1 = T 0 1) (e3 : U 0 3 = T 0 3) (e4 : U 0 4 = T 0 4) (e13 : U 0 13 = T 0 13) : tA U := by
  simp only [tA, e0, e1, e3, e4, e13]
  exact h
theorem tg_same {T : zT} {lg : Nat} {s : Int32} : sameC T (tg2 (tg1 T lg s)) := by
  unfold sameC tg2 tg1
  split <;> simp [zup]
theorem sm0 {n : Nat} : sm 0 n := ⟨rfl, Nat.zero_le _⟩
theorem tgo_TI {V T : zT} {st : Nat} (hV : WV V) (hst : st < 2000) (h : OI V st T) : TI V (st + 1) (tgo T V (nn (T 0 0)) (nn (T 0 6)) st) := by
  have h2 := h.same (tg_same (lg := nn (T 0 6)) (s := Int32.ofNat st))
  have e7 : tg2 (tg1 T (nn (T 0 6)) (Int32.ofNat st)) 0 0 = T 0 0 := (tg_same (lg := nn (T 0 6)) (s := Int32.ofNat st)).1.1
  have e8 : tg2 (tg1 T (nn (T 0 6)) (Int32.ofNat st)) 0 6 = T 0 6 := (tg_same (lg := nn (T 0 6)) (s := Int32.ofNat st)).1.2.2.2.2.2.1
  unfold tgo tg3
  generalize hT2 : tg2 (tg1 T (nn (T 0 6)) (Int32.ofNat st)) = W at *
  obtain ⟨wl, -, -, -, wv1, wv, wc⟩ := hV
  obtain ⟨ha, ⟨h6, h6l⟩, h7, hs, hb, h5, hst2, hw⟩ := h2
  have ha' := ha
  obtain ⟨a0, a13, a4, a3, a1, a1'⟩ := ha'
  rw [e7] at a0 hs hb
  rw [e8] at h6 h6l hw
  have hnd16 := a0.2
  generalize hnd : nn (T 0 0) = nd at *
  generalize hlg : nn (T 0 6) = lg at *
  obtain ⟨v2, v3⟩ := wv lg h6l
  have v1 := wv1 lg (by have := wl.2; omega)
  obtain ⟨n, hn, hn2⟩ := tlon (s := st) (lg := lg) (nd := nd) a1 a1' hnd16 v2 (wc (st / 6) (by omega))
  rw [hn]
  have hU0 : ∀ j, tlose (Int32.ofNat n) nd W 0 j = W 0 j := fun j => tlose_i (by omega) (by omega)
  have hUs : ∀ j, j < nd → sm (tlose (Int32.ofNat n) nd W 1 j) 1000 := by
    intro j hj
    have h8 := hs j hj
    by_cases e : W 2 j = 0
    · rw [show tlose (Int32.ofNat n) nd W 1 j = jmax 0 (W 1 j - Int32.ofNat n) from if_pos ⟨rfl, hj, e⟩, h8.1, jmax_n (by have := h8.2; omega) (by omega)]
      exact sm_of (by have := h8.2; omega) (by have := h8.2; omega)
    · rw [show tlose (Int32.ofNat n) nd W 1 j = W 1 j by simp [tlose, e]]
      exact h8
  generalize tlose (Int32.ofNat n) nd W = U at *
  have hUA : tA U := tA_same ha (hU0 0) (hU0 1) (hU0 3) (hU0 4) (hU0 13)
  have hU0n : nn (U 0 0) = nd := by rw [hU0 0, e7, hnd]
  have hwl := nway_f (V := V) (f := nn (W 0 7)) lg
  by_cases c0 : tcnt U 0 nd = 0
  · rw [if_pos c0]
    refine ⟨tA_same hUA (by simp [zup]) (by simp [zup]) (by simp [zup]) (by simp [zup]) (by simp [zup]), ?_⟩
    simp only [tB, show ∀ j, zup U 0 5 3 1 j = U 1 j from fun j => by simp [zup], show zup U 0 5 3 0 6 = U 0 6 by simp [zup], show zup U 0 5 3 0 7 = U 0 7 by simp [zup], show zup U 0 5 3 0 3 = U 0 3 by simp [zup], show zup U 0 5 3 0 0 = U 0 0 by simp [zup], show zup U 0 5 3 0 5 = 3 by simp [zup]]
    rw [hU0n, hU0 6, hU0 7, hU0 3, e8, hlg]
    exact ⟨h6, h7, hUs, Or.inr (Or.inr (Or.inr trivial)), fun q => by rcases q with q | q <;> exact absurd q (by decide), fun q => absurd q (by decide), fun _ => ⟨by omega, by omega⟩⟩
  · rw [if_neg c0]
    obtain ⟨c, hc1, hc2⟩ := tcn (T := U) (s := 0) nd
    have hcp : 0 < c := by
      rcases Nat.eq_zero_or_pos c with q | q
      · exact absurd (by rw [hc2, q]; rfl) c0
      · exact q
    obtain ⟨ld, l1, l2, l3⟩ := tln hUA.2.2.2.2.1 hUA.2.2.2.2.2 hnd16
    obtain ⟨v, s1, s2⟩ := tspn (V := V) (lg := lg) hnd16 hUs hc2 hcp hc1 l1 l3 v2.1 v3 v2.2
    obtain ⟨b, hb2⟩ := twk nd c0
    have h7b : nn (W 0 7) ≤ 60 * (st - nn (W 0 3)) := by omega
    have hfar : tg4 U V nd lg 0 7 = Int32.ofNat (nn (W 0 7) + v) := by
      show zup U 0 7 (U 0 7 + tspd U V nd lg) 0 7 = _
      rw [zup_q, s1, hU0 7, ← i_add, ← h7.1]
    have g0 : ∀ j, j ≠ 7 → tg4 U V nd lg 0 j = U 0 j := fun j hj => by simp [tg4, zup, hj]
    have g1 : ∀ j, tg4 U V nd lg 1 j = U 1 j := fun j => by simp [tg4, zup]
    have g2 : ∀ j, tg4 U V nd lg 2 j = U 2 j := fun j => by simp [tg4, zup]
    have hXA : tA (tg4 U V nd lg) := tA_same hUA (g0 0 (by omega)) (g0 1 (by omega)) (g0 3 (by omega)) (g0 4 (by omega)) (g0 13 (by omega))
    generalize tg4 U V nd lg = X at *
    have hbX : tweak X nd = some b := by
      rw [← hb2]
      exact tweak_eq nd (fun j _ => ⟨g2 j, g1 j⟩)
    have hX0n : nn (X 0 0) = nd := by rw [g0 0 (by omega), hU0n]
    have hwv := nway_f (V := V) (f := nn (W 0 7) + v) lg
    rw [hfar]
    have hle : (Int32.ofNat (nn (W 0 7) + v) < V 1 lg) = (nn (W 0 7) + v < nn (V 1 lg)) := by
      have := v1.2
      have e9 : V 1 lg = Int32.ofNat (nn (V 1 lg)) := v1.1
      exact (congrArg (fun z => Int32.ofNat (nn (W 0 7) + v) < z) e9).trans (i_lt (by omega) (by omega))
    by_cases c1 : nn (W 0 7) + v < nn (V 1 lg)
    · rw [if_pos (by rw [hle]; exact c1)]
      refine ⟨hXA, ?_⟩
      unfold tB
      rw [hX0n, hfar, g0 6 (by omega), g0 3 (by omega), g0 5 (by omega), hU0 6, hU0 3, hU0 5, e8, hlg, h5, nn_of (by omega)]
      refine ⟨h6, sm_of (by omega) (by omega), fun j hj => by rw [g1 j]; exact hUs j hj, Or.inr (Or.inl rfl), fun _ => ⟨h6l, b, hbX⟩, fun q => absurd q (by decide), fun _ => ⟨by omega, by omega⟩⟩
    · rw [if_neg (by rw [hle]; exact c1)]
      have k0 : ∀ j, j ≠ 6 → j ≠ 7 → tcom1 X lg (Int32.ofNat st + 1) 0 j = X 0 j := fun j h1 h2 => by simp [tcom1, zup, h1, h2]
      have k1 : ∀ j, tcom1 X lg (Int32.ofNat st + 1) 1 j = X 1 j := fun j => by simp [tcom1, zup]
      have k2 : ∀ j, tcom1 X lg (Int32.ofNat st + 1) 2 j = X 2 j := fun j => by simp [tcom1, zup]
      have k6 : tcom1 X lg (Int32.ofNat st + 1) 0 6 = Int32.ofNat (lg + 1) := by simp [tcom1, zup]
      have k7 : tcom1 X lg (Int32.ofNat st + 1) 0 7 = 0 := by simp [tcom1, zup]
      unfold tcome
      generalize tcom1 X lg (Int32.ofNat st + 1) = Y at *
      have m0 : ∀ j, tlv (Int32.ofNat (lg + 1)) nd Y 0 j = Y 0 j := fun j => tlv_i (by omega) (by omega)
      have m1 : ∀ j, tlv (Int32.ofNat (lg + 1)) nd Y 1 j = Y 1 j := fun j => tlv_i (by omega) (by omega)
      have m2 : ∀ j, tlv (Int32.ofNat (lg + 1)) nd Y 2 j = 0 ↔ Y 2 j = 0 := by
        intro j
        unfold tlv
        by_cases q : j < nd ∧ Y 2 j = 1
        · rw [if_pos ⟨rfl, q⟩, q.2]
          decide
        · rw [if_neg (fun z => q z.2), if_neg (fun z => absurd z.1 (by omega))]
      generalize tlv (Int32.ofNat (lg + 1)) nd Y = Z at *
      have hZA : tA Z := tA_same hXA (by rw [m0, k0] <;> omega) (by rw [m0, k0] <;> omega) (by rw [m0, k0] <;> omega) (by rw [m0, k0] <;> omega) (by rw [m0, k0] <;> omega)
      have z0 : nn (Z 0 0) = nd := by rw [m0, k0 0 (by omega) (by omega), hX0n]
      have z3 : Z 0 3 = W 0 3 := by rw [m0, k0 3 (by omega) (by omega), g0 3 (by omega), hU0 3]
      have z5 : Z 0 5 = 1 := by rw [m0, k0 5 (by omega) (by omega), g0 5 (by omega), hU0 5, h5]
      have z6 : Z 0 6 = Int32.ofNat (lg + 1) := by rw [m0, k6]
      have z7 : Z 0 7 = 0 := by rw [m0, k7]
      have zs : ∀ j, j < nd → sm (Z 1 j) 1000 := fun j hj => by rw [m1, k1, g1]; exact hUs j hj
      have zw : tweak Z nd = some b := by
        rw [← hbX]
        exact tweak_eq' nd (fun j _ => ⟨by rw [m2, k2], by rw [m1, k1]⟩)
      have hlgl : nn (V 0 0) ≤ 12 := wl.2
      have hnw : nway V 0 (lg + 1) = nway V 0 lg + nn (V 1 lg) := rfl
      by_cases c2 : Int32.ofNat (lg + 1) = V 0 0
      · rw [if_pos c2]
        refine ⟨tA_same hZA (by simp [zup]) (by simp [zup]) (by simp [zup]) (by simp [zup]) (by simp [zup]), ?_⟩
        simp only [tB, show ∀ j, zup Z 0 5 2 1 j = Z 1 j from fun j => by simp [zup], show zup Z 0 5 2 0 6 = Z 0 6 by simp [zup], show zup Z 0 5 2 0 7 = Z 0 7 by simp [zup], show zup Z 0 5 2 0 3 = Z 0 3 by simp [zup], show zup Z 0 5 2 0 0 = Z 0 0 by simp [zup], show zup Z 0 5 2 0 5 = 2 by simp [zup]]
        rw [z0, z3, z6, z7, nn_of (by omega), show nn 0 = 0 from rfl]
        exact ⟨sm_of (by omega) (by omega), sm0, zs, Or.inr (Or.inr (Or.inl trivial)), fun q => by rcases q with q | q <;> exact absurd q (by decide), fun q => absurd q (by decide), fun _ => ⟨by omega, by omega⟩⟩
      · rw [if_neg c2]
        refine ⟨hZA, ?_⟩
        unfold tB
        rw [z0, z3, z5, z6, z7, nn_of (by omega), show nn 0 = 0 from rfl]
        have hne : lg + 1 ≠ nn (V 0 0) := fun q => c2 (by rw [q]; exact wl.1.symm)
        exact ⟨sm_of (by omega) (by omega), sm0, zs, Or.inr (Or.inl rfl), fun _ => ⟨by omega, b, zw⟩, fun q => absurd q (by decide), fun _ => ⟨by omega, by omega⟩⟩
