/-! ===== the order of the teams is total ===== -/
set_option maxRecDepth 100000
/-- keys: rank, then result or the way, then the number -/
def K1 (G : zGl) (k : Nat) : Int := (rk (gT G k)).toInt
def K2 (G : zGl) (k : Nat) : Int := (mkv G k (rk (gT G k))).toInt
def tbf (G : zGl) (i j : Nat) : Prop := K1 G i < K1 G j ∨ (K1 G i = K1 G j ∧ (K2 G i < K2 G j ∨ (K2 G i = K2 G j ∧ i < j)))
theorem mah_1 {G : zGl} {i j : Nat} (h : tbf G i j) : mah G i j = 1 := by
  unfold tbf K1 K2 at h
  unfold mah
  by_cases c1 : rk (gT G i) = rk (gT G j)
  · rw [if_pos c1]
    rw [← c1] at h
    by_cases c2 : mkv G i (rk (gT G i)) = mkv G j (rk (gT G i))
    · rw [if_pos c2, if_neg]
      rw [c2] at h
      omega
    · rw [if_neg c2, if_neg]
      rw [Int32.le_iff_toInt_le]
      rw [← Int32.toInt_inj] at c2
      omega
  · rw [if_neg c1, if_neg]
    rw [Int32.le_iff_toInt_le]
    rw [← Int32.toInt_inj] at c1
    omega
theorem mah_0 {G : zGl} {i j : Nat} (h : ¬ tbf G i j) : mah G i j = 0 := by
  unfold tbf K1 K2 at h
  unfold mah
  by_cases c1 : rk (gT G i) = rk (gT G j)
  · rw [if_pos c1]
    rw [← c1] at h
    by_cases c2 : mkv G i (rk (gT G i)) = mkv G j (rk (gT G i))
    · rw [if_pos c2, if_pos]
      rw [c2] at h
      omega
    · rw [if_neg c2, if_pos]
      rw [Int32.le_iff_toInt_le]
      omega
  · rw [if_neg c1, if_pos]
    rw [Int32.le_iff_toInt_le]
    rw [← Int32.toInt_inj] at c1
    omega
theorem gway_b {G : zGl} (hi : IG G) {k : Nat} (hk : k < nn (gV G 0 1)) (h5 : gT G k 0 5 = 1) : 0 ≤ (gway G k).toInt ∧ (gway G k).toInt ≤ 120000 := by
  obtain ⟨t1, -⟩ := hi.1.2.2 _ hk
  obtain ⟨e, w2⟩ := tway_TI hi.1.1 t1
  obtain ⟨w3, w4⟩ := w2 (by rw [h5]; decide)
  have hs := hi.1.1.2.2.1.2
  unfold gway
  rw [e, i_int (by omega)]
  omega
theorem xah_mah {G : zGl} (hi : IG G) {i j : Nat} (hij : i < j) (hj : j < nn (gV G 0 1)) : xah G i j = mah G i j := by
  unfold xah mah
  by_cases c1 : rk (gT G i) = rk (gT G j)
  · rw [if_pos c1, if_pos c1]
    have hji : ¬ j ≤ i := by omega
    by_cases c2 : rk (gT G i) = 0
    · rw [if_pos c2, show mkv G i (rk (gT G i)) = gres G i from if_pos c2, show mkv G j (rk (gT G i)) = gres G j from if_pos c2]
      by_cases c3 : gres G i = gres G j
      · rw [if_pos c3, if_neg hji, if_neg (by rw [c3, i_nle, Decidable.not_not]; exact Int32.le_refl _)]
      · rw [if_neg c3]
        have e : (gres G j < gres G i) = (gres G j ≤ gres G i) := by
          rw [← Int32.toInt_inj] at c3
          rw [Int32.lt_iff_toInt_lt, Int32.le_iff_toInt_le]
          exact propext (by omega)
        by_cases c4 : gres G j ≤ gres G i
        · rw [if_pos c4, if_pos (by rw [e]; exact c4)]
        · rw [if_neg c4, if_neg (by rw [e]; exact c4)]
    · rw [if_neg c2]
      by_cases c3 : rk (gT G i) = 1
      · have hr : ∀ T : zT, rk T = 1 → T 0 5 = 1 := by
          intro T hT
          unfold rk at hT
          by_cases d1 : T 0 5 = 2
          · rw [if_pos d1] at hT
            exact absurd hT (by decide)
          · rw [if_neg d1] at hT
            by_cases d2 : T 0 5 = 1
            · exact d2
            · rw [if_neg d2] at hT
              split at hT
              · exact absurd hT (by decide)
              · exact absurd hT (by decide)
        have bi := gway_b hi (k := i) (by omega) (hr _ c3)
        have bj := gway_b hi (k := j) hj (hr _ (c1 ▸ c3))
        rw [if_pos c3, show mkv G i (rk (gT G i)) = -gway G i by unfold mkv; rw [if_neg c2, if_pos c3], show mkv G j (rk (gT G i)) = -gway G j by unfold mkv; rw [if_neg c2, if_pos c3]]
        have ni : (-gway G i).toInt = -(gway G i).toInt := by
          rw [Int32.toInt_neg, Int.bmod_eq_of_le (by omega) (by omega)]
        have nj : (-gway G j).toInt = -(gway G j).toInt := by
          rw [Int32.toInt_neg, Int.bmod_eq_of_le (by omega) (by omega)]
        by_cases c4 : gway G i < gway G j
        · rw [if_pos c4]
          rw [Int32.lt_iff_toInt_lt] at c4
          rw [if_neg (by rw [← Int32.toInt_inj, ni, nj]; omega), if_pos (by rw [Int32.le_iff_toInt_le, ni, nj]; omega)]
        · rw [if_neg c4]
          rw [Int32.lt_iff_toInt_lt] at c4
          by_cases c5 : -gway G i = -gway G j
          · rw [if_pos c5, if_neg hji]
          · rw [if_neg c5]
            rw [← Int32.toInt_inj, ni, nj] at c5
            rw [if_neg (by rw [Int32.le_iff_toInt_le, ni, nj]; omega)]
      · rw [if_neg c3, show mkv G i (rk (gT G i)) = 0 by unfold mkv; rw [if_neg c2, if_neg c3], show mkv G j (rk (gT G i)) = 0 by unfold mkv; rw [if_neg c2, if_neg c3], if_pos rfl, if_neg hji]
  · rw [if_neg c1, if_neg c1]
