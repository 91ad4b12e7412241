/-! ===== numbers of a team: counts, means, speed ===== -/
set_option maxRecDepth 100000
theorem i_toN {x : Int32} (h : 0 ≤ x) : x = Int32.ofNat (nn x) := by
  have h1 := Int32.toInt_lt x
  rw [Int32.le_iff_toInt_le] at h
  have h0 : (0 : Int32).toInt = 0 := rfl
  rw [h0] at h
  have h2 : nn x = x.toInt.toNat := rfl
  rw [← Int32.toInt_inj, h2, i_int (by omega)]
  omega
theorem i_nnI {x : Int32} (h : 0 ≤ x) : (nn x : Int) = x.toInt := by
  rw [Int32.le_iff_toInt_le] at h
  have h0 : (0 : Int32).toInt = 0 := rfl
  rw [h0] at h
  have h2 : nn x = x.toInt.toNat := rfl
  omega
theorem i_smI {x : Int32} {n : Nat} (hn : n < 2147483648) : sm x n ↔ 0 ≤ x.toInt ∧ x.toInt ≤ n := by
  constructor
  · intro h
    have h1 := h.1
    have h2 := h.2
    rw [h1, i_int (by omega)]
    omega
  · intro h
    have h1 : 0 ≤ x := by
      rw [Int32.le_iff_toInt_le]
      exact h.1
    exact ⟨i_toN h1, by have := i_nnI h1; omega⟩
theorem i_mulL {a b : Nat} {x : Int32} (h : x = Int32.ofNat a) : x * Int32.ofNat b = Int32.ofNat (a * b) := by
  rw [h]
  exact i_mulN
/-- max and min -/
theorem jmax_n {a b : Nat} (ha : a < 2147483648) (hb : b < 2147483648) : jmax 0 (Int32.ofNat a - Int32.ofNat b) = Int32.ofNat (a - b) := by
  have h1 : (Int32.ofNat a - Int32.ofNat b).toInt = (a : Int) - b := by
    rw [Int32.toInt_sub, i_int ha, i_int hb, Int.bmod_eq_of_le (by omega) (by omega)]
  have h0 : (0 : Int32).toInt = 0 := rfl
  unfold jmax
  by_cases h : 0 < Int32.ofNat a - Int32.ofNat b
  · rw [if_pos h, ← Int32.toInt_inj, h1, i_int (by omega)]
    rw [Int32.lt_iff_toInt_lt, h0, h1] at h
    omega
  · rw [if_neg h, ← Int32.toInt_inj, h0, i_int (by omega)]
    rw [Int32.lt_iff_toInt_lt, h0, h1] at h
    omega
theorem jmin_n {a b : Nat} (ha : a < 2147483648) (hb : b < 2147483648) : jmin (Int32.ofNat a) (Int32.ofNat b) = Int32.ofNat (min a b) := by
  unfold jmin
  by_cases h : b < a
  · rw [if_pos (by rw [i_lt hb ha]; exact h), Nat.min_eq_right (by omega)]
  · rw [if_neg (by rw [i_lt hb ha]; exact h), Nat.min_eq_left (by omega)]
theorem tcn {T : zT} {s : Int32} : ∀ k, ∃ c, c ≤ k ∧ tcnt T s k = Int32.ofNat c
  | 0 => ⟨0, by omega, rfl⟩
  | k + 1 => by
    obtain ⟨c, h1, h2⟩ := tcn (T := T) (s := s) k
    unfold tcnt
    rw [h2]
    split
    · exact ⟨c + 1, by omega, i_succ⟩
    · exact ⟨c, by omega, by simp⟩
theorem twk {T : zT} : ∀ k, tcnt T 0 k ≠ 0 → ∃ b, tweak T k = some b
  | 0, h => absurd rfl h
  | k + 1, h => by
    unfold tweak
    by_cases e : T 2 k = 0
    · rw [if_pos e]
      cases tweak T k with
      | none => exact ⟨k, rfl⟩
      | some b =>
        show ∃ b', (if T 1 b ≤ T 1 k then some b else some k) = some b'
        split
        · exact ⟨b, rfl⟩
        · exact ⟨k, rfl⟩
    · rw [if_neg e]
      refine twk k (fun q => h ?_)
      unfold tcnt
      rw [if_neg e, q]
      rfl
theorem tweak_eq' {T U : zT} : ∀ k, (∀ j, j < k → (T 2 j = 0 ↔ U 2 j = 0) ∧ T 1 j = U 1 j) → tweak T k = tweak U k
  | 0, _ => rfl
  | k + 1, h => by
    have e := tweak_eq' k (fun j hj => h j (by omega))
    unfold tweak
    rw [e]
    have h2 := h k (by omega)
    by_cases e2 : T 2 k = 0
    · rw [if_pos e2, if_pos (h2.1.1 e2)]
      cases hw : tweak U k with
      | none => rfl
      | some b =>
        have hb := (tweak_lt k b hw).1
        simp only [h2.2, (h b (by omega)).2]
    · rw [if_neg e2, if_neg (fun q => e2 (h2.1.2 q))]
theorem tsm {T : zT} : ∀ k, k ≤ 16 → (∀ j, j < k → sm (T 1 j) 1000) → ∃ a c, tcnt T 0 k = Int32.ofNat c ∧ c ≤ k ∧ tsum T k = Int32.ofNat a ∧ a ≤ 1000 * c
  | 0, _, _ => ⟨0, 0, rfl, by omega, rfl, by omega⟩
  | k + 1, hk, h => by
    obtain ⟨a, c, h1, h2, h3, h4⟩ := tsm k (by omega) (fun j hj => h j (by omega))
    have h5 := h k (by omega)
    unfold tcnt tsum
    rw [h1, h3]
    by_cases e : T 2 k = 0
    · rw [if_pos e, if_pos e, h5.1]
      exact ⟨a + nn (T 1 k), c + 1, i_succ, by omega, i_add, by have := h5.2; omega⟩
    · rw [if_neg e, if_neg e]
      exact ⟨a, c, by simp, by omega, rfl, h4⟩
theorem tmn {T : zT} {k c : Nat} (hk : k ≤ 16) (h : ∀ j, j < k → sm (T 1 j) 1000) (hc : tcnt T 0 k = Int32.ofNat c) (hc0 : 0 < c) (hck : c ≤ k) : ∃ m, tmean T k = Int32.ofNat m ∧ m ≤ 1000 := by
  obtain ⟨a, c', h1, h2, h3, h4⟩ := tsm k hk h
  obtain rfl : c = c' := by
    rw [hc] at h1
    rw [i_eq (by omega) (by omega)] at h1
    exact h1
  unfold tmean
  rw [hc, h3, if_neg (by rw [show (0 : Int32) = Int32.ofNat 0 from rfl, i_eq (by omega) (by omega)]; omega), i_div (by omega) (by omega) hc0]
  exact ⟨a / c, rfl, Nat.div_le_of_le_mul (by rw [Nat.mul_comm]; exact h4)⟩
theorem nspd {m c h ld : Nat} (hm : m ≤ 1000) (hh : 50 ≤ h) : 30 * m * c * 100 / (1000 * h) * 20 / (20 * c + ld) ≤ 60 := by
  have h1 : 30 * m * c * 100 ≤ 1000 * h * (60 * c) := by
    have e1 : 30 * m * c * 100 = m * (3000 * c) := by
      simp only [Nat.mul_assoc, Nat.mul_comm, Nat.mul_left_comm]
    have e2 : 1000 * h * (60 * c) = h * (60000 * c) := by
      simp only [Nat.mul_assoc, Nat.mul_comm, Nat.mul_left_comm]
    rw [e1, e2]
    have h2 : m * (3000 * c) ≤ 1000 * (3000 * c) := Nat.mul_le_mul_right _ hm
    have h3 : 50 * (60000 * c) ≤ h * (60000 * c) := Nat.mul_le_mul_right _ hh
    omega
  have h2 : 30 * m * c * 100 / (1000 * h) ≤ 60 * c := Nat.div_le_of_le_mul h1
  refine Nat.div_le_of_le_mul ?_
  rw [Nat.add_mul]
  omega
theorem tspn {T V : zT} {nd lg c ld h : Nat} (hn : nd ≤ 16) (hs : ∀ j, j < nd → sm (T 1 j) 1000) (hc : tcnt T 0 nd = Int32.ofNat c) (hc0 : 0 < c) (hck : c ≤ nd) (hl : tload T nd = Int32.ofNat ld) (hl0 : ld ≤ 700) (hv : V 2 lg = Int32.ofNat h) (hh : 50 ≤ h) (hh2 : h ≤ 200) : ∃ v, tspd T V nd lg = Int32.ofNat v ∧ v ≤ 60 := by
  obtain ⟨m, hm, hm2⟩ := tmn hn hs hc hc0 hck
  have b1 : 30 * m * c * 100 ≤ 48000000 := by
    have : m * c ≤ 1000 * 16 := Nat.mul_le_mul hm2 (by omega)
    have e1 : 30 * m * c * 100 = 3000 * (m * c) := by
      simp only [Nat.mul_assoc, Nat.mul_comm, Nat.mul_left_comm]
    omega
  have b2 : 30 * m * c * 100 / (1000 * h) ≤ 30 * m * c * 100 := Nat.div_le_self _ _
  refine ⟨30 * m * c * 100 / (1000 * h) * 20 / (20 * c + ld), ?_, nspd hm2 hh⟩
  unfold tspd
  rw [hc, hl, hm, hv, show (30 : Int32) = Int32.ofNat 30 from rfl, show (100 : Int32) = Int32.ofNat 100 from rfl, show (1000 : Int32) = Int32.ofNat 1000 from rfl, show (20 : Int32) = Int32.ofNat 20 from rfl]
  simp only [i_mulN, i_add]
  rw [i_div (by omega) (by omega) (by omega)]
  simp only [i_mulN]
  rw [i_div (by omega) (by omega) (by omega)]
theorem tln {T : zT} {nd : Nat} (h : sm (T 0 1) 300) (h2 : 20 ≤ nn (T 0 1)) (hn : nd ≤ 16) : ∃ ld, tload T nd = Int32.ofNat ld ∧ 20 ≤ ld ∧ ld ≤ 700 := by
  obtain ⟨c, h3, h4⟩ := tcn (T := T) (s := 1) nd
  unfold tload
  rw [h4, h.1, show (25 : Int32) = Int32.ofNat 25 from rfl, i_mulN, i_add]
  exact ⟨_, rfl, by omega, by have := h.2; omega⟩
theorem tlon {T V : zT} {nd lg s : Nat} (h : sm (T 0 1) 300) (h2 : 20 ≤ nn (T 0 1)) (hn : nd ≤ 16) (hv : sm (V 2 lg) 200) (hc : V 3 (s / 6) ≤ 20) : ∃ n, tlost T V nd lg s = Int32.ofNat n ∧ n ≤ 100 := by
  obtain ⟨ld, h3, h4, h5⟩ := tln h h2 hn
  unfold tlost
  have b1 : ld / 40 ≤ ld := Nat.div_le_self _ _
  have b2 : nn (V 2 lg) / 25 ≤ nn (V 2 lg) := Nat.div_le_self _ _
  have b3 := hv.2
  have hx : ∃ q, (if V 3 (s / 6) ≤ -10 then 0 else (V 3 (s / 6) + 10) / 3 : Int32) = Int32.ofNat q ∧ q ≤ 30 := by
    split
    · exact ⟨0, rfl, by omega⟩
    · next hg =>
      rw [Int32.le_iff_toInt_le] at hg hc
      have e1 : (-10 : Int32).toInt = -10 := rfl
      have e2 : (20 : Int32).toInt = 20 := rfl
      have e3 : (10 : Int32).toInt = 10 := rfl
      rw [e1] at hg
      rw [e2] at hc
      have e4 : (V 3 (s / 6) + 10).toInt = (V 3 (s / 6)).toInt + 10 := by
        rw [Int32.toInt_add, e3, Int.bmod_eq_of_le (by omega) (by omega)]
      have e5 : V 3 (s / 6) + 10 = Int32.ofNat ((V 3 (s / 6)).toInt + 10).toNat := by
        rw [← Int32.toInt_inj, e4, i_int (by omega)]
        omega
      rw [e5, show (3 : Int32) = Int32.ofNat 3 from rfl, i_div (by omega) (by omega) (by omega)]
      refine ⟨_, rfl, ?_⟩
      have := Nat.div_le_self ((V 3 (s / 6)).toInt + 10).toNat 3
      omega
  obtain ⟨q, q1, q2⟩ := hx
  rw [q1, h3, hv.1, show (40 : Int32) = Int32.ofNat 40 from rfl, show (25 : Int32) = Int32.ofNat 25 from rfl, show (6 : Int32) = Int32.ofNat 6 from rfl, i_div (by omega) (by omega) (by omega), i_div (by omega) (by omega) (by omega), i_add, i_add, i_add]
  refine ⟨_, rfl, ?_⟩
  have b4 : ld / 40 ≤ 17 := by omega
  have b5 : nn (V 2 lg) / 25 ≤ 8 := by omega
  omega
/-- the way in numbers -/
def nway (V : zT) (f : Nat) : Nat → Nat
  | 0 => f
  | k + 1 => nway V f k + nn (V 1 k)
theorem tway_n {V : zT} {f : Nat} : ∀ k, (∀ j, j < k → V 1 j = Int32.ofNat (nn (V 1 j))) → tway (Int32.ofNat f) V k = Int32.ofNat (nway V f k)
  | 0, _ => rfl
  | k + 1, h => by
    show tway (Int32.ofNat f) V k + V 1 k = _
    have e := h k (by omega)
    rw [tway_n k (fun j hj => h j (by omega))]
    generalize hx : V 1 k = x at *
    rw [e, i_add]
    show Int32.ofNat (nway V f k + nn x) = Int32.ofNat (nway V f k + nn (V 1 k))
    rw [hx]
theorem nway_f {V : zT} {f : Nat} : ∀ k, nway V f k = f + nway V 0 k
  | 0 => by simp [nway]
  | k + 1 => by
    show nway V f k + _ = f + (nway V 0 k + _)
    rw [nway_f k]
    omega
