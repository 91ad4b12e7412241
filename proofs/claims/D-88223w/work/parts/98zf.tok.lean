/-! ===== tokens of a text: what both readers see ===== -/
set_option maxRecDepth 100000
/-- a text: its bytes, how many -/
abbrev zTx : Type := (Nat → Int32) × Nat
def zsc (X : zTx) (k : Nat) : Int32 := see X.1 X.2 k
def skp (X : zTx) : Nat → Nat → Nat
  | 0, k => k
  | c + 1, k => if zsc X k = 32 ∨ zsc X k = 10 then skp X c (k + 1) else k
def rnL (X : zTx) : Nat → Nat → Nat
  | 0, k => k
  | c + 1, k => if sml (zsc X k) = 0 then k else rnL X c (k + 1)
def rnD (X : zTx) : Nat → Nat → Nat
  | 0, k => k
  | c + 1, k => if dgt (zsc X k) = 0 then k else rnD X c (k + 1)
/-- the token that is read from e on: its place, its end, its kind, its number, its letters -/
def kA (X : zTx) (e : Nat) : Nat := skp X (X.2 - e) e
def tE (X : zTx) (e : Nat) : Nat := if zsc X (kA X e) = -1 then kA X e else if sml (zsc X (kA X e)) = 0 then (if dgt (zsc X (kA X e)) = 0 then kA X e + 1 else rnD X (X.2 - kA X e) (kA X e)) else rnL X (X.2 - kA X e) (kA X e)
def sgn3 (c : Int32) : Int32 := if c = 60 then 60 else if c = 62 then 62 else if c = 59 then 59 else 1
def tK (X : zTx) (e : Nat) : Int32 := if zsc X (kA X e) = -1 then 0 else if sml (zsc X (kA X e)) = 0 then (if dgt (zsc X (kA X e)) = 0 then sgn3 (zsc X (kA X e)) else if tE X e ≤ kA X e + 4 then 3 else 1) else if tE X e ≤ kA X e + 8 then 2 else 1
def nmb (X : zTx) (k : Nat) : Nat → Int32
  | 0 => 0
  | j + 1 => 10 * nmb X k j + zsc X (k + j) - 48
def tL (X : zTx) (e : Nat) : Nat := tE X e - kA X e
def tN (X : zTx) (e : Nat) : Int32 := nmb X (kA X e) (tL X e)
def tW (X : zTx) (e : Nat) : Nat → Int32 := fun j => zsc X (kA X e + j)
/-- a word to the base 32 -/
def bs (f : Nat → Int32) : Nat → Nat
  | 0 => 0
  | l + 1 => 32 * bs f l + (nn (f l) - 96)
def hsh (f : Nat → Int32) : Nat → Int32
  | 0 => 0
  | l + 1 => 31 * hsh f l + (f l &&& 255)
def tV (X : zTx) (e : Nat) : Nat := bs (tW X e) (tL X e)
/-- the texts of the classes, by number -/
def zwt : List (List Nat) := [[103, 111], [115, 116, 97, 121], [102, 101, 101, 100], [108, 101, 97, 118, 101], [114, 117, 110], [114, 101, 115, 116], [119, 101, 97, 107], [109, 101, 97, 110], [99, 111, 108, 100], [109, 101, 97, 108, 115], [100, 111, 103, 115], [108, 101, 102, 116], [104, 111, 117, 114], [112, 111, 115, 116], [108, 111, 97, 100], [97, 116], [102, 114, 111, 109], [116, 111], [102, 105, 110, 101], [102, 111, 114], [119, 104, 101, 110], [], [119, 104, 101, 110], [97, 110, 100], [103, 111], [115, 116, 97, 121], [102, 101, 101, 100], [108, 101, 97, 118, 101], [114, 117, 110], [114, 101, 115, 116], [119, 101, 97, 107], [109, 101, 97, 110], [99, 111, 108, 100], [109, 101, 97, 108, 115], [100, 111, 103, 115], [108, 101, 102, 116], [104, 111, 117, 114], [112, 111, 115, 116], [108, 111, 97, 100], [119, 104, 101, 110], [97, 110, 100], [102, 105, 110, 101], [102, 111, 114], [97, 116], [102, 114, 111, 109], [116, 111], []]
def zwl (i : Nat) : Nat := (zwt.getD i []).length
def zwc (i : Nat) (j : Nat) : Int32 := Int32.ofNat ((zwt.getD i []).getD j 0)
def val (i : Nat) : Nat := bs (zwc i) (zwl i)
/-- the current token is the word i -/
def isw (X : zTx) (e i : Nat) : Prop := tK X e = 2 ∧ tV X e = val i
theorem zsc_n {X : zTx} {k : Nat} (h : X.2 ≤ k) : zsc X k = -1 := if_pos h
theorem and255 (x : Int32) : x &&& 255 ≠ -1 := fun h => by
  have h1 : (x &&& 255) &&& 256 = (-1 : Int32) &&& 256 := by rw [h]
  rw [Int32.and_assoc, show ((255 : Int32) &&& 256) = 0 by decide, Int32.and_zero] at h1
  exact absurd h1 (by decide)
theorem zsc_p {X : zTx} {k : Nat} (h : k < X.2) : zsc X k ≠ -1 := by
  unfold zsc see
  rw [if_neg (by omega)]
  exact and255 _
theorem sml_i {c : Int32} (h : sml c ≠ 0) : c = Int32.ofNat (nn c) ∧ 97 ≤ nn c ∧ nn c ≤ 122 := by
  unfold sml at h
  by_cases h1 : c < 97
  · rw [if_pos h1] at h
    exact absurd rfl h
  · rw [if_neg h1] at h
    by_cases h2 : 122 < c
    · rw [if_pos h2] at h
      exact absurd rfl h
    · rw [i_nle, Decidable.not_not, Int32.le_iff_toInt_le] at h1 h2
      have e1 : (97 : Int32).toInt = 97 := rfl
      have e2 : (122 : Int32).toInt = 122 := rfl
      have h0 : (0 : Int32) ≤ c := by
        rw [Int32.le_iff_toInt_le, show (0 : Int32).toInt = 0 from rfl]
        omega
      have e3 := i_nnI h0
      exact ⟨i_toN h0, by omega, by omega⟩
theorem dgt_i {c : Int32} (h : dgt c ≠ 0) : c = Int32.ofNat (nn c) ∧ 48 ≤ nn c ∧ nn c ≤ 57 := by
  unfold dgt at h
  by_cases h1 : c < 48
  · rw [if_pos h1] at h
    exact absurd rfl h
  · rw [if_neg h1] at h
    by_cases h2 : 57 < c
    · rw [if_pos h2] at h
      exact absurd rfl h
    · rw [i_nle, Decidable.not_not, Int32.le_iff_toInt_le] at h1 h2
      have e1 : (48 : Int32).toInt = 48 := rfl
      have e2 : (57 : Int32).toInt = 57 := rfl
      have h0 : (0 : Int32) ≤ c := by
        rw [Int32.le_iff_toInt_le, show (0 : Int32).toInt = 0 from rfl]
        omega
      have e3 := i_nnI h0
      exact ⟨i_toN h0, by omega, by omega⟩
theorem skp_le {X : zTx} : ∀ c k, k ≤ skp X c k ∧ skp X c k ≤ k + c
  | 0, k => ⟨Nat.le_refl _, Nat.le_refl _⟩
  | c + 1, k => by
    have := skp_le (X := X) c (k + 1)
    unfold skp
    split <;> omega
theorem rnL_le {X : zTx} : ∀ c k, k ≤ rnL X c k ∧ rnL X c k ≤ k + c
  | 0, k => ⟨Nat.le_refl _, Nat.le_refl _⟩
  | c + 1, k => by
    have := rnL_le (X := X) c (k + 1)
    unfold rnL
    split <;> omega
theorem rnD_le {X : zTx} : ∀ c k, k ≤ rnD X c k ∧ rnD X c k ≤ k + c
  | 0, k => ⟨Nat.le_refl _, Nat.le_refl _⟩
  | c + 1, k => by
    have := rnD_le (X := X) c (k + 1)
    unfold rnD
    split <;> omega
theorem rnL_all {X : zTx} : ∀ c k j, k ≤ j → j < rnL X c k → sml (zsc X j) ≠ 0
  | 0, k, j, h1, h2 => absurd (show j < k from h2) (by omega)
  | c + 1, k, j, h1, h2 => by
    unfold rnL at h2
    by_cases h : sml (zsc X k) = 0
    · rw [if_pos h] at h2
      omega
    · rw [if_neg h] at h2
      by_cases e : j = k
      · rw [e]
        exact h
      · exact rnL_all c (k + 1) j (by omega) h2
theorem rnD_all {X : zTx} : ∀ c k j, k ≤ j → j < rnD X c k → dgt (zsc X j) ≠ 0
  | 0, k, j, h1, h2 => absurd (show j < k from h2) (by omega)
  | c + 1, k, j, h1, h2 => by
    unfold rnD at h2
    by_cases h : dgt (zsc X k) = 0
    · rw [if_pos h] at h2
      omega
    · rw [if_neg h] at h2
      by_cases e : j = k
      · rw [e]
        exact h
      · exact rnD_all c (k + 1) j (by omega) h2
theorem sml_1 : sml (-1) = 0 := by decide
theorem dgt_1 : dgt (-1) = 0 := by decide
section
variable {X : zTx} {e : Nat}
theorem tA_le (h : e ≤ X.2) : e ≤ kA X e ∧ kA X e ≤ X.2 := by
  have := skp_le (X := X) (X.2 - e) e
  unfold kA
  omega
theorem tE_le (h : e ≤ X.2) : kA X e ≤ tE X e ∧ tE X e ≤ X.2 := by
  have h1 := tA_le h
  unfold tE
  by_cases c1 : zsc X (kA X e) = -1
  · rw [if_pos c1]
    omega
  · rw [if_neg c1]
    have h2 : kA X e < X.2 := by
      rcases Nat.lt_or_ge (kA X e) X.2 with q | q
      · exact q
      · exact absurd (zsc_n q) c1
    have h3 := rnL_le (X := X) (X.2 - kA X e) (kA X e)
    have h4 := rnD_le (X := X) (X.2 - kA X e) (kA X e)
    split
    · split <;> omega
    · omega
/-- a word's letters -/
theorem tW_i (hk : tK X e = 2) : zsc X (kA X e) ≠ -1 ∧ sml (zsc X (kA X e)) ≠ 0 ∧ tE X e = rnL X (X.2 - kA X e) (kA X e) ∧ tE X e ≤ kA X e + 8 := by
  unfold tK at hk
  by_cases c1 : zsc X (kA X e) = -1
  · rw [if_pos c1] at hk
    exact absurd hk (by decide)
  · rw [if_neg c1] at hk
    by_cases c2 : sml (zsc X (kA X e)) = 0
    · rw [if_pos c2] at hk
      exfalso
      revert hk
      unfold sgn3
      repeat' split
      all_goals decide
    · rw [if_neg c2] at hk
      by_cases c3 : tE X e ≤ kA X e + 8
      · refine ⟨c1, c2, ?_, c3⟩
        unfold tE
        rw [if_neg c1, if_neg c2]
      · rw [if_neg c3] at hk
        exact absurd hk (by decide)
theorem tW_s (hk : tK X e = 2) {j : Nat} (hj : j < tL X e) : sml (tW X e j) ≠ 0 := by
  obtain ⟨h1, h2, h3, h4⟩ := tW_i hk
  unfold tL at hj
  rw [h3] at hj
  exact rnL_all (X.2 - kA X e) (kA X e) _ (Nat.le_add_right _ _) (by omega)
theorem tL_8 (hk : tK X e = 2) : tL X e ≤ 8 ∧ 1 ≤ tL X e := by
  obtain ⟨h1, h2, h3, h4⟩ := tW_i hk
  have h5 : kA X e < X.2 := by
    rcases Nat.lt_or_ge (kA X e) X.2 with q | q
    · exact q
    · exact absurd (zsc_n q) h1
  obtain ⟨c, hc⟩ : ∃ c, X.2 - kA X e = c + 1 := ⟨X.2 - kA X e - 1, by omega⟩
  have h6 : kA X e + 1 ≤ rnL X (X.2 - kA X e) (kA X e) := by
    rw [hc]
    unfold rnL
    rw [if_neg h2]
    exact (rnL_le c _).1
  unfold tL
  omega
/-- a number -/
theorem tN_i (hk : tK X e = 3) : zsc X (kA X e) ≠ -1 ∧ dgt (zsc X (kA X e)) ≠ 0 ∧ tE X e = rnD X (X.2 - kA X e) (kA X e) ∧ tE X e ≤ kA X e + 4 := by
  unfold tK at hk
  by_cases c1 : zsc X (kA X e) = -1
  · rw [if_pos c1] at hk
    exact absurd hk (by decide)
  · rw [if_neg c1] at hk
    by_cases c2 : sml (zsc X (kA X e)) = 0
    · rw [if_pos c2] at hk
      by_cases c4 : dgt (zsc X (kA X e)) = 0
      · rw [if_pos c4] at hk
        exfalso
        revert hk
        unfold sgn3
        repeat' split
        all_goals decide
      · rw [if_neg c4] at hk
        by_cases c3 : tE X e ≤ kA X e + 4
        · refine ⟨c1, c4, ?_, c3⟩
          unfold tE
          rw [if_neg c1, if_pos c2, if_neg c4]
        · rw [if_neg c3] at hk
          exact absurd hk (by decide)
    · rw [if_neg c2] at hk
      exfalso
      revert hk
      split <;> decide
theorem nmb_sm : ∀ l k, l ≤ 4 → (∀ j, k ≤ j → j < k + l → dgt (zsc X j) ≠ 0) → ∃ v, nmb X k l = Int32.ofNat v ∧ v < 10 ^ l
  | 0, k, _, _ => ⟨0, rfl, by decide⟩
  | l + 1, k, hl, h => by
    obtain ⟨v, h1, h2⟩ := nmb_sm l k (by omega) (fun j h3 h4 => h j h3 (by omega))
    obtain ⟨d1, d2, d3⟩ := dgt_i (h (k + l) (by omega) (by omega))
    refine ⟨10 * v + (nn (zsc X (k + l)) - 48), ?_, ?_⟩
    · unfold nmb
      generalize nn (zsc X (k + l)) = u at *
      rw [h1, d1]
      have hv : v < 10 ^ 4 := Nat.lt_of_lt_of_le h2 (Nat.pow_le_pow_right (by omega) (by omega))
      rw [show (10 : Int32) = Int32.ofNat 10 from rfl, i_mulN, i_addN, ← Int32.toInt_inj, Int32.toInt_sub, i_int (by omega), i_int (by omega), show (48 : Int32).toInt = 48 from rfl, Int.bmod_eq_of_le (by omega) (by omega)]
      omega
    · rw [Nat.pow_succ]
      omega
theorem tN_sm (hk : tK X e = 3) : sm (tN X e) 9999 := by
  obtain ⟨h1, h2, h3, h4⟩ := tN_i hk
  have hl : tL X e ≤ 4 := by unfold tL; omega
  obtain ⟨v, h5, h6⟩ := nmb_sm (X := X) (tL X e) (kA X e) hl (fun j q1 q2 => rnD_all (X.2 - kA X e) (kA X e) j q1 (by
    unfold tL at q2
    rw [h3] at q2
    omega))
  have hv : v < 10 ^ 4 := Nat.lt_of_lt_of_le h6 (Nat.pow_le_pow_right (by omega) hl)
  unfold tN
  rw [h5]
  exact sm_of (by omega) (by omega)
end
/-! words by their numbers -/
def ltr (f : Nat → Int32) (l : Nat) : Prop := ∀ j, j < l → f j = Int32.ofNat (nn (f j)) ∧ 97 ≤ nn (f j) ∧ nn (f j) ≤ 122
theorem bs_inj {f g : Nat → Int32} : ∀ l m, ltr f l → ltr g m → bs f l = bs g m → l = m ∧ ∀ j, j < l → f j = g j
  | 0, 0, _, _, _ => ⟨rfl, fun j h => absurd h (by omega)⟩
  | 0, m + 1, _, hg, h => by
    have := hg m (by omega)
    unfold bs at h
    omega
  | l + 1, 0, hf, _, h => by
    have := hf l (by omega)
    unfold bs at h
    omega
  | l + 1, m + 1, hf, hg, h => by
    have h1 := hf l (by omega)
    have h2 := hg m (by omega)
    have h : 32 * bs f l + (nn (f l) - 96) = 32 * bs g m + (nn (g m) - 96) := h
    have h3 : bs f l = bs g m := by omega
    have h4 : nn (f l) = nn (g m) := by omega
    obtain ⟨q1, q2⟩ := bs_inj l m (fun j hj => hf j (by omega)) (fun j hj => hg j (by omega)) h3
    subst q1
    refine ⟨rfl, fun j hj => ?_⟩
    by_cases e : j = l
    · subst e
      rw [h1.1, h2.1, h4]
    · exact q2 j (by omega)
theorem bs_eq {f g : Nat → Int32} : ∀ l, (∀ j, j < l → f j = g j) → bs f l = bs g l
  | 0, _ => rfl
  | l + 1, h => by
    show 32 * bs f l + (nn (f l) - 96) = 32 * bs g l + (nn (g l) - 96)
    rw [bs_eq l (fun j hj => h j (by omega)), h l (by omega)]
theorem hsh_eq {f g : Nat → Int32} : ∀ l, (∀ j, j < l → f j = g j) → hsh f l = hsh g l
  | 0, _ => rfl
  | l + 1, h => by
    show 31 * hsh f l + (f l &&& 255) = 31 * hsh g l + (g l &&& 255)
    rw [hsh_eq l (fun j hj => h j (by omega)), h l (by omega)]
theorem bs_lt {f : Nat → Int32} : ∀ l, ltr f l → bs f l < 32 ^ l
  | 0, _ => Nat.zero_lt_one
  | l + 1, h => by
    have h1 := bs_lt l (fun j hj => h j (by omega))
    have h2 := h l (by omega)
    unfold bs
    rw [Nat.pow_succ]
    omega
theorem zw_ltr : ∀ i, i < 47 → ltr (zwc i) (zwl i) := by
  unfold ltr
  decide +kernel
theorem zw_8 : ∀ i, i < 47 → zwl i ≤ 8 := by decide +kernel
section
variable {X : zTx} {e i : Nat}
theorem tW_l (hk : tK X e = 2) : ltr (tW X e) (tL X e) := fun _ hj => sml_i (tW_s hk hj)
theorem isw_i (hk : tK X e = 2) (hi : i < 47) : (tV X e = val i) ↔ (tL X e = zwl i ∧ ∀ j, j < tL X e → tW X e j = zwc i j) := by
  constructor
  · intro h
    exact bs_inj _ _ (tW_l hk) (zw_ltr i hi) h
  · intro ⟨h1, h2⟩
    unfold tV val
    rw [← h1]
    exact bs_eq _ h2
theorem tV_lt (hk : tK X e = 2) : tV X e < 1099511627776 := by
  have h1 := bs_lt _ (tW_l hk)
  have h2 : 32 ^ tL X e ≤ 32 ^ 8 := Nat.pow_le_pow_right (by omega) (tL_8 hk).1
  unfold tV
  omega
end
/-- words that are acts and names -/
def wAct (v : Nat) : Int32 := if v = val 0 then 0 else if v = val 1 then 1 else if v = val 2 then 2 else if v = val 3 then 3 else -1
def wNam (v : Nat) : Int32 := if v = val 4 then 0 else if v = val 5 then 1 else if v = val 6 then 2 else if v = val 7 then 3 else if v = val 8 then 4 else if v = val 9 then 5 else if v = val 10 then 6 else if v = val 11 then 7 else if v = val 12 then 8 else if v = val 13 then 9 else if v = val 14 then 10 else -1
