/-! ===== rectangles of ints written; rows of a picture; a team entered (x) ===== -/
set_option maxRecDepth 100000
def zfl (I : Nat → Nat → Int32) (a b k n : Nat) (f : Nat → Nat → Int32) : Nat → Nat → Int32 := fun x j => if a ≤ x ∧ x < b ∧ k ≤ j ∧ j < n then f x j else I x j
section
variable {I : Nat → Nat → Int32} {a b k n x j : Nat} {f : Nat → Nat → Int32} {v v0 v1 v2 : Int32}
theorem zfl_q (h1 : a ≤ x) (h2 : x < b) (h3 : k ≤ j) (h4 : j < n) : zfl I a b k n f x j = f x j := if_pos ⟨h1, h2, h3, h4⟩
theorem zfl_k (h : ¬ (a ≤ x ∧ x < b ∧ k ≤ j ∧ j < n)) : zfl I a b k n f x j = I x j := if_neg h
theorem zup_e {f : Nat → Nat → Int32} (h : x = a ∧ j = k) : zup f a k v x j = v := if_pos h
theorem zfl_0 (h : n ≤ k ∨ b ≤ a) : zfl I a b k n f = I := by
  funext x j
  exact zfl_k (by omega)
theorem zfl_s (hk : k < n) (h0 : f a k = v) : zfl (zup I a k v) a (a + 1) (k + 1) n f = zfl I a (a + 1) k n f := by
  funext x j
  by_cases e : x = a ∧ j = k
  · obtain ⟨rfl, rfl⟩ := e
    rw [zfl_k (by omega), zup_q, zfl_q (by omega) (by omega) (by omega) (by omega), h0]
  · by_cases e2 : a ≤ x ∧ x < a + 1 ∧ k + 1 ≤ j ∧ j < n
    · rw [zfl_q (by omega) (by omega) (by omega) (by omega), zfl_q (by omega) (by omega) (by omega) (by omega)]
    · rw [zfl_k e2, zup_k e, zfl_k (by omega)]
theorem zfl_s2 (hk : k < n) (h0 : f a k = v) (h1 : f (a + 1) k = v1) : zfl (zup (zup I a k v) (a + 1) k v1) a (a + 2) (k + 1) n f = zfl I a (a + 2) k n f := by
  funext x j
  by_cases e : x = a ∧ j = k
  · obtain ⟨rfl, rfl⟩ := e
    rw [zfl_k (by omega), zup_k (by omega), zup_q, zfl_q (by omega) (by omega) (by omega) (by omega), h0]
  · by_cases e1 : x = a + 1 ∧ j = k
    · obtain ⟨rfl, rfl⟩ := e1
      rw [zfl_k (by omega), zup_q, zfl_q (by omega) (by omega) (by omega) (by omega), h1]
    · by_cases e2 : a ≤ x ∧ x < a + 2 ∧ k + 1 ≤ j ∧ j < n
      · rw [zfl_q (by omega) (by omega) (by omega) (by omega), zfl_q (by omega) (by omega) (by omega) (by omega)]
      · rw [zfl_k e2, zup_k e1, zup_k e, zfl_k (by omega)]
theorem zfl_s3 (hk : k < n) (h0 : f a k = v) (h1 : f (a + 1) k = v1) (h2 : f (a + 2) k = v2) : zfl (zup (zup (zup I a k v) (a + 1) k v1) (a + 2) k v2) a (a + 3) (k + 1) n f = zfl I a (a + 3) k n f := by
  funext x j
  by_cases e : x = a ∧ j = k
  · obtain ⟨rfl, rfl⟩ := e
    rw [zfl_k (by omega), zup_k (by omega), zup_k (by omega), zup_q, zfl_q (by omega) (by omega) (by omega) (by omega), h0]
  · by_cases e1 : x = a + 1 ∧ j = k
    · obtain ⟨rfl, rfl⟩ := e1
      rw [zfl_k (by omega), zup_k (by omega), zup_q, zfl_q (by omega) (by omega) (by omega) (by omega), h1]
    · by_cases e3 : x = a + 2 ∧ j = k
      · obtain ⟨rfl, rfl⟩ := e3
        rw [zfl_k (by omega), zup_q, zfl_q (by omega) (by omega) (by omega) (by omega), h2]
      · by_cases e2 : a ≤ x ∧ x < a + 3 ∧ k + 1 ≤ j ∧ j < n
        · rw [zfl_q (by omega) (by omega) (by omega) (by omega), zfl_q (by omega) (by omega) (by omega) (by omega)]
        · rw [zfl_k e2, zup_k e3, zup_k e1, zup_k e, zfl_k (by omega)]
/-- an object's three slots -/
theorem zfl_d (hab : a < b) (h0 : f a 0 = v0) (h1 : f a 1 = v1) (h2 : f a 2 = v2) : zfl (zup (zup (zup I a 0 v0) a 1 v1) a 2 v2) (a + 1) b 0 3 f = zfl I a b 0 3 f := by
  funext x j
  by_cases e : x = a ∧ j < 3
  · obtain ⟨rfl, e⟩ := e
    rw [zfl_k (by omega), zfl_q (by omega) (by omega) (by omega) (by omega)]
    obtain rfl | rfl | rfl : j = 0 ∨ j = 1 ∨ j = 2 := by omega
    · rw [zup_k (by omega), zup_k (by omega), zup_q, h0]
    · rw [zup_k (by omega), zup_q, h1]
    · rw [zup_q, h2]
  · by_cases e2 : a + 1 ≤ x ∧ x < b ∧ 0 ≤ j ∧ j < 3
    · rw [zfl_q (by omega) (by omega) (by omega) (by omega), zfl_q (by omega) (by omega) (by omega) (by omega)]
    · rw [zfl_k e2, zup_k (by omega), zup_k (by omega), zup_k (by omega), zfl_k (by omega)]
end
theorem zfI.fl {lo hi : Nat} {I J : Nat → Nat → Int32} (h : zfI lo hi I J) {a b k n : Nat} {f : Nat → Nat → Int32} (h1 : lo ≤ a) (h2 : b ≤ hi) : zfI lo hi I (zfl J a b k n f) := fun x j q => by
  rw [zfl_k (by omega)]
  exact h x j q
theorem zcI_wi {S : zM} {I : Nat → Nat → Int32} {p q a b n : Nat} : zcI (zwi S I) p q a b n = zwi S (zfl I q (q + 1) b (b + n) (fun _ j => I p (a + (j - b)))) := by
  show zwi S (zcpf I p q a b n) = _
  congr 1
  funext x j
  by_cases e : x = q ∧ b ≤ j ∧ j < b + n
  · rw [zfl_q (by omega) (by omega) (by omega) (by omega)]
    exact if_pos e
  · rw [zfl_k (by omega)]
    exact if_neg e
section
variable {t nd ng : Nat} {I : Nat → Nat → Int32} {T : zT}
theorem xP.un (h : xP I t nd ng T) : (I t 1 = T 0 0 ∧ I t 2 = T 0 1 ∧ I t 3 = T 0 2 ∧ I t 4 = T 0 3 ∧ I t 5 = T 0 4 ∧ I t 6 = T 0 5 ∧ I t 7 = T 0 6) ∧ (I t 8 = T 0 7 ∧ I t 9 = T 0 8 ∧ I t 10 = T 0 9 ∧ I t 11 = T 0 10 ∧ I t 12 = T 0 11 ∧ I t 16 = T 0 12 ∧ I t 19 = T 0 13) ∧ (∀ j, j < nd → I (t + 7 + j) 0 = T 1 j) ∧ (∀ j, j < nd → I (t + 7 + j) 1 = T 2 j) ∧ (∀ j, j < nd → I (t + 7 + j) 2 = T 3 j) ∧ (∀ j, j < 13 → I (t + 2) j = T 4 j) ∧ (∀ j, j < 13 → I (t + 3) j = T 5 j) ∧ (∀ j, j < ng → I (t + 5) j = T 6 j) ∧ (∀ j, j < ng → I (t + 6) j = T 7 j) ∧ ∀ j, j < 2000 → I (t + 4) j = T 8 j := by
  have z : ∀ j, j < 14 → I t (xsl j) = T 0 j := fun j hj => h 0 j (Or.inl ⟨rfl, hj⟩)
  refine ⟨⟨z 0 (by omega), z 1 (by omega), z 2 (by omega), z 3 (by omega), z 4 (by omega), z 5 (by omega), z 6 (by omega)⟩, ⟨z 7 (by omega), z 8 (by omega), z 9 (by omega), z 10 (by omega), z 11 (by omega), z 12 (by omega), z 13 (by omega)⟩, fun j hj => h 1 j ?_, fun j hj => h 2 j ?_, fun j hj => h 3 j ?_, fun j hj => h 4 j ?_, fun j hj => h 5 j ?_, fun j hj => h 6 j ?_, fun j hj => h 7 j ?_, fun j hj => h 8 j ?_⟩ <;> simp [zvl, hj]
theorem row14 {P : Nat → Prop} (h : (P 0 ∧ P 1 ∧ P 2 ∧ P 3 ∧ P 4 ∧ P 5 ∧ P 6) ∧ (P 7 ∧ P 8 ∧ P 9 ∧ P 10 ∧ P 11 ∧ P 12 ∧ P 13)) {j : Nat} (hj : j < 14) : P j := by
  obtain ⟨⟨h0, h1, h2, h3, h4, h5, h6⟩, h7, h8, h9, h10, h11, h12, h13⟩ := h
  obtain rfl | rfl | rfl | rfl | rfl | rfl | rfl | rfl | rfl | rfl | rfl | rfl | rfl | rfl : j = 0 ∨ j = 1 ∨ j = 2 ∨ j = 3 ∨ j = 4 ∨ j = 5 ∨ j = 6 ∨ j = 7 ∨ j = 8 ∨ j = 9 ∨ j = 10 ∨ j = 11 ∨ j = 12 ∨ j = 13 := by omega
  all_goals assumption
theorem xP.mk (a : (I t 1 = T 0 0 ∧ I t 2 = T 0 1 ∧ I t 3 = T 0 2 ∧ I t 4 = T 0 3 ∧ I t 5 = T 0 4 ∧ I t 6 = T 0 5 ∧ I t 7 = T 0 6)) (b : (I t 8 = T 0 7 ∧ I t 9 = T 0 8 ∧ I t 10 = T 0 9 ∧ I t 11 = T 0 10 ∧ I t 12 = T 0 11 ∧ I t 16 = T 0 12 ∧ I t 19 = T 0 13)) (r1 : ∀ j, j < nd → I (t + 7 + j) 0 = T 1 j) (r2 : ∀ j, j < nd → I (t + 7 + j) 1 = T 2 j) (r3 : ∀ j, j < nd → I (t + 7 + j) 2 = T 3 j) (r4 : ∀ j, j < 13 → I (t + 2) j = T 4 j) (r5 : ∀ j, j < 13 → I (t + 3) j = T 5 j) (r6 : ∀ j, j < ng → I (t + 5) j = T 6 j) (r7 : ∀ j, j < ng → I (t + 6) j = T 7 j) (r8 : ∀ j, j < 2000 → I (t + 4) j = T 8 j) : xP I t nd ng T := by
  have z : ∀ j, j < 14 → I t (xsl j) = T 0 j := fun j hj => row14 (P := fun j => I t (xsl j) = T 0 j) ⟨a, b⟩ hj
  intro i j hv
  rcases hv with ⟨rfl, hv⟩ | ⟨rfl, hv⟩ | ⟨rfl, hv⟩ | ⟨rfl, hv⟩ | ⟨rfl, hv⟩ | ⟨rfl, hv⟩ | ⟨rfl, hv⟩ | ⟨rfl, hv⟩ | ⟨rfl, hv⟩
  · exact z j hv
  · exact r1 j hv
  · exact r2 j hv
  · exact r3 j hv
  · exact r4 j hv
  · exact r5 j hv
  · exact r6 j hv
  · exact r7 j hv
  · exact r8 j hv
theorem mP.un (h : mP I t nd ng T) : (I t 0 = T 0 0 ∧ I t 13 = T 0 1 ∧ I t 14 = T 0 2 ∧ I t 3 = T 0 3 ∧ I t 4 = T 0 4 ∧ I t 5 = T 0 5 ∧ I t 6 = T 0 6) ∧ (I t 7 = T 0 7 ∧ I t 2 = T 0 8 ∧ I t 8 = T 0 9 ∧ I t 9 = T 0 10 ∧ I t 10 = T 0 11 ∧ I t 11 = T 0 12 ∧ I t 12 = T 0 13) ∧ (∀ j, j < nd → I (t + 1) j = T 1 j) ∧ (∀ j, j < nd → I (t + 2) j = T 2 j) ∧ (∀ j, j < nd → I (t + 3) j = T 3 j) ∧ (∀ j, j < 13 → I (t + 4) j = T 4 j) ∧ (∀ j, j < 13 → I (t + 5) j = T 5 j) ∧ (∀ j, j < ng → I (t + 8) j = T 6 j) ∧ ∀ j, j < ng → I (t + 9) j = T 7 j := by
  have z : ∀ j, j < 14 → I t (msl j) = T 0 j := fun j hj => h 0 j (Or.inl ⟨rfl, hj⟩) (by omega)
  refine ⟨⟨z 0 (by omega), z 1 (by omega), z 2 (by omega), z 3 (by omega), z 4 (by omega), z 5 (by omega), z 6 (by omega)⟩, ⟨z 7 (by omega), z 8 (by omega), z 9 (by omega), z 10 (by omega), z 11 (by omega), z 12 (by omega), z 13 (by omega)⟩, fun j hj => h 1 j ?_ (by omega), fun j hj => h 2 j ?_ (by omega), fun j hj => h 3 j ?_ (by omega), fun j hj => h 4 j ?_ (by omega), fun j hj => h 5 j ?_ (by omega), fun j hj => h 6 j ?_ (by omega), fun j hj => h 7 j ?_ (by omega)⟩ <;> simp [zvl, hj]
theorem mP.mk (a : (I t 0 = T 0 0 ∧ I t 13 = T 0 1 ∧ I t 14 = T 0 2 ∧ I t 3 = T 0 3 ∧ I t 4 = T 0 4 ∧ I t 5 = T 0 5 ∧ I t 6 = T 0 6)) (b : (I t 7 = T 0 7 ∧ I t 2 = T 0 8 ∧ I t 8 = T 0 9 ∧ I t 9 = T 0 10 ∧ I t 10 = T 0 11 ∧ I t 11 = T 0 12 ∧ I t 12 = T 0 13)) (r1 : ∀ j, j < nd → I (t + 1) j = T 1 j) (r2 : ∀ j, j < nd → I (t + 2) j = T 2 j) (r3 : ∀ j, j < nd → I (t + 3) j = T 3 j) (r4 : ∀ j, j < 13 → I (t + 4) j = T 4 j) (r5 : ∀ j, j < 13 → I (t + 5) j = T 5 j) (r6 : ∀ j, j < ng → I (t + 8) j = T 6 j) (r7 : ∀ j, j < ng → I (t + 9) j = T 7 j) : mP I t nd ng T := by
  have z : ∀ j, j < 14 → I t (msl j) = T 0 j := fun j hj => row14 (P := fun j => I t (msl j) = T 0 j) ⟨a, b⟩ hj
  intro i j hv h8
  rcases hv with ⟨rfl, hv⟩ | ⟨rfl, hv⟩ | ⟨rfl, hv⟩ | ⟨rfl, hv⟩ | ⟨rfl, hv⟩ | ⟨rfl, hv⟩ | ⟨rfl, hv⟩ | ⟨rfl, hv⟩ | ⟨rfl, hv⟩
  · exact z j hv
  · exact r1 j hv
  · exact r2 j hv
  · exact r3 j hv
  · exact r4 j hv
  · exact r5 j hv
  · exact r6 j hv
  · exact r7 j hv
  · exact absurd rfl h8
theorem xP.fr {J : Nat → Nat → Int32} (h : xP I t nd ng T) (hn : nd ≤ 16) (hf : ∀ a k, t ≤ a → a < t + 23 → J a k = I a k) : xP J t nd ng T := fun i j hv => by
  rw [← h i j hv]
  have : t ≤ xA t i j ∧ xA t i j < t + 23 := by
    rcases hv with ⟨rfl, hv⟩ | ⟨rfl, hv⟩ | ⟨rfl, hv⟩ | ⟨rfl, hv⟩ | ⟨rfl, hv⟩ | ⟨rfl, hv⟩ | ⟨rfl, hv⟩ | ⟨rfl, hv⟩ | ⟨rfl, hv⟩ <;> simp only [xA] <;> omega
  exact hf _ _ this.1 this.2
theorem mP.fr {J : Nat → Nat → Int32} (h : mP I t nd ng T) (hf : ∀ a k, t ≤ a → a < t + 10 → J a k = I a k) : mP J t nd ng T := fun i j hv h8 => by
  rw [← h i j hv h8]
  have : t ≤ mA t i ∧ mA t i < t + 10 := by
    rcases hv with ⟨rfl, hv⟩ | ⟨rfl, hv⟩ | ⟨rfl, hv⟩ | ⟨rfl, hv⟩ | ⟨rfl, hv⟩ | ⟨rfl, hv⟩ | ⟨rfl, hv⟩ | ⟨rfl, hv⟩ | ⟨rfl, hv⟩ <;> simp only [mA] <;> omega
  exact hf _ _ this.1 this.2
end
